theorem c_X6_cell {l : Launch} {E : x_E} {κ : x_Ka} {X : x_X} {a b c_ d_ : Int}  : x_Pu l yX6_cell cX6_cell 5 (some .int) 0 E κ X [x_rf E 38, vi a, vi b, vi c_, vi d_] (vi (f_cl a b c_ d_)) := by
  refine x_Met.of [(false, x_rf E 38), (false, vi a), (false, vi b), (false, vi c_), (false, vi d_)] [some (x_rf E 38), some (vi a), some (vi b), some (vi c_), some (vi d_)] 0 (by decide) rfl rfl ⟨x_cr E (38), rfl, rfl, rfl, rfl, trivial⟩ rfl rfl ?_
  intro p e s m args below meth c hargs hin B
  refine x_iconst B dX6_cell_0 ?_
  refine x_iload_n B dX6_cell_1 rfl ?_
  refine x_imul B dX6_cell_2 ?_
  refine x_iload_n B dX6_cell_3 rfl ?_
  refine x_iadd B dX6_cell_4 ?_
  refine x_bipush B dX6_cell_5 (by decide) ?_
  refine x_imul B dX6_cell_7 ?_
  refine x_iload_n B dX6_cell_8 rfl ?_
  refine x_iadd B dX6_cell_9 ?_
  refine x_bipush B dX6_cell_10 (by decide) ?_
  refine x_imul B dX6_cell_12 ?_
  refine x_iload B dX6_cell_13 rfl ?_
  refine x_iadd B dX6_cell_15 ?_
  refine x_iret B (fun _ _ h => h) ?_ dX6_cell_16
  exact ⟨rfl, rfl⟩
theorem c_X4_ended_F {l : Launch} {E : x_E} {κ : x_Ka} {X : x_X} {O : Int → Int → Int → Int} {A : Int → Int} {W D : Int → Int → Int → Int → Int → Int → Int} {q : Nat} {t best sum bv : Int} (h : f_H κ X O A) (hI : f_I X W D) (ht : 0 ≤ t ∧ t ≤ 2) (hs : 0 ≤ sum ∧ sum ≤ 40 * t) (hb : 0 ≤ best ∧ best ≤ 40) (hc : best ≠ 0 → t ≠ 2 → x_Met l yX6_begun cX6_begun 4 (some .long) q 0 0 E κ X [x_rf E 38, vi (t + 1), vi (sum + best)] κ (fun v_ Y_ => v_ = some (vl (bv)) ∧ g_fr X Y_ ∧ f_I Y_ W D)) : x_Met l yX4_ended cX4_ended 4 (some .long) (q + 2) 0 0 E κ X [x_rf E 38, vi t, vi best, vi sum] κ (fun v_ Y_ => v_ = some (vl (if best = 0 then A 0 else if t = 2 then A (sum + best) else bv)) ∧ g_fr X Y_ ∧ f_I Y_ W D) := by
  refine x_Met.of [(false, x_rf E 38), (false, vi t), (false, vi best), (false, vi sum)] [some (x_rf E 38), some (vi t), some (vi best), some (vi sum)] 0 (by decide) rfl rfl ⟨x_cr E (38), rfl, rfl, rfl, trivial⟩ rfl rfl ?_
  intro p e s m args below meth c hargs hin B
  obtain ⟨⟨hT, h0, hL, hw, hti, hpl, hA⟩, h88, hO⟩ := id h
  have hk := h.1.k38
  refine x_iload_n B dX4_ended_0 rfl ?_
  refine x_if_ne B (tgt := 15) dX4_ended_1 (by decide) ⟨by omega, by omega⟩ (fun h_1 => ?_) (fun h_1 => ?_)
  · refine x_iload_n B dX4_ended_15 rfl ?_
    refine x_iconst B dX4_ended_16 ?_
    refine x_icmp_ne B (tgt := 35) dX4_ended_17 (by decide) ⟨by omega, by omega⟩ ⟨by omega, by omega⟩ (fun h_17 => ?_) (fun h_17 => ?_)
    · refine x_aload_n B dX4_ended_35 rfl ?_
      refine x_iload_n B dX4_ended_36 rfl ?_
      refine x_iconst B dX4_ended_37 ?_
      refine x_iadd B dX4_ended_38 ?_
      refine x_iload_n B dX4_ended_39 rfl ?_
      refine x_iload_n B dX4_ended_40 rfl ?_
      refine x_iadd B dX4_ended_41 ?_
      refine x_go (x_rA B (n := 2) (x_rcK B hk (show x_cl[5]? = some _ from rfl)) (hc (by omega) (by omega) ) (lw_U q1014 q1016 q1017 q1018 q118 q1019) q1015 (by decide +kernel) ⟨(by show _ ≤ (q + 2) + 1; omega), (by show _ ≤ 64 * ((q + 2) + 1); omega)⟩ ⟨Nat.le_refl _, Nat.le_refl _⟩ rfl rfl (by simp [x_cr, x_c1, x_c2]) dX4_ended_42) (fun v_42 X_42 p_42 => ?_)
      obtain ⟨rfl, hg, hJ⟩ := p_42
      refine x_lret B (fun _ _ h => h) ?_ dX4_ended_45
      first
      | exact ⟨by rw [if_neg (by omega), if_pos (by omega)], g_fr.rf X, hI⟩
      | exact ⟨by rw [if_neg (by omega), if_neg (by omega)], hg, hJ⟩
    · refine x_aload_n B dX4_ended_20 rfl ?_
      refine x_getR B (k := 1) 1 rfl rfl xc_5 (by decide) hk (Or.inl q279) (fun _ h => h) dX4_ended_21 (?_)
      refine x_iload_n B dX4_ended_24 rfl ?_
      refine x_iload_n B dX4_ended_25 rfl ?_
      refine x_iadd B dX4_ended_26 ?_
      refine x_aim B q974 hA (by omega) (by omega) ⟨by show _ ≤ q + 2 + 1; omega, by show _ ≤ 64 * (q + 2 + 1); omega⟩ ⟨Nat.le_refl _, Nat.le_refl _⟩ (by simp [x_cr, x_c1, x_c2]) dX4_ended_27 ?_
      refine x_goto B (tgt := 45) dX4_ended_32 (by decide) ?_
      refine x_lret B (fun _ _ h => h) ?_ dX4_ended_45
      first
      | exact ⟨by rw [if_neg (by omega), if_pos (by omega)], g_fr.rf X, hI⟩
      | exact ⟨by rw [if_neg (by omega), if_neg (by omega)], hg, hJ⟩
  · refine x_aload_n B dX4_ended_4 rfl ?_
    refine x_getR B (k := 1) 1 rfl rfl xc_5 (by decide) hk (Or.inl q279) (fun _ h => h) dX4_ended_5 (?_)
    refine x_iconst B dX4_ended_8 ?_
    refine x_aim B q974 hA (by omega) (by omega) ⟨by show _ ≤ q + 2 + 1; omega, by show _ ≤ 64 * (q + 2 + 1); omega⟩ ⟨Nat.le_refl _, Nat.le_refl _⟩ (by simp [x_cr, x_c1, x_c2]) dX4_ended_9 ?_
    refine x_lret B (fun _ _ h => h) ?_ dX4_ended_14
    exact ⟨by rw [if_pos (by omega)], g_fr.rf X, hI⟩
theorem c_X4_tried_F {l : Launch} {E : x_E} {κ : x_Ka} {X : x_X} {O : Int → Int → Int → Int} {A : Int → Int} {W D : Int → Int → Int → Int → Int → Int → Int} {q : Nat} {t sum tr fl best load gl fo gv fv : Int} (h : f_H κ X O A) (hI : f_I X W D) (ht : 0 ≤ t ∧ t ≤ 2) (hf : 0 ≤ fl ∧ fl ≤ 3) (hl : 0 ≤ load ∧ load ≤ 40) (hq : 2 ≤ q) (hg : x_Met l yX6_worth cX6_worth 14 (some .long) q 0 0 E κ X [x_rf E 38, vi t, vi sum, vi (tr + 1), vi fl, vi load, vi gl] κ (fun v_ Y_ => v_ = some (vl (gv)) ∧ g_fr X Y_ ∧ f_I Y_ W D)) (hv : ∀ Y, g_fr X Y → f_I Y W D → x_Met l yX6_worth cX6_worth 14 (some .long) q 0 0 E κ Y [x_rf E 38, vi t, vi sum, vi (tr + 1), vi (fl + 1), vi best, vi fo] κ (fun v_ Y_ => v_ = some (vl (fv)) ∧ g_fr Y Y_ ∧ f_I Y_ W D)) (rg : 0 ≤ gv ∧ gv ≤ 1000000) (rv : 0 ≤ fv ∧ fv ≤ 1000000) : x_Met l yX4_tried cX4_tried 11 (some .long) (q + 1) 0 0 E κ X [x_rf E 38, vi t, vi sum, vi tr, vi fl, vi best, vi load, vi gl, vi fo] κ (fun v_ Y_ => v_ = some (vl (p_mix (O t load fl) gv fv)) ∧ g_fr X Y_ ∧ f_I Y_ W D) := by
  refine x_Met.of [(false, x_rf E 38), (false, vi t), (false, vi sum), (false, vi tr), (false, vi fl), (false, vi best), (false, vi load), (false, vi gl), (false, vi fo)] [some (x_rf E 38), some (vi t), some (vi sum), some (vi tr), some (vi fl), some (vi best), some (vi load), some (vi gl), some (vi fo), none, none] 2 (by decide) rfl rfl ⟨x_cr E (38), rfl, rfl, rfl, rfl, rfl, rfl, rfl, rfl, trivial⟩ rfl rfl ?_
  intro p e s m args below meth c hargs hin B
  have hk := h.1.k38
  have hor := h.o.1 t load fl ht.1 ht.2 hf.1
  refine x_aload_n B dX4_tried_0 rfl ?_
  refine x_iload_n B dX4_tried_1 rfl ?_
  refine x_iload_n B dX4_tried_2 rfl ?_
  refine x_iload_n B dX4_tried_3 rfl ?_
  refine x_iconst B dX4_tried_4 ?_
  refine x_iadd B dX4_tried_5 ?_
  refine x_iload B dX4_tried_6 rfl ?_
  refine x_iload B dX4_tried_8 rfl ?_
  refine x_iload B dX4_tried_10 rfl ?_
  refine x_go (x_rA B (n := 6) (x_rcK B hk (show x_cl[5]? = some _ from rfl)) (hg ) (lw_U q1042 q1044 q1045 q1021 q118 q1023) q1043 (by decide +kernel) ⟨(by show _ ≤ (q + 1) + 1; omega), (by show _ ≤ 64 * ((q + 1) + 1); omega)⟩ ⟨Nat.le_refl _, Nat.le_refl _⟩ rfl rfl (by simp [x_cr, x_c1, x_c2]) dX4_tried_12) (fun v_12 X_12 p_12 => ?_)
  obtain ⟨rfl, hg1, hI1⟩ := p_12
  have h1 := h.fr hg1
  obtain ⟨⟨hT, h0, hL, hw, hti, hpl, hA⟩, h88, hO⟩ := id h1
  refine x_lstw_9 B dX4_tried_15 (by first | rfl | exact x_cr _ _) ?_
  refine x_aload_n B dX4_tried_17 rfl ?_
  refine x_getC0 B (k := 2) hT rfl rfl xc_5 (by decide) hk (Or.inl q280) (fun _ h => h) dX4_tried_18 (fun k_18 => ?_)
  refine x_aload_n B dX4_tried_21 rfl ?_
  refine x_getR B (k := 0) 0 rfl rfl xc_5 (by decide) hk (Or.inl q276) (fun _ h => h) dX4_tried_22 (?_)
  refine x_iload_n B dX4_tried_25 rfl ?_
  refine x_iload B dX4_tried_26 rfl ?_
  refine x_iload B dX4_tried_28 rfl ?_
  refine x_goP (x_rVN B k_18 (show x_cl[0]? = some _ from rfl) (c_X1_oddsOf hT h0 hL hw ⟨by omega, by omega⟩ ⟨by omega, by omega⟩ ⟨by omega, by omega⟩ hti) q1058 q766 qs14 q110 q767 hd_X1_oddsOf ⟨(by show _ ≤ (q + 1) + 1; omega), (by show _ ≤ 64 * ((q + 1) + 1); omega)⟩ ⟨Nat.le_refl _, Nat.le_refl _⟩ rfl rfl (by simp [x_cr, x_c1, x_c2]) dX4_tried_30) ?_
  rw [hO t load fl ht.1 ht.2]
  refine x_lload B dX4_tried_33 rfl ?_
  refine x_aload_n B dX4_tried_35 rfl ?_
  refine x_iload_n B dX4_tried_36 rfl ?_
  refine x_iload_n B dX4_tried_37 rfl ?_
  refine x_iload_n B dX4_tried_38 rfl ?_
  refine x_iconst B dX4_tried_39 ?_
  refine x_iadd B dX4_tried_40 ?_
  refine x_iload B dX4_tried_41 rfl ?_
  refine x_iconst B dX4_tried_43 ?_
  refine x_iadd B dX4_tried_44 ?_
  refine x_iload B dX4_tried_45 rfl ?_
  refine x_iload B dX4_tried_47 rfl ?_
  refine x_go (x_rA B (n := 6) (x_rcK B hk (show x_cl[5]? = some _ from rfl)) ((hv X_12 hg1 hI1) ) (lw_U q1042 q1044 q1045 q1021 q118 q1023) q1043 (by decide +kernel) ⟨(by show _ ≤ (q + 1) + 1; omega), (by show _ ≤ 64 * ((q + 1) + 1); omega)⟩ ⟨Nat.le_refl _, Nat.le_refl _⟩ rfl rfl (by simp [x_cr, x_c1, x_c2]) dX4_tried_49) (fun v_49 X_49 p_49 => ?_)
  obtain ⟨rfl, hg2, hI2⟩ := p_49
  refine x_goP (x_rSN B (c_X1_mixed ⟨by omega, by omega⟩ ⟨by omega, by omega⟩ ⟨by omega, by omega⟩) q1059 q1060 q110 q1061 hd_X1_mixed ⟨(by show _ ≤ (q + 1) + 1; omega), (by show _ ≤ 64 * ((q + 1) + 1); omega)⟩ ⟨Nat.le_refl _, Nat.le_refl _⟩ rfl rfl (by simp [x_cr, x_c1, x_c2]) dX4_tried_52) ?_
  refine x_lret B (fun _ _ h => h) ?_ dX4_tried_55
  exact ⟨rfl, hg1.trans hg2, hI2⟩
theorem c_X6_worth {l : Launch} {E : x_E} {κ : x_Ka} {X : x_X} {O : Int → Int → Int → Int} {A : Int → Int} {W D : Int → Int → Int → Int → Int → Int → Int} {V : Int → Int} {q q2 : Nat} {t sum tr fl best least ev : Int} (h : f_H κ X O A) (hI : f_I X W D) (ht : 0 ≤ t ∧ t ≤ 2) (hs : 0 ≤ sum ∧ sum ≤ 40 * t) (hb : 0 ≤ best ∧ best ≤ 40) (h3 : 0 ≤ tr ∧ tr ≤ 3) (hf : 0 ≤ fl ∧ fl ≤ tr) (hl : 1 ≤ least ∧ least ≤ 41) (hq : 1 ≤ q ∧ q2 ≤ q) (he : (tr = 3 ∨ least > 40) → x_Met l yX4_ended cX4_ended 4 (some .long) q 0 0 E κ X [x_rf E 38, vi t, vi best, vi sum] κ (fun v_ Y_ => v_ = some (vl (ev)) ∧ g_fr X Y_ ∧ f_I Y_ W D)) (hc : ¬ (tr = 3 ∨ least > 40) → ∀ Y x, g_fr X Y → f_I Y W D → least ≤ x → x ≤ 40 → x_Met l yX4_tried cX4_tried 11 (some .long) q2 0 0 E κ Y [x_rf E 38, vi t, vi sum, vi tr, vi fl, vi best, vi x, vi (x + 1), vi x] κ (fun v_ Y_ => v_ = some (vl (V x)) ∧ g_fr Y Y_ ∧ f_I Y_ W D)) (hV : ∀ y, least ≤ y → y ≤ 40 → 0 ≤ V y ∧ V y ≤ 1000000) (eW : ¬ (tr = 3 ∨ least > 40) → W t sum tr fl best least = (f_mx V least).1 ∧ D t sum tr fl best least = (f_mx V least).2) : x_Met l yX6_worth cX6_worth 14 (some .long) (q + 1) 0 0 E κ X [x_rf E 38, vi t, vi sum, vi tr, vi fl, vi best, vi least] κ (fun v_ Y_ => v_ = some (vl (if (tr = 3 ∨ least > 40) then ev else (f_mx V least).1)) ∧ g_fr X Y_ ∧ f_I Y_ W D ∧ (¬ (tr = 3 ∨ least > 40) → Y_ (38 + 11 + 1 + 1 * t) (f_cl tr fl best least) = X 38 8 + sum)) := by
  refine x_Met.of [(false, x_rf E 38), (false, vi t), (false, vi sum), (false, vi tr), (false, vi fl), (false, vi best), (false, vi least)] [some (x_rf E 38), some (vi t), some (vi sum), some (vi tr), some (vi fl), some (vi best), some (vi least), none, none, none, none, none, none, none] 7 (by decide) rfl rfl ⟨x_cr E (38), rfl, rfl, rfl, rfl, rfl, rfl, trivial⟩ rfl rfl ?_
  intro p e s m args below meth c hargs hin B
  obtain ⟨⟨hT, h0, hL, hw, hti, hpl, hA⟩, h88, hO⟩ := id h
  have hk := h.1.k38
  have hbd := hI.1 t ht.1 ht.2
  have lp_74 : ∀ (n : Nat) (x most a_ : Int) (Y : x_X), (¬ (tr = 3 ∨ least > 40) ∧ (least ≤ x ∧ x ≤ 41) ∧ (-1 ≤ most ∧ most ≤ 1000000) ∧ (0 ≤ a_ ∧ a_ ≤ 40) ∧ g_fr X Y ∧ f_I Y W D ∧ f_mx V least = f_sc V (41 - x).toNat x most a_) → ((42 - x).toNat < n) → x_G p l e (x_rm (q + 1) 0 0) s m args below meth c 14 E 0 0 (MQ below (x_Q E κ (fun v_ Y_ => v_ = some (vl (if (tr = 3 ∨ least > 40) then ev else (f_mx V least).1)) ∧ g_fr X Y_ ∧ f_I Y_ W D ∧ (¬ (tr = 3 ∨ least > 40) → Y_ (38 + 11 + 1 + 1 * t) (f_cl tr fl best least) = X 38 8 + sum))) args s 0 0 (fun q => E.1 ≤ q)) κ 74 [some (x_rf E 38), some (vi t), some (vi sum), some (vi tr), some (vi fl), some (vi best), some (vi least), some (vi (f_cl tr fl best least)), some (vl most), none, some (vi a_), some (vi x), none, none] [] Y := by
    intro n
    induction n with
    | zero => intro x most a_ Y hinv hme; exfalso; omega
    | succ n ih =>
      intro x most a_ Y hinv hme
      obtain ⟨hn, hx, hm, ha, hg, hJ, he2⟩ := hinv
      have hclr := f_cl_r (tr := tr) (fl := fl) (best := best) (least := least) (by omega) (by omega) (by omega) (by omega)
      have e38 := hg.e38
      have h1 := h.fr hg
      refine x_iload B dX6_worth_74 rfl ?_
      refine x_bipush B dX6_worth_76 (by decide) ?_
      refine x_icmp_gt B (tgt := 137) dX6_worth_78 (by decide) ⟨by omega, by omega⟩ ⟨by omega, by omega⟩ (fun h_78 => ?_) (fun h_78 => ?_)
      · have hxe : (41 - x).toNat = 0 := by omega
        rw [hxe] at he2
        unfold f_sc at he2
        have hew := eW hn
        rw [he2] at hew
        refine x_aload_n B dX6_worth_137 rfl ?_
        refine x_getC1 B (k := 7) hT rfl rfl xc_5 (by decide) hk (Or.inl q307) (fun _ h => h) dX6_worth_138 (fun k_138 => ?_)
        refine x_iload_n B dX6_worth_141 rfl ?_
        refine x_aaldC B (t := 13) hT k_138 rfl rfl rfl rfl ⟨by omega, by omega⟩ dX6_worth_142 (fun k_142 => ?_)
        refine x_iload B dX6_worth_143 rfl ?_
        refine x_aload_n B dX6_worth_145 rfl ?_
        refine x_getI B (k := 8) 8 rfl rfl xc_5 (by decide) hk (Or.inl q308) (fun _ h => h) dX6_worth_146 (fun r_146 => ?_)
        refine x_iload_n B dX6_worth_149 rfl ?_
        refine x_iadd B dX6_worth_150 ?_
        refine x_iast B k_142 ⟨by omega, by omega⟩ ⟨by rw [e38]; omega, by rw [e38]; omega⟩ dX6_worth_151 ?_
        refine x_aload_n B dX6_worth_152 rfl ?_
        refine x_getC1 B (k := 5) hT rfl rfl xc_5 (by decide) hk (Or.inl q305) (fun _ h => h) dX6_worth_153 (fun k_153 => ?_)
        refine x_iload_n B dX6_worth_156 rfl ?_
        refine x_aaldC B (t := 12) hT k_153 rfl rfl rfl rfl ⟨by omega, by omega⟩ dX6_worth_157 (fun k_157 => ?_)
        refine x_iload B dX6_worth_158 rfl ?_
        refine x_lload B dX6_worth_160 rfl ?_
        refine x_last B k_157 ⟨by omega, by omega⟩ ⟨by omega, by omega⟩ dX6_worth_162 ?_
        refine x_aload_n B dX6_worth_163 rfl ?_
        refine x_getC1 B (k := 6) hT rfl rfl xc_5 (by decide) hk (Or.inl q306) (fun _ h => h) dX6_worth_164 (fun k_164 => ?_)
        refine x_iload_n B dX6_worth_167 rfl ?_
        refine x_aaldC B (t := 13) hT k_164 rfl rfl rfl rfl ⟨by omega, by omega⟩ dX6_worth_168 (fun k_168 => ?_)
        refine x_iload B dX6_worth_169 rfl ?_
        refine x_iload B dX6_worth_171 rfl ?_
        refine x_iast B k_168 ⟨by omega, by omega⟩ ⟨by omega, by omega⟩ dX6_worth_173 ?_
        refine x_lload B dX6_worth_174 rfl ?_
        refine x_lret B (fun _ _ h => h) ?_ dX6_worth_176
        have e8 : x_up (x_up (x_up Y (38 + 11 + 1 + 1 * t) (f_cl tr fl best least) (Y 38 8 + sum)) (38 + 3 + 1 + 1 * t) (f_cl tr fl best least) most) (38 + 7 + 1 + 1 * t) (f_cl tr fl best least) a_ (38 + 11 + 1 + 1 * t) (f_cl tr fl best least) = X 38 8 + sum := by rw [x_up_o _ (by omega), x_up_o _ (by omega), x_up_s, e38]
        exact ⟨by rw [if_neg hn, he2], ((hg.up (by omega)).up (by omega)).up (by omega), hJ.put ht hs (by omega) hf hb (by omega) hew.1 hew.2, fun _ => e8⟩
      · refine x_aload_n B dX6_worth_81 rfl ?_
        refine x_iload_n B dX6_worth_82 rfl ?_
        refine x_iload_n B dX6_worth_83 rfl ?_
        refine x_iload_n B dX6_worth_84 rfl ?_
        refine x_iload B dX6_worth_85 rfl ?_
        refine x_iload B dX6_worth_87 rfl ?_
        refine x_iload B dX6_worth_89 rfl ?_
        refine x_getG B q1033 dX6_worth_91 ?_
        refine x_iload B dX6_worth_94 rfl ?_
        refine x_goP (x_rAN B (n := 1) (x_rcG B) (c_X18_least ) q1034 q868 q869 q870 q871 q867 (by decide +kernel) ⟨(by show _ ≤ (q + 1) + 1; omega), (by show _ ≤ 64 * ((q + 1) + 1); omega)⟩ ⟨Nat.le_refl _, Nat.le_refl _⟩ rfl rfl (by simp [x_cr, x_c1, x_c2]) dX6_worth_96) ?_
        refine x_getFd B q1035 dX6_worth_99 ?_
        refine x_iload B dX6_worth_102 rfl ?_
        refine x_goP (x_rAN B (n := 1) (x_rcF B) (c_X19_least ) q1034 q868 q872 q873 q874 q867 (by decide +kernel) ⟨(by show _ ≤ (q + 1) + 1; omega), (by show _ ≤ 64 * ((q + 1) + 1); omega)⟩ ⟨Nat.le_refl _, Nat.le_refl _⟩ rfl rfl (by simp [x_cr, x_c1, x_c2]) dX6_worth_104) ?_
        refine x_go (x_rU B (n := 8) (x_rcK B hk (show x_cl[5]? = some _ from rfl)) ((hc hn Y x hg hJ (by omega) (by omega)) ) (lw_U q1036 q1037 q1039 q1040 q116 q1041) rfl (by decide +kernel) ⟨(by show _ ≤ (q + 1) + 1; omega), (by show _ ≤ 64 * ((q + 1) + 1); omega)⟩ ⟨Nat.le_refl _, Nat.le_refl _⟩ rfl rfl (by simp [x_cr, x_c1, x_c2]) dX6_worth_107) (fun v_107 X_107 p_107 => ?_)
        obtain ⟨rfl, hg2, hI2⟩ := p_107
        have hVx := hV x (by omega) (by omega)
        refine x_lstw_12 B dX6_worth_110 (by first | rfl | exact x_cr _ _) ?_
        refine x_lload B dX6_worth_112 rfl ?_
        refine x_lload B dX6_worth_114 rfl ?_
        refine x_lcmp B dX6_worth_116 ⟨by omega, by omega⟩ ⟨by omega, by omega⟩ ?_
        have hcp := x_cmp_r (V x) most
        refine x_if_gt B (tgt := 123) dX6_worth_117 (by decide) ⟨by omega, by omega⟩ (fun h_117 => ?_) (fun h_117 => ?_)
        · refine x_lload B dX6_worth_123 rfl ?_
          refine x_lstw_8 B dX6_worth_125 (by first | rfl | exact x_cr _ _) ?_
          refine x_iload B dX6_worth_127 rfl ?_
          refine x_istw_10 B dX6_worth_129 (by first | rfl | exact x_cr _ _) ?_
          refine x_iinc_11 B dX6_worth_131 (by first | rfl | exact x_cr _ _) ?_
          refine x_goto B (tgt := 74) dX6_worth_134 (by decide) ?_
          refine x_fg_12 ?_
          have hs1 : (41 - x).toNat = (41 - (x + 1)).toNat + 1 := by omega
          rw [hs1] at he2
          unfold f_sc at he2
          first
          | (refine ih _ _ _ _ ⟨hn, ⟨by omega, by omega⟩, ⟨by omega, by omega⟩, ⟨by omega, by omega⟩, hg.trans hg2, hI2, ?_⟩ (by omega); rw [he2, if_pos (x_cmp_gt h_117)])
          | (refine ih _ _ _ _ ⟨hn, ⟨by omega, by omega⟩, ⟨by omega, by omega⟩, ⟨by omega, by omega⟩, hg.trans hg2, hI2, ?_⟩ (by omega); rw [he2, if_neg (by have := x_cmp_le h_117; omega)])
        · refine x_goto B (tgt := 131) dX6_worth_120 (by decide) ?_
          refine x_iinc_11 B dX6_worth_131 (by first | rfl | exact x_cr _ _) ?_
          refine x_goto B (tgt := 74) dX6_worth_134 (by decide) ?_
          refine x_fg_12 ?_
          have hs1 : (41 - x).toNat = (41 - (x + 1)).toNat + 1 := by omega
          rw [hs1] at he2
          unfold f_sc at he2
          first
          | (refine ih _ _ _ _ ⟨hn, ⟨by omega, by omega⟩, ⟨by omega, by omega⟩, ⟨by omega, by omega⟩, hg.trans hg2, hI2, ?_⟩ (by omega); rw [he2, if_pos (x_cmp_gt h_117)])
          | (refine ih _ _ _ _ ⟨hn, ⟨by omega, by omega⟩, ⟨by omega, by omega⟩, ⟨by omega, by omega⟩, hg.trans hg2, hI2, ?_⟩ (by omega); rw [he2, if_neg (by have := x_cmp_le h_117; omega)])
  refine x_iload_n B dX6_worth_0 rfl ?_
  refine x_iconst B dX6_worth_1 ?_
  refine x_icmp_eq B (tgt := 12) dX6_worth_2 (by decide) ⟨by omega, by omega⟩ ⟨by omega, by omega⟩ (fun h_2 => ?_) (fun h_2 => ?_)
  · refine x_aload_n B dX6_worth_12 rfl ?_
    refine x_iload_n B dX6_worth_13 rfl ?_
    refine x_iload B dX6_worth_14 rfl ?_
    refine x_iload_n B dX6_worth_16 rfl ?_
    refine x_go (x_rU B (n := 3) (x_rcK B hk (show x_cl[5]? = some _ from rfl)) ((he (by omega)) ) (lw_U q1024 q1025 q1027 q1009 q116 q1013) rfl (by decide +kernel) ⟨(by show _ ≤ (q + 1) + 1; omega), (by show _ ≤ 64 * ((q + 1) + 1); omega)⟩ ⟨Nat.le_refl _, Nat.le_refl _⟩ rfl rfl (by simp [x_cr, x_c1, x_c2]) dX6_worth_17) (fun v_17 X_17 p_17 => ?_)
    obtain ⟨rfl, hg, hJ⟩ := p_17
    refine x_lret B (fun _ _ h => h) ?_ dX6_worth_20
    exact ⟨by rw [if_pos (by omega)], hg, hJ, fun q => absurd (by omega) q⟩
  · refine x_iload B dX6_worth_5 rfl ?_
    refine x_bipush B dX6_worth_7 (by decide) ?_
    refine x_icmp_le B (tgt := 21) dX6_worth_9 (by decide) ⟨by omega, by omega⟩ ⟨by omega, by omega⟩ (fun h_9 => ?_) (fun h_9 => ?_)
    · refine x_aload_n B dX6_worth_21 rfl ?_
      refine x_iload_n B dX6_worth_22 rfl ?_
      refine x_iload B dX6_worth_23 rfl ?_
      refine x_iload B dX6_worth_25 rfl ?_
      refine x_iload B dX6_worth_27 rfl ?_
      refine x_goP (x_rV B hk (show x_cl[5]? = some _ from rfl) (c_X6_cell ) (lw_V q1028 q1030 qs21 q118 q1031) hv_X6_cell ⟨(by show _ ≤ (q + 1) + 1; omega), (by show _ ≤ 64 * ((q + 1) + 1); omega)⟩ ⟨Nat.le_refl _, Nat.le_refl _⟩ rfl rfl (by simp [x_cr, x_c1, x_c2]) dX6_worth_29) ?_
      refine x_istw_7 B dX6_worth_32 (by first | rfl | exact x_cr _ _) ?_
      refine x_aload_n B dX6_worth_34 rfl ?_
      refine x_getC1 B (k := 7) hT rfl rfl xc_5 (by decide) hk (Or.inl q307) (fun _ h => h) dX6_worth_35 (fun k_35 => ?_)
      refine x_iload_n B dX6_worth_38 rfl ?_
      refine x_aaldC B (t := 13) hT k_35 rfl rfl rfl rfl ⟨by omega, by omega⟩ dX6_worth_39 (fun k_39 => ?_)
      refine x_iload B dX6_worth_40 rfl ?_
      have hclr := f_cl_r (tr := tr) (fl := fl) (best := best) (least := least) (by omega) (by omega) (by omega) (by omega)
      refine x_iald B k_39 ⟨by omega, by omega⟩ dX6_worth_42 (fun r_42 => ?_)
      refine x_aload_n B dX6_worth_43 rfl ?_
      refine x_getI B (k := 8) 8 rfl rfl xc_5 (by decide) hk (Or.inl q308) (fun _ h => h) dX6_worth_44 (fun r_44 => ?_)
      refine x_iload_n B dX6_worth_47 rfl ?_
      refine x_iadd B dX6_worth_48 ?_
      refine x_icmp_ne B (tgt := 62) dX6_worth_49 (by decide) ⟨by omega, by omega⟩ ⟨by omega, by omega⟩ (fun h_49 => ?_) (fun h_49 => ?_)
      · refine x_ldc2 B (-1) q1032 (by decide) dX6_worth_62 ?_
        refine x_lstw_8 B dX6_worth_65 (by first | rfl | exact x_cr _ _) ?_
        refine x_iconst B dX6_worth_67 ?_
        refine x_istw_10 B dX6_worth_68 (by first | rfl | exact x_cr _ _) ?_
        refine x_iload B dX6_worth_70 rfl ?_
        refine x_istw_11 B dX6_worth_72 (by first | rfl | exact x_cr _ _) ?_
        refine lp_74 _ _ _ _ _ ⟨by omega, ⟨by omega, by omega⟩, ⟨by omega, by omega⟩, ⟨by omega, by omega⟩, g_fr.rf X, hI, rfl⟩ (Nat.lt_succ_self _)
      · refine x_aload_n B dX6_worth_52 rfl ?_
        refine x_getC1 B (k := 5) hT rfl rfl xc_5 (by decide) hk (Or.inl q305) (fun _ h => h) dX6_worth_53 (fun k_53 => ?_)
        refine x_iload_n B dX6_worth_56 rfl ?_
        refine x_aaldC B (t := 12) hT k_53 rfl rfl rfl rfl ⟨by omega, by omega⟩ dX6_worth_57 (fun k_57 => ?_)
        refine x_iload B dX6_worth_58 rfl ?_
        have hclr := f_cl_r (tr := tr) (fl := fl) (best := best) (least := least) (by omega) (by omega) (by omega) (by omega)
        refine x_lald B k_57 ⟨by omega, by omega⟩ dX6_worth_60 (fun r_60 => ?_)
        have hm2 := hI.2.1 t sum tr fl best least ht hs (by omega) hf hb (by omega) h_49
        refine x_lret B (fun _ _ h => h) ?_ dX6_worth_61
        exact ⟨by rw [if_neg (by omega), hm2.1, (eW (by omega)).1], g_fr.rf X, hI, fun _ => h_49⟩
    · refine x_aload_n B dX6_worth_12 rfl ?_
      refine x_iload_n B dX6_worth_13 rfl ?_
      refine x_iload B dX6_worth_14 rfl ?_
      refine x_iload_n B dX6_worth_16 rfl ?_
      refine x_go (x_rU B (n := 3) (x_rcK B hk (show x_cl[5]? = some _ from rfl)) ((he (by omega)) ) (lw_U q1024 q1025 q1027 q1009 q116 q1013) rfl (by decide +kernel) ⟨(by show _ ≤ (q + 1) + 1; omega), (by show _ ≤ 64 * ((q + 1) + 1); omega)⟩ ⟨Nat.le_refl _, Nat.le_refl _⟩ rfl rfl (by simp [x_cr, x_c1, x_c2]) dX6_worth_17) (fun v_17 X_17 p_17 => ?_)
      obtain ⟨rfl, hg, hJ⟩ := p_17
      refine x_lret B (fun _ _ h => h) ?_ dX6_worth_20
      exact ⟨by rw [if_pos (by omega)], hg, hJ, fun q => absurd (by omega) q⟩
theorem c_X6_begun {l : Launch} {E : x_E} {κ : x_Ka} {X : x_X} {O : Int → Int → Int → Int} {A : Int → Int} {W D : Int → Int → Int → Int → Int → Int → Int} {q : Nat} {t sum : Int} (h : f_H κ X O A) (hI : f_I X W D) (ht : 0 ≤ t ∧ t ≤ 2) (hs : 0 ≤ sum ∧ sum ≤ 40 * t) (hc : x_Met l yX6_worth cX6_worth 14 (some .long) q 0 0 E κ X [x_rf E 38, vi t, vi sum, vi 0, vi 0, vi 0, vi 1] κ (fun v_ Y_ => v_ = some (vl (W t sum 0 0 0 1)) ∧ g_fr X Y_ ∧ f_I Y_ W D)) (hw : 0 ≤ W t sum 0 0 0 1 ∧ W t sum 0 0 0 1 ≤ 1000000) : x_Met l yX6_begun cX6_begun 4 (some .long) (q + 1) 0 0 E κ X [x_rf E 38, vi t, vi sum] κ (fun v_ Y_ => v_ = some (vl (W t sum 0 0 0 1)) ∧ g_fr X Y_ ∧ f_I Y_ W D) := by
  refine x_Met.of [(false, x_rf E 38), (false, vi t), (false, vi sum)] [some (x_rf E 38), some (vi t), some (vi sum), none] 1 (by decide) rfl rfl ⟨x_cr E (38), rfl, rfl, trivial⟩ rfl rfl ?_
  intro p e s m args below meth c hargs hin B
  obtain ⟨⟨hT, h0, hL, hwf, hti, hpl, hA⟩, h88, hO⟩ := id h
  have hk := h.1.k38
  refine x_bipush B dX6_begun_0 (by decide) ?_
  refine x_iload_n B dX6_begun_2 rfl ?_
  refine x_imul B dX6_begun_3 ?_
  refine x_iload_n B dX6_begun_4 rfl ?_
  refine x_iadd B dX6_begun_5 ?_
  refine x_ist_3 B dX6_begun_6 (by first | rfl | exact x_cr _ _) ?_
  refine x_aload_n B dX6_begun_7 rfl ?_
  refine x_getC1 B (k := 4) hT rfl rfl xc_5 (by decide) hk (Or.inl q304) (fun _ h => h) dX6_begun_8 (fun k_8 => ?_)
  refine x_iload_n B dX6_begun_11 rfl ?_
  refine x_zald B k_8 ⟨by omega, by omega⟩ dX6_begun_12 (fun r_12 => ?_)
  refine x_if_ne B (tgt := 39) dX6_begun_13 (by decide) ⟨by omega, by omega⟩ (fun h_13 => ?_) (fun h_13 => ?_)
  · refine x_aload_n B dX6_begun_39 rfl ?_
    refine x_getC1 B (k := 3) hT rfl rfl xc_5 (by decide) hk (Or.inl q303) (fun _ h => h) dX6_begun_40 (fun k_40 => ?_)
    refine x_iload_n B dX6_begun_43 rfl ?_
    refine x_lald B k_40 ⟨by omega, by omega⟩ dX6_begun_44 (fun r_44 => ?_)
    first | rw [x_up_o _ (by omega), x_up_s] | skip
    refine x_lret B (fun _ _ h => h) ?_ dX6_begun_45
    first
    | exact ⟨rfl, (hg.up (by omega)).up (by omega), hJ.putb ht hs rfl⟩
    | exact ⟨by rw [hI.2.2 t sum ht hs (by omega)], g_fr.rf X, hI⟩
  · refine x_aload_n B dX6_begun_16 rfl ?_
    refine x_getC1 B (k := 3) hT rfl rfl xc_5 (by decide) hk (Or.inl q303) (fun _ h => h) dX6_begun_17 (fun k_17 => ?_)
    refine x_iload_n B dX6_begun_20 rfl ?_
    refine x_aload_n B dX6_begun_21 rfl ?_
    refine x_iload_n B dX6_begun_22 rfl ?_
    refine x_iload_n B dX6_begun_23 rfl ?_
    refine x_iconst B dX6_begun_24 ?_
    refine x_iconst B dX6_begun_25 ?_
    refine x_iconst B dX6_begun_26 ?_
    refine x_iconst B dX6_begun_27 ?_
    refine x_go (x_rV B hk (show x_cl[5]? = some _ from rfl) (hc ) (lw_V q1020 q1021 q1022 q118 q1023) hv_X6_worth ⟨(by show _ ≤ (q + 1) + 1; omega), (by show _ ≤ 64 * ((q + 1) + 1); omega)⟩ ⟨Nat.le_refl _, Nat.le_refl _⟩ rfl rfl (by simp [x_cr, x_c1, x_c2]) dX6_begun_28) (fun v_28 X_28 p_28 => ?_)
    obtain ⟨rfl, hg, hJ⟩ := p_28
    refine x_last B k_17 ⟨by omega, by omega⟩ ⟨by omega, by omega⟩ dX6_begun_31 ?_
    refine x_aload_n B dX6_begun_32 rfl ?_
    refine x_getC1 B (k := 4) hT rfl rfl xc_5 (by decide) hk (Or.inl q304) (fun _ h => h) dX6_begun_33 (fun k_33 => ?_)
    refine x_iload_n B dX6_begun_36 rfl ?_
    refine x_iconst B dX6_begun_37 ?_
    refine x_zast B k_33 ⟨by omega, by omega⟩ ⟨by omega, by omega⟩ dX6_begun_38 ?_
    refine x_aload_n B dX6_begun_39 rfl ?_
    refine x_getC1 B (k := 3) hT rfl rfl xc_5 (by decide) hk (Or.inl q303) (fun _ h => h) dX6_begun_40 (fun k_40 => ?_)
    refine x_iload_n B dX6_begun_43 rfl ?_
    refine x_lald B k_40 ⟨by omega, by omega⟩ dX6_begun_44 (fun r_44 => ?_)
    first | rw [x_up_o _ (by omega), x_up_s] | skip
    refine x_lret B (fun _ _ h => h) ?_ dX6_begun_45
    first
    | exact ⟨rfl, (hg.up (by omega)).up (by omega), hJ.putb ht hs rfl⟩
    | exact ⟨by rw [hI.2.2 t sum ht hs (by omega)], g_fr.rf X, hI⟩
