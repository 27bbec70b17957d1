theorem c_J10_ordinal {l : Launch} {E : x_E} {κ : x_Ka} {X : x_X} {z : Int} (hz : z = -2 ∨ z = -3) : x_Pu l yJ10_ordinal cJ10_ordinal 1 (some .int) 0 E κ X [x_rf E z] (vi (-2 - z)) := by
  refine x_Met.of [(false, x_rf E z)] [some (x_rf E z)] 0 (by decide) rfl rfl ⟨x_cr E (z), trivial⟩ rfl rfl ?_
  intro p e s m args below meth c hargs hin B
  refine x_aload_n B dJ10_ordinal_0 rfl ?_
  refine x_getOr B hz q1964 dJ10_ordinal_1 ?_
  refine x_iret B (fun _ _ h => h) ?_ dJ10_ordinal_4
  exact ⟨rfl, rfl⟩
theorem c_X13_failed {l : Launch} {E : x_E} {κ : x_Ka} {X : x_X} {z : Int} (hz : z = -2 ∨ z = -3) : x_Pu l yX13_failed cX13_failed 1 (some .int) 1 E κ X [x_rf E z] (vi (-2 - z)) := by
  refine x_Met.of [(false, x_rf E z)] [some (x_rf E z)] 0 (by decide) rfl rfl ⟨x_cr E (z), trivial⟩ rfl rfl ?_
  intro p e s m args below meth c hargs hin B
  rcases hz with rfl | rfl
  · refine x_aload_n B dX13_failed_0 rfl ?_
    refine x_goP (x_rU B (n := 0) (x_rcG B) (c_J10_ordinal (Or.inl rfl)) (lw_U q881 q882 q884 q886 q133 q887) rfl (by decide +kernel) ⟨by decide, by decide⟩ ⟨by decide, by decide⟩ rfl rfl (by simp [x_cr, x_c1, x_c2]) dX13_failed_1) ?_
    refine x_iret B (fun _ _ h => h) ?_ dX13_failed_4
    exact ⟨rfl, rfl⟩
  · refine x_aload_n B dX13_failed_0 rfl ?_
    refine x_goP (x_rU B (n := 0) (x_rcF B) (c_J10_ordinal (Or.inr rfl)) (lw_U q881 q882 q885 q886 q133 q887) rfl (by decide +kernel) ⟨by decide, by decide⟩ ⟨by decide, by decide⟩ rfl rfl (by simp [x_cr, x_c1, x_c2]) dX13_failed_1) ?_
    refine x_iret B (fun _ _ h => h) ?_ dX13_failed_4
    exact ⟨rfl, rfl⟩
theorem c_X13_of {l : Launch} {E : x_E} {κ : x_Ka} {X : x_X} {z : Int} (hz : 0 ≤ z ∧ z ≤ 1) : x_Pu l yX13_of cX13_of 1 (some (.object "NextLoad$Result")) 0 E κ X [vi z] (x_rf E (z - 3)) := by
  refine x_Met.of [(false, vi z)] [some (vi z)] 0 (by decide) rfl rfl ⟨rfl, trivial⟩ rfl rfl ?_
  intro p e s m args below meth c hargs hin B
  refine x_iload_n B dX13_of_0 rfl ?_
  refine x_if_eq B (tgt := 10) dX13_of_1 (by decide) ⟨by omega, by omega⟩ (fun h_1 => ?_) (fun h_1 => ?_)
  · refine x_getFd B q845 dX13_of_10 ?_
    refine x_aret B (Or.inl ⟨_, rfl⟩) (fun _ _ h => h) ?_ dX13_of_13
    exact ⟨congrArg (fun z => some (x_rf E z)) (by omega), rfl⟩
  · refine x_getG B q843 dX13_of_4 ?_
    refine x_goto B (tgt := 13) dX13_of_7 (by decide) ?_
    refine x_aret B (Or.inl ⟨_, rfl⟩) (fun _ _ h => h) ?_ dX13_of_13
    exact ⟨congrArg (fun z => some (x_rf E z)) (by omega), rfl⟩
theorem c_X18_asks {l : Launch} {E : x_E} {κ : x_Ka} {X : x_X} {z a t x : Int} (hT : x_T κ) (hk : κ a = some (.inl (8, 1))) (ht : 0 ≤ t ∧ t < 3) : x_MetN l yX18_asks cX18_asks 4 (some .int) 0 0 0 E κ X [x_rf E z, x_rf E a, vi t, vi x] κ (fun v_ X_ => v_ = some (vi (x + X (a + 12) t)) ∧ X_ = X) := by
  refine x_MetN.of [(false, x_rf E z), (false, x_rf E a), (false, vi t), (false, vi x)] [some (x_rf E z), some (x_rf E a), some (vi t), some (vi x)] 0 (by decide) rfl rfl ⟨x_cr E (z), x_cr E (a), rfl, rfl, trivial⟩ rfl rfl ?_
  intro p e s m args below meth c hargs hin B
  refine x_iload_n B dX18_asks_0 rfl ?_
  refine x_aload_n B dX18_asks_1 rfl ?_
  refine x_getC1 B (k := 4) hT rfl rfl xc_8 (by decide) hk (Or.inr q531) (fun _ h => h) dX18_asks_2 (fun k_2 => ?_)
  refine x_iload_n B dX18_asks_5 rfl ?_
  refine x_iald B k_2 ⟨by omega, by omega⟩ dX18_asks_6 (fun r_6 => ?_)
  refine x_iadd B dX18_asks_7 ?_
  refine x_iret B (fun _ _ h => h) ?_ dX18_asks_8
  exact ⟨rfl, rfl⟩
theorem c_X18_least {l : Launch} {E : x_E} {κ : x_Ka} {X : x_X} {z x : Int}  : x_MetN l yX18_least cX18_least 2 (some .int) 0 0 0 E κ X [x_rf E z, vi x] κ (fun v_ X_ => v_ = some (vi (x + 1)) ∧ X_ = X) := by
  refine x_MetN.of [(false, x_rf E z), (false, vi x)] [some (x_rf E z), some (vi x)] 0 (by decide) rfl rfl ⟨x_cr E (z), rfl, trivial⟩ rfl rfl ?_
  intro p e s m args below meth c hargs hin B
  refine x_iload_n B dX18_least_0 rfl ?_
  refine x_iconst B dX18_least_1 ?_
  refine x_iadd B dX18_least_2 ?_
  refine x_iret B (fun _ _ h => h) ?_ dX18_least_3
  exact ⟨rfl, rfl⟩
theorem c_X18_best {l : Launch} {E : x_E} {κ : x_Ka} {X : x_X} {z h x : Int}  : x_MetN l yX18_best cX18_best 3 (some .int) 0 0 0 E κ X [x_rf E z, vi h, vi x] κ (fun v_ X_ => v_ = some (vi x) ∧ X_ = X) := by
  refine x_MetN.of [(false, x_rf E z), (false, vi h), (false, vi x)] [some (x_rf E z), some (vi h), some (vi x)] 0 (by decide) rfl rfl ⟨x_cr E (z), rfl, rfl, trivial⟩ rfl rfl ?_
  intro p e s m args below meth c hargs hin B
  refine x_iload_n B dX18_best_0 rfl ?_
  refine x_iret B (fun _ _ h => h) ?_ dX18_best_1
  exact ⟨rfl, rfl⟩
theorem c_X19_asks {l : Launch} {E : x_E} {κ : x_Ka} {X : x_X} {z a t x : Int} (hT : x_T κ) (hk : κ a = some (.inl (8, 1))) (ht : 0 ≤ t ∧ t < 3) : x_MetN l yX19_asks cX19_asks 4 (some .int) 0 0 0 E κ X [x_rf E z, x_rf E a, vi t, vi x] κ (fun v_ X_ => v_ = some (vi (x + X (a + 13) t)) ∧ X_ = X) := by
  refine x_MetN.of [(false, x_rf E z), (false, x_rf E a), (false, vi t), (false, vi x)] [some (x_rf E z), some (x_rf E a), some (vi t), some (vi x)] 0 (by decide) rfl rfl ⟨x_cr E (z), x_cr E (a), rfl, rfl, trivial⟩ rfl rfl ?_
  intro p e s m args below meth c hargs hin B
  refine x_iload_n B dX19_asks_0 rfl ?_
  refine x_aload_n B dX19_asks_1 rfl ?_
  refine x_getC1 B (k := 5) hT rfl rfl xc_8 (by decide) hk (Or.inr q534) (fun _ h => h) dX19_asks_2 (fun k_2 => ?_)
  refine x_iload_n B dX19_asks_5 rfl ?_
  refine x_iald B k_2 ⟨by omega, by omega⟩ dX19_asks_6 (fun r_6 => ?_)
  refine x_iadd B dX19_asks_7 ?_
  refine x_iret B (fun _ _ h => h) ?_ dX19_asks_8
  exact ⟨rfl, rfl⟩
theorem c_X19_least {l : Launch} {E : x_E} {κ : x_Ka} {X : x_X} {z x : Int}  : x_MetN l yX19_least cX19_least 2 (some .int) 0 0 0 E κ X [x_rf E z, vi x] κ (fun v_ X_ => v_ = some (vi x) ∧ X_ = X) := by
  refine x_MetN.of [(false, x_rf E z), (false, vi x)] [some (x_rf E z), some (vi x)] 0 (by decide) rfl rfl ⟨x_cr E (z), rfl, trivial⟩ rfl rfl ?_
  intro p e s m args below meth c hargs hin B
  refine x_iload_n B dX19_least_0 rfl ?_
  refine x_iret B (fun _ _ h => h) ?_ dX19_least_1
  exact ⟨rfl, rfl⟩
theorem c_X19_best {l : Launch} {E : x_E} {κ : x_Ka} {X : x_X} {z h x : Int}  : x_MetN l yX19_best cX19_best 3 (some .int) 0 0 0 E κ X [x_rf E z, vi h, vi x] κ (fun v_ X_ => v_ = some (vi h) ∧ X_ = X) := by
  refine x_MetN.of [(false, x_rf E z), (false, vi h), (false, vi x)] [some (x_rf E z), some (vi h), some (vi x)] 0 (by decide) rfl rfl ⟨x_cr E (z), rfl, rfl, trivial⟩ rfl rfl ?_
  intro p e s m args below meth c hargs hin B
  refine x_iload_n B dX19_best_0 rfl ?_
  refine x_iret B (fun _ _ h => h) ?_ dX19_best_1
  exact ⟨rfl, rfl⟩
/-- what is asked behind a try at x: w is added, unless it was the last one or is too heavy -/
def m_ask (tr x w : Int) : Int := if tr = 3 then 0 else if x + w > 40 then 0 else x + w
/-- a standing behind a try; g: 1 good, 0 failed; w: what the plan adds -/
def s_tr (X : x_X) (a t g w : Int) : x_X := x_up (x_up (x_up (x_up (x_up (x_up X (a + 1) t (if g = 1 then X a 3 else X (a + 1) t)) a 4 (X a 3 + g)) a 2 (X a 2 + (1 - g))) a 1 (X a 1 + 1)) a 6 1) a 3 (m_ask (X a 1 + 1) (X a 3) w)
theorem x_up_t (X : x_X) (a i z w : Int) : x_up (x_up X a i z) a i w = x_up X a i w := by funext b j; simp only [x_up]; grind
theorem c_X3_tried {l : Launch} {E : x_E} {κ : x_Ka} {X : x_X} {a b t z : Int} (hT : x_T κ) (hk : κ a = some (.inl (3, 1))) (hb : κ b = some (.inl (8, 1))) (hz : z = -2 ∨ z = -3) (ht : 0 ≤ t ∧ t < 3) (h3 : 0 ≤ X a 3 ∧ X a 3 ≤ 40) (h2 : 0 ≤ X a 2 ∧ X a 2 ≤ 3) (h1 : 0 ≤ X a 1 ∧ X a 1 ≤ 3) (hw : 0 ≤ X (b + 12) t ∧ X (b + 12) t ≤ 9) (hv : 0 ≤ X (b + 13) t ∧ X (b + 13) t ≤ 9) (hba : b + 12 ≠ a ∧ b + 12 ≠ a + 1 ∧ b + 13 ≠ a ∧ b + 13 ≠ a + 1) : x_Vo l yX3_tried cX3_tried 5 2 E κ X [x_rf E a, x_rf E b, vi t, x_rf E z] (s_tr X a t (z + 3) (if z = -2 then X (b + 12) t else X (b + 13) t)) := by
  refine x_Met.of [(false, x_rf E a), (false, x_rf E b), (false, vi t), (false, x_rf E z)] [some (x_rf E a), some (x_rf E b), some (vi t), some (x_rf E z), none] 1 (by decide) rfl rfl ⟨x_cr E (a), x_cr E (b), rfl, x_cr E (z), trivial⟩ rfl rfl ?_
  intro p e s m args below meth c hargs hin B
  rcases hz with rfl | rfl
  · refine x_aload_n B dX3_tried_0 rfl ?_
    refine x_getI B (k := 3) 3 rfl rfl xc_3 (by decide) hk (Or.inl q207) (fun _ h => h) dX3_tried_1 (fun r_1 => ?_)
    refine x_istw_4 B dX3_tried_4 (by first | rfl | exact x_cr _ _) ?_
    refine x_aload_n B dX3_tried_6 rfl ?_
    refine x_getC1 B (k := 0) hT rfl rfl xc_3 (by decide) hk (Or.inl q191) (fun _ h => h) dX3_tried_7 (fun k_7 => ?_)
    refine x_iload_n B dX3_tried_10 rfl ?_
    refine x_aload_n B dX3_tried_11 rfl ?_
    refine x_aload_n B dX3_tried_12 rfl ?_
    refine x_getC1 B (k := 0) hT rfl rfl xc_3 (by decide) hk (Or.inl q191) (fun _ h => h) dX3_tried_13 (fun k_13 => ?_)
    refine x_iload_n B dX3_tried_16 rfl ?_
    refine x_iald B k_13 ⟨by omega, by omega⟩ dX3_tried_17 (fun r_17 => ?_)
    refine x_iload B dX3_tried_18 rfl ?_
    refine x_goP (x_rAN B (n := 2) (x_rcG B) (c_X18_best ) q857 q859 q860 q861 q862 q858 (by decide +kernel) ⟨by decide, by decide⟩ ⟨by decide, by decide⟩ rfl rfl (by simp [x_cr, x_c1, x_c2]) dX3_tried_20) ?_
    refine x_iast B k_7 ⟨by omega, by omega⟩ ⟨by omega, by omega⟩ dX3_tried_23 ?_
    refine x_aload_n B dX3_tried_24 rfl ?_
    refine x_aload_n B dX3_tried_25 rfl ?_
    refine x_iload B dX3_tried_26 rfl ?_
    refine x_goP (x_rAN B (n := 1) (x_rcG B) (c_X18_least ) q866 q868 q869 q870 q871 q867 (by decide +kernel) ⟨by decide, by decide⟩ ⟨by decide, by decide⟩ rfl rfl (by simp [x_cr, x_c1, x_c2]) dX3_tried_28) ?_
    refine x_putI B (k := 4) 4 rfl rfl rfl ⟨by omega, by omega⟩ xc_3 (by decide) rfl nn_3_4 (fun _ => rfl) hk (Or.inl q212) (fun _ h => h) dX3_tried_31 ?_
    refine x_aload_n B dX3_tried_34 rfl ?_
    refine x_dup B dX3_tried_35 (by first | rfl | exact x_cr _ _) ?_
    refine x_getI B (k := 2) 2 rfl rfl xc_3 (by decide) hk (Or.inl q201) (fun _ h => h) dX3_tried_36 (fun r_36 => ?_)
    refine x_aload_n B dX3_tried_39 rfl ?_
    refine x_goP (x_rU B (n := 0) (x_rcG B) (c_X13_failed (Or.inl rfl)) (lw_U q875 q877 q878 q876 q134 q880) rfl (by decide +kernel) ⟨by decide, by decide⟩ ⟨by decide, by decide⟩ rfl rfl (by simp [x_cr, x_c1, x_c2]) dX3_tried_40) ?_
    refine x_iadd B dX3_tried_43 ?_
    refine x_putI B (k := 2) 2 rfl rfl rfl ⟨by first | omega | (simp only [x_up]; grind), by first | omega | (simp only [x_up]; grind)⟩ xc_3 (by decide) rfl nn_3_2 (fun _ => rfl) hk (Or.inl q201) (fun _ h => h) dX3_tried_44 ?_
    refine x_aload_n B dX3_tried_47 rfl ?_
    refine x_dup B dX3_tried_48 (by first | rfl | exact x_cr _ _) ?_
    refine x_getI B (k := 1) 1 rfl rfl xc_3 (by decide) hk (Or.inl q197) (fun _ h => h) dX3_tried_49 (fun r_49 => ?_)
    refine x_iconst B dX3_tried_52 ?_
    refine x_iadd B dX3_tried_53 ?_
    refine x_putI B (k := 1) 1 rfl rfl rfl ⟨by first | omega | (simp only [x_up]; grind), by first | omega | (simp only [x_up]; grind)⟩ xc_3 (by decide) rfl nn_3_1 (fun _ => rfl) hk (Or.inl q197) (fun _ h => h) dX3_tried_54 ?_
    refine x_aload_n B dX3_tried_57 rfl ?_
    refine x_iconst B dX3_tried_58 ?_
    refine x_putZ B (k := 6) 6 rfl rfl rfl ⟨by omega, by omega⟩ xc_3 (by decide) rfl nn_3_6 (fun _ => rfl) hk (Or.inl q216) (fun _ h => h) dX3_tried_59 ?_
    refine x_aload_n B dX3_tried_62 rfl ?_
    refine x_aload_n B dX3_tried_63 rfl ?_
    refine x_getI B (k := 1) 1 rfl rfl xc_3 (by decide) hk (Or.inl q197) (fun _ h => h) dX3_tried_64 (fun r_64 => ?_)
    refine x_iconst B dX3_tried_67 ?_
    refine x_icmp_ne B (tgt := 75) dX3_tried_68 (by decide) ⟨by first | omega | (simp only [x_up]; grind), by first | omega | (simp only [x_up]; grind)⟩ ⟨by omega, by omega⟩ (fun h_68 => ?_) (fun h_68 => ?_)
    · refine x_aload_n B dX3_tried_75 rfl ?_
      refine x_aload_n B dX3_tried_76 rfl ?_
      refine x_iload_n B dX3_tried_77 rfl ?_
      refine x_iload B dX3_tried_78 rfl ?_
      refine x_goP (x_rAN B (n := 3) (x_rcG B) (c_X18_asks hT hb ⟨by omega, by omega⟩) q888 q890 q891 q892 q893 q889 (by decide +kernel) ⟨by decide, by decide⟩ ⟨by decide, by decide⟩ rfl rfl (by simp [x_cr, x_c1, x_c2]) dX3_tried_80) ?_
      refine x_putI B (k := 3) 3 rfl rfl rfl ⟨by first | omega | (simp only [x_up]; grind), by first | omega | (simp only [x_up]; grind)⟩ xc_3 (by decide) rfl nn_3_3 (fun _ => rfl) hk (Or.inl q207) (fun _ h => h) dX3_tried_83 ?_
      refine x_aload_n B dX3_tried_86 rfl ?_
      refine x_getI B (k := 3) 3 rfl rfl xc_3 (by decide) hk (Or.inl q207) (fun _ h => h) dX3_tried_87 (fun r_87 => ?_)
      refine x_bipush B dX3_tried_90 (by decide) ?_
      refine x_icmp_le B (tgt := 100) dX3_tried_92 (by decide) ⟨by first | omega | (simp only [x_up]; grind), by first | omega | (simp only [x_up]; grind)⟩ ⟨by omega, by omega⟩ (fun h_92 => ?_) (fun h_92 => ?_)
      · refine x_vret B (fun _ _ h => h) ?_ dX3_tried_100
        refine ⟨rfl, ?_⟩
        funext q i; simp only [s_tr, x_up, m_ask] at *; grind
      · refine x_aload_n B dX3_tried_95 rfl ?_
        refine x_iconst B dX3_tried_96 ?_
        refine x_putI B (k := 3) 3 rfl rfl rfl ⟨by omega, by omega⟩ xc_3 (by decide) rfl nn_3_3 (fun _ => rfl) hk (Or.inl q207) (fun _ h => h) dX3_tried_97 ?_
        refine x_vret B (fun _ _ h => h) ?_ dX3_tried_100
        refine ⟨rfl, ?_⟩
        funext q i; simp only [s_tr, x_up, m_ask] at *; grind
    · refine x_iconst B dX3_tried_71 ?_
      refine x_goto B (tgt := 83) dX3_tried_72 (by decide) ?_
      refine x_putI B (k := 3) 3 rfl rfl rfl ⟨by first | omega | (simp only [x_up]; grind), by first | omega | (simp only [x_up]; grind)⟩ xc_3 (by decide) rfl nn_3_3 (fun _ => rfl) hk (Or.inl q207) (fun _ h => h) dX3_tried_83 ?_
      refine x_aload_n B dX3_tried_86 rfl ?_
      refine x_getI B (k := 3) 3 rfl rfl xc_3 (by decide) hk (Or.inl q207) (fun _ h => h) dX3_tried_87 (fun r_87 => ?_)
      refine x_bipush B dX3_tried_90 (by decide) ?_
      refine x_icmp_le B (tgt := 100) dX3_tried_92 (by decide) ⟨by first | omega | (simp only [x_up]; grind), by first | omega | (simp only [x_up]; grind)⟩ ⟨by omega, by omega⟩ (fun h_92 => ?_) (fun h_92 => ?_)
      · refine x_vret B (fun _ _ h => h) ?_ dX3_tried_100
        refine ⟨rfl, ?_⟩
        funext q i; simp only [s_tr, x_up, m_ask] at *; grind
      · refine x_aload_n B dX3_tried_95 rfl ?_
        refine x_iconst B dX3_tried_96 ?_
        refine x_putI B (k := 3) 3 rfl rfl rfl ⟨by omega, by omega⟩ xc_3 (by decide) rfl nn_3_3 (fun _ => rfl) hk (Or.inl q207) (fun _ h => h) dX3_tried_97 ?_
        refine x_vret B (fun _ _ h => h) ?_ dX3_tried_100
        refine ⟨rfl, ?_⟩
        funext q i; simp only [s_tr, x_up, m_ask] at *; grind
  · refine x_aload_n B dX3_tried_0 rfl ?_
    refine x_getI B (k := 3) 3 rfl rfl xc_3 (by decide) hk (Or.inl q207) (fun _ h => h) dX3_tried_1 (fun r_1 => ?_)
    refine x_istw_4 B dX3_tried_4 (by first | rfl | exact x_cr _ _) ?_
    refine x_aload_n B dX3_tried_6 rfl ?_
    refine x_getC1 B (k := 0) hT rfl rfl xc_3 (by decide) hk (Or.inl q191) (fun _ h => h) dX3_tried_7 (fun k_7 => ?_)
    refine x_iload_n B dX3_tried_10 rfl ?_
    refine x_aload_n B dX3_tried_11 rfl ?_
    refine x_aload_n B dX3_tried_12 rfl ?_
    refine x_getC1 B (k := 0) hT rfl rfl xc_3 (by decide) hk (Or.inl q191) (fun _ h => h) dX3_tried_13 (fun k_13 => ?_)
    refine x_iload_n B dX3_tried_16 rfl ?_
    refine x_iald B k_13 ⟨by omega, by omega⟩ dX3_tried_17 (fun r_17 => ?_)
    refine x_iload B dX3_tried_18 rfl ?_
    refine x_goP (x_rAN B (n := 2) (x_rcF B) (c_X19_best ) q857 q859 q863 q864 q865 q858 (by decide +kernel) ⟨by decide, by decide⟩ ⟨by decide, by decide⟩ rfl rfl (by simp [x_cr, x_c1, x_c2]) dX3_tried_20) ?_
    refine x_iast B k_7 ⟨by omega, by omega⟩ ⟨by omega, by omega⟩ dX3_tried_23 ?_
    refine x_aload_n B dX3_tried_24 rfl ?_
    refine x_aload_n B dX3_tried_25 rfl ?_
    refine x_iload B dX3_tried_26 rfl ?_
    refine x_goP (x_rAN B (n := 1) (x_rcF B) (c_X19_least ) q866 q868 q872 q873 q874 q867 (by decide +kernel) ⟨by decide, by decide⟩ ⟨by decide, by decide⟩ rfl rfl (by simp [x_cr, x_c1, x_c2]) dX3_tried_28) ?_
    refine x_putI B (k := 4) 4 rfl rfl rfl ⟨by omega, by omega⟩ xc_3 (by decide) rfl nn_3_4 (fun _ => rfl) hk (Or.inl q212) (fun _ h => h) dX3_tried_31 ?_
    refine x_aload_n B dX3_tried_34 rfl ?_
    refine x_dup B dX3_tried_35 (by first | rfl | exact x_cr _ _) ?_
    refine x_getI B (k := 2) 2 rfl rfl xc_3 (by decide) hk (Or.inl q201) (fun _ h => h) dX3_tried_36 (fun r_36 => ?_)
    refine x_aload_n B dX3_tried_39 rfl ?_
    refine x_goP (x_rU B (n := 0) (x_rcF B) (c_X13_failed (Or.inr rfl)) (lw_U q875 q877 q879 q876 q134 q880) rfl (by decide +kernel) ⟨by decide, by decide⟩ ⟨by decide, by decide⟩ rfl rfl (by simp [x_cr, x_c1, x_c2]) dX3_tried_40) ?_
    refine x_iadd B dX3_tried_43 ?_
    refine x_putI B (k := 2) 2 rfl rfl rfl ⟨by first | omega | (simp only [x_up]; grind), by first | omega | (simp only [x_up]; grind)⟩ xc_3 (by decide) rfl nn_3_2 (fun _ => rfl) hk (Or.inl q201) (fun _ h => h) dX3_tried_44 ?_
    refine x_aload_n B dX3_tried_47 rfl ?_
    refine x_dup B dX3_tried_48 (by first | rfl | exact x_cr _ _) ?_
    refine x_getI B (k := 1) 1 rfl rfl xc_3 (by decide) hk (Or.inl q197) (fun _ h => h) dX3_tried_49 (fun r_49 => ?_)
    refine x_iconst B dX3_tried_52 ?_
    refine x_iadd B dX3_tried_53 ?_
    refine x_putI B (k := 1) 1 rfl rfl rfl ⟨by first | omega | (simp only [x_up]; grind), by first | omega | (simp only [x_up]; grind)⟩ xc_3 (by decide) rfl nn_3_1 (fun _ => rfl) hk (Or.inl q197) (fun _ h => h) dX3_tried_54 ?_
    refine x_aload_n B dX3_tried_57 rfl ?_
    refine x_iconst B dX3_tried_58 ?_
    refine x_putZ B (k := 6) 6 rfl rfl rfl ⟨by omega, by omega⟩ xc_3 (by decide) rfl nn_3_6 (fun _ => rfl) hk (Or.inl q216) (fun _ h => h) dX3_tried_59 ?_
    refine x_aload_n B dX3_tried_62 rfl ?_
    refine x_aload_n B dX3_tried_63 rfl ?_
    refine x_getI B (k := 1) 1 rfl rfl xc_3 (by decide) hk (Or.inl q197) (fun _ h => h) dX3_tried_64 (fun r_64 => ?_)
    refine x_iconst B dX3_tried_67 ?_
    refine x_icmp_ne B (tgt := 75) dX3_tried_68 (by decide) ⟨by first | omega | (simp only [x_up]; grind), by first | omega | (simp only [x_up]; grind)⟩ ⟨by omega, by omega⟩ (fun h_68 => ?_) (fun h_68 => ?_)
    · refine x_aload_n B dX3_tried_75 rfl ?_
      refine x_aload_n B dX3_tried_76 rfl ?_
      refine x_iload_n B dX3_tried_77 rfl ?_
      refine x_iload B dX3_tried_78 rfl ?_
      refine x_goP (x_rAN B (n := 3) (x_rcF B) (c_X19_asks hT hb ⟨by omega, by omega⟩) q888 q890 q894 q895 q896 q889 (by decide +kernel) ⟨by decide, by decide⟩ ⟨by decide, by decide⟩ rfl rfl (by simp [x_cr, x_c1, x_c2]) dX3_tried_80) ?_
      refine x_putI B (k := 3) 3 rfl rfl rfl ⟨by first | omega | (simp only [x_up]; grind), by first | omega | (simp only [x_up]; grind)⟩ xc_3 (by decide) rfl nn_3_3 (fun _ => rfl) hk (Or.inl q207) (fun _ h => h) dX3_tried_83 ?_
      refine x_aload_n B dX3_tried_86 rfl ?_
      refine x_getI B (k := 3) 3 rfl rfl xc_3 (by decide) hk (Or.inl q207) (fun _ h => h) dX3_tried_87 (fun r_87 => ?_)
      refine x_bipush B dX3_tried_90 (by decide) ?_
      refine x_icmp_le B (tgt := 100) dX3_tried_92 (by decide) ⟨by first | omega | (simp only [x_up]; grind), by first | omega | (simp only [x_up]; grind)⟩ ⟨by omega, by omega⟩ (fun h_92 => ?_) (fun h_92 => ?_)
      · refine x_vret B (fun _ _ h => h) ?_ dX3_tried_100
        refine ⟨rfl, ?_⟩
        funext q i; simp only [s_tr, x_up, m_ask] at *; grind
      · refine x_aload_n B dX3_tried_95 rfl ?_
        refine x_iconst B dX3_tried_96 ?_
        refine x_putI B (k := 3) 3 rfl rfl rfl ⟨by omega, by omega⟩ xc_3 (by decide) rfl nn_3_3 (fun _ => rfl) hk (Or.inl q207) (fun _ h => h) dX3_tried_97 ?_
        refine x_vret B (fun _ _ h => h) ?_ dX3_tried_100
        refine ⟨rfl, ?_⟩
        funext q i; simp only [s_tr, x_up, m_ask] at *; grind
    · refine x_iconst B dX3_tried_71 ?_
      refine x_goto B (tgt := 83) dX3_tried_72 (by decide) ?_
      refine x_putI B (k := 3) 3 rfl rfl rfl ⟨by first | omega | (simp only [x_up]; grind), by first | omega | (simp only [x_up]; grind)⟩ xc_3 (by decide) rfl nn_3_3 (fun _ => rfl) hk (Or.inl q207) (fun _ h => h) dX3_tried_83 ?_
      refine x_aload_n B dX3_tried_86 rfl ?_
      refine x_getI B (k := 3) 3 rfl rfl xc_3 (by decide) hk (Or.inl q207) (fun _ h => h) dX3_tried_87 (fun r_87 => ?_)
      refine x_bipush B dX3_tried_90 (by decide) ?_
      refine x_icmp_le B (tgt := 100) dX3_tried_92 (by decide) ⟨by first | omega | (simp only [x_up]; grind), by first | omega | (simp only [x_up]; grind)⟩ ⟨by omega, by omega⟩ (fun h_92 => ?_) (fun h_92 => ?_)
      · refine x_vret B (fun _ _ h => h) ?_ dX3_tried_100
        refine ⟨rfl, ?_⟩
        funext q i; simp only [s_tr, x_up, m_ask] at *; grind
      · refine x_aload_n B dX3_tried_95 rfl ?_
        refine x_iconst B dX3_tried_96 ?_
        refine x_putI B (k := 3) 3 rfl rfl rfl ⟨by omega, by omega⟩ xc_3 (by decide) rfl nn_3_3 (fun _ => rfl) hk (Or.inl q207) (fun _ h => h) dX3_tried_97 ?_
        refine x_vret B (fun _ _ h => h) ?_ dX3_tried_100
        refine ⟨rfl, ?_⟩
        funext q i; simp only [s_tr, x_up, m_ask] at *; grind
