theorem c_X2_isOver {l : Launch} {E : x_E} {κ : x_Ka} {X : x_X} {mo : Int} (hT : x_T κ) (hm : κ mo = some (.inl (2, 1))) : x_Pu l yX2_isOver cX2_isOver 1 (some .boolean) 0 E κ X [x_rf E mo] (vi (if X mo 1 = 3 then 1 else 0)) := by
  refine x_Met.of [(false, x_rf E mo)] [some (x_rf E mo)] 0 (by decide) rfl rfl ⟨x_cr E (mo), trivial⟩ rfl rfl ?_
  intro p e s m args below meth c hargs hin B
  refine x_aload_n B dX2_isOver_0 rfl ?_
  refine x_getI B (k := 1) 1 rfl rfl xc_2 (by decide) hm (Or.inl q245) (fun _ h => h) dX2_isOver_1 (fun r_1 => ?_)
  refine x_iconst B dX2_isOver_4 ?_
  refine x_icmp_ne B (tgt := 12) dX2_isOver_5 (by decide) ⟨by omega, by omega⟩ ⟨by omega, by omega⟩ (fun h_5 => ?_) (fun h_5 => ?_)
  · refine x_iconst B dX2_isOver_12 ?_
    refine x_zret B (fun _ _ h => h) ⟨by omega, by omega⟩ ?_ dX2_isOver_13
    exact ⟨congrArg (fun z => some (vi z)) (by grind), rfl⟩
  · refine x_iconst B dX2_isOver_8 ?_
    refine x_goto B (tgt := 13) dX2_isOver_9 (by decide) ?_
    refine x_zret B (fun _ _ h => h) ⟨by omega, by omega⟩ ?_ dX2_isOver_13
    exact ⟨congrArg (fun z => some (vi z)) (by grind), rfl⟩
theorem c_X2_roundBegins {l : Launch} {E : x_E} {κ : x_Ka} {X : x_X} {mo r : Int} (hI : n_I κ X) (hm : κ mo = some (.inl (2, 1))) (hmo : 3 ≤ mo) (hr : 0 ≤ r ∧ r ≤ 2) : x_Met l yX2_roundBegins cX2_roundBegins 3 none 1 0 0 E κ X [x_rf E mo, vi r] κ (fun v Y => v = none ∧ c_fr mo X Y ∧ c_M Y mo = m_rk (c_M X mo) r (X 1 2) ∧ ∀ l, Y (mo + 1 + 1 + 2 * l) 1 = X (mo + 1 + 1 + 2 * l) 1) := by
  refine x_Met.of [(false, x_rf E mo), (false, vi r)] [some (x_rf E mo), some (vi r), none] 1 (by decide) rfl rfl ⟨x_cr E (mo), rfl, trivial⟩ rfl rfl ?_
  intro p e s m args below meth c hargs hin B
  obtain ⟨hT, h0, hn, hl, hla⟩ := id hI
  have lp_12 : ∀ (n : Nat) (k : Int) (Y : x_X), ((0 ≤ k ∧ k ≤ X 1 2) ∧ c_fr mo X Y ∧ c_M Y mo = m_rk (c_M X mo) r k ∧ ∀ l, Y (mo + 1 + 1 + 2 * l) 1 = X (mo + 1 + 1 + 2 * l) 1) → ((7 - k).toNat < n) → x_G p l e (x_rm 1 0 0) s m args below meth c 3 E 0 0 (MQ below (x_Q E κ (fun v Y => v = none ∧ c_fr mo X Y ∧ c_M Y mo = m_rk (c_M X mo) r (X 1 2) ∧ ∀ l, Y (mo + 1 + 1 + 2 * l) 1 = X (mo + 1 + 1 + 2 * l) 1)) args s 0 0 (fun q => E.1 ≤ q)) κ 12 [some (x_rf E mo), some (vi r), some (vi k)] [] Y := by
    intro n
    induction n with
    | zero => intro k Y hi hme; exfalso; omega
    | succ n ih =>
      intro k Y hi hme
      obtain ⟨hk, hf, hM, h1⟩ := hi
      have hY : Y 1 2 = X 1 2 := congrFun (hf 1 (by omega)) 2
      have hlift : Y mo 1 = c_M X mo (-1) 1 := by rw [← c_M_g (X := Y) (by omega), hM]; simp [m_rk]
      refine x_iload_n B dX2_roundBegins_12 rfl ?_
      refine x_aload_n B dX2_roundBegins_13 rfl ?_
      refine x_getC0 B (k := 4) hT rfl rfl xc_2 (by decide) hm (Or.inl q254) (fun _ h => h) dX2_roundBegins_14 (fun k_14 => ?_)
      refine x_getC0 B (k := 0) hT rfl rfl xc_0 (by decide) k_14 (Or.inr q395) (fun _ h => h) dX2_roundBegins_17 (fun k_17 => ?_)
      refine x_goP (x_rV B k_17 (show x_cl[1]? = some _ from rfl) (c_J2_size hT (by assumption)) (lw_V q363 q364 q365 q113 q366) hv_J2_size ⟨by decide, by decide⟩ ⟨by decide, by decide⟩ rfl rfl (by simp [x_cr, x_c1, x_c2]) dX2_roundBegins_20) ?_
      refine x_icmp_ge B (tgt := 88) dX2_roundBegins_23 (by decide) ⟨by omega, by omega⟩ ⟨by omega, by omega⟩ (fun h_23 => ?_) (fun h_23 => ?_)
      · obtain rfl : k = X 1 2 := by omega
        refine x_vret B (fun _ _ h => h) ?_ dX2_roundBegins_88
        exact ⟨rfl, hf, hM, h1⟩
      · refine x_aload_n B dX2_roundBegins_26 rfl ?_
        refine x_getC1 B (k := 0) hT rfl rfl xc_2 (by decide) hm (Or.inl q242) (fun _ h => h) dX2_roundBegins_27 (fun k_27 => ?_)
        refine x_iload_n B dX2_roundBegins_30 rfl ?_
        refine x_aaldC B (t := 10) hT k_27 rfl rfl rfl rfl ⟨by omega, by omega⟩ dX2_roundBegins_31 (fun k_31 => ?_)
        refine x_iconst B dX2_roundBegins_32 ?_
        refine x_putZ B (k := 6) 6 rfl rfl rfl ⟨by omega, by omega⟩ xc_3 (by decide) rfl nn_3_6 (fun _ => rfl) k_31 (Or.inr q217) (fun _ h => h) dX2_roundBegins_33 ?_
        refine x_aload_n B dX2_roundBegins_36 rfl ?_
        refine x_getC1 B (k := 0) hT rfl rfl xc_2 (by decide) hm (Or.inl q242) (fun _ h => h) dX2_roundBegins_37 (fun k_37 => ?_)
        refine x_iload_n B dX2_roundBegins_40 rfl ?_
        refine x_aaldC B (t := 10) hT k_37 rfl rfl rfl rfl ⟨by omega, by omega⟩ dX2_roundBegins_41 (fun k_41 => ?_)
        refine x_aload_n B dX2_roundBegins_42 rfl ?_
        refine x_goP (x_rV B hm (show x_cl[2]? = some _ from rfl) (c_X2_isOver hT (by assumption)) (lw_V q367 q368 q369 q114 q370) hv_X2_isOver ⟨by decide, by decide⟩ ⟨by decide, by decide⟩ rfl rfl (by simp [x_cr, x_c1, x_c2]) dX2_roundBegins_43) ?_
        refine x_if_eq B (tgt := 53) dX2_roundBegins_46 (by decide) ⟨by split <;> omega, by split <;> omega⟩ (fun h_46 => ?_) (fun h_46 => ?_)
        · refine x_iload_n B dX2_roundBegins_53 rfl ?_
          refine x_if_ne B (tgt := 61) dX2_roundBegins_54 (by decide) ⟨by omega, by omega⟩ (fun h_54 => ?_) (fun h_54 => ?_)
          · refine x_iload_n B dX2_roundBegins_61 rfl ?_
            refine x_iconst B dX2_roundBegins_62 ?_
            refine x_icmp_ne B (tgt := 78) dX2_roundBegins_63 (by decide) ⟨by omega, by omega⟩ ⟨by omega, by omega⟩ (fun h_63 => ?_) (fun h_63 => ?_)
            · refine x_iconst B dX2_roundBegins_78 ?_
              refine x_putI B (k := 5) 5 rfl rfl rfl ⟨by omega, by omega⟩ xc_3 (by decide) rfl nn_3_5 (fun _ => rfl) k_41 (Or.inr q214) (fun _ h => h) dX2_roundBegins_79 ?_
              refine x_iinc_2 B dX2_roundBegins_82 (by first | rfl | exact x_cr _ _) ?_
              refine x_goto B (tgt := 12) dX2_roundBegins_85 (by decide) ?_
              refine ih _ _ ?_ (by omega)
              refine ⟨⟨by omega, by omega⟩, (hf.up (by omega)).up (by omega), ?_, ?_⟩
              · rw [c_M_us hmo (by simp only [x_up]; grind) (by omega), c_M_us hmo (by omega) (by omega), hM]; funext l f; simp only [m_rk, x_up, m_chg] at *; grind
              · intro l; simp only [x_up]; grind
            · refine x_aload_n B dX2_roundBegins_66 rfl ?_
              refine x_getI B (k := 1) 1 rfl rfl xc_2 (by decide) hm (Or.inl q245) (fun _ h => h) dX2_roundBegins_67 (fun r_67 => ?_)
              refine x_iconst B dX2_roundBegins_70 ?_
              refine x_icmp_ne B (tgt := 78) dX2_roundBegins_71 (by decide) ⟨by omega, by omega⟩ ⟨by omega, by omega⟩ (fun h_71 => ?_) (fun h_71 => ?_)
              · refine x_iconst B dX2_roundBegins_78 ?_
                refine x_putI B (k := 5) 5 rfl rfl rfl ⟨by omega, by omega⟩ xc_3 (by decide) rfl nn_3_5 (fun _ => rfl) k_41 (Or.inr q214) (fun _ h => h) dX2_roundBegins_79 ?_
                refine x_iinc_2 B dX2_roundBegins_82 (by first | rfl | exact x_cr _ _) ?_
                refine x_goto B (tgt := 12) dX2_roundBegins_85 (by decide) ?_
                refine ih _ _ ?_ (by omega)
                refine ⟨⟨by omega, by omega⟩, (hf.up (by omega)).up (by omega), ?_, ?_⟩
                · rw [c_M_us hmo (by simp only [x_up]; grind) (by omega), c_M_us hmo (by omega) (by omega), hM]; funext l f; simp only [m_rk, x_up, m_chg] at *; grind
                · intro l; simp only [x_up]; grind
              · refine x_iconst B dX2_roundBegins_74 ?_
                refine x_goto B (tgt := 79) dX2_roundBegins_75 (by decide) ?_
                refine x_putI B (k := 5) 5 rfl rfl rfl ⟨by omega, by omega⟩ xc_3 (by decide) rfl nn_3_5 (fun _ => rfl) k_41 (Or.inr q214) (fun _ h => h) dX2_roundBegins_79 ?_
                refine x_iinc_2 B dX2_roundBegins_82 (by first | rfl | exact x_cr _ _) ?_
                refine x_goto B (tgt := 12) dX2_roundBegins_85 (by decide) ?_
                refine ih _ _ ?_ (by omega)
                refine ⟨⟨by omega, by omega⟩, (hf.up (by omega)).up (by omega), ?_, ?_⟩
                · rw [c_M_us hmo (by simp only [x_up]; grind) (by omega), c_M_us hmo (by omega) (by omega), hM]; funext l f; simp only [m_rk, x_up, m_chg] at *; grind
                · intro l; simp only [x_up]; grind
          · refine x_iconst B dX2_roundBegins_57 ?_
            refine x_goto B (tgt := 79) dX2_roundBegins_58 (by decide) ?_
            refine x_putI B (k := 5) 5 rfl rfl rfl ⟨by omega, by omega⟩ xc_3 (by decide) rfl nn_3_5 (fun _ => rfl) k_41 (Or.inr q214) (fun _ h => h) dX2_roundBegins_79 ?_
            refine x_iinc_2 B dX2_roundBegins_82 (by first | rfl | exact x_cr _ _) ?_
            refine x_goto B (tgt := 12) dX2_roundBegins_85 (by decide) ?_
            refine ih _ _ ?_ (by omega)
            refine ⟨⟨by omega, by omega⟩, (hf.up (by omega)).up (by omega), ?_, ?_⟩
            · rw [c_M_us hmo (by simp only [x_up]; grind) (by omega), c_M_us hmo (by omega) (by omega), hM]; funext l f; simp only [m_rk, x_up, m_chg] at *; grind
            · intro l; simp only [x_up]; grind
        · refine x_iconst B dX2_roundBegins_49 ?_
          refine x_goto B (tgt := 79) dX2_roundBegins_50 (by decide) ?_
          refine x_putI B (k := 5) 5 rfl rfl rfl ⟨by omega, by omega⟩ xc_3 (by decide) rfl nn_3_5 (fun _ => rfl) k_41 (Or.inr q214) (fun _ h => h) dX2_roundBegins_79 ?_
          refine x_iinc_2 B dX2_roundBegins_82 (by first | rfl | exact x_cr _ _) ?_
          refine x_goto B (tgt := 12) dX2_roundBegins_85 (by decide) ?_
          refine ih _ _ ?_ (by omega)
          refine ⟨⟨by omega, by omega⟩, (hf.up (by omega)).up (by omega), ?_, ?_⟩
          · rw [c_M_us hmo (by simp only [x_up]; grind) (by omega), c_M_us hmo (by omega) (by omega), hM]; funext l f; simp only [m_rk, x_up, m_chg] at *; grind
          · intro l; simp only [x_up]; grind
  refine x_aload_n B dX2_roundBegins_0 rfl ?_
  refine x_iload_n B dX2_roundBegins_1 rfl ?_
  refine x_putI B (k := 2) 2 rfl rfl rfl ⟨by omega, by omega⟩ xc_2 (by decide) rfl nn_2_2 (fun _ => rfl) hm (Or.inl q249) (fun _ h => h) dX2_roundBegins_2 ?_
  refine x_aload_n B dX2_roundBegins_5 rfl ?_
  refine x_iconst B dX2_roundBegins_6 ?_
  refine x_putI B (k := 3) 3 rfl rfl rfl ⟨by omega, by omega⟩ xc_2 (by decide) rfl nn_2_3 (fun _ => rfl) hm (Or.inl q251) (fun _ h => h) dX2_roundBegins_7 ?_
  refine x_iconst B dX2_roundBegins_10 ?_
  refine x_ist_2 B dX2_roundBegins_11 (by first | rfl | exact x_cr _ _) ?_
  refine lp_12 _ _ _ ?_ (Nat.lt_succ_self _)
  refine ⟨⟨by omega, by omega⟩, ((c_fr.rf mo X).up (by omega)).up (by omega), ?_, ?_⟩
  · rw [c_M_ug hmo (by omega), c_M_ug hmo (by omega)]; funext l f; simp only [m_rk, x_up]; grind
  · intro l; simp only [x_up]; grind
theorem c_X3_begins {l : Launch} {E : x_E} {κ : x_Ka} {X : x_X} {a z : Int} (hT : x_T κ) (hk : κ a = some (.inl (3, 1))) (hz : xR z) : x_Vo l yX3_begins cX3_begins 2 0 E κ X [x_rf E a, vi z] (x_up (x_up (x_up (x_up X a 1 0) a 2 0) a 3 (if X a 7 = 0 then z else 0)) a 4 1) := by
  refine x_Met.of [(false, x_rf E a), (false, vi z)] [some (x_rf E a), some (vi z)] 0 (by decide) rfl rfl ⟨x_cr E (a), rfl, trivial⟩ rfl rfl ?_
  intro p e s m args below meth c hargs hin B
  refine x_aload_n B dX3_begins_0 rfl ?_
  refine x_iconst B dX3_begins_1 ?_
  refine x_putI B (k := 1) 1 rfl rfl rfl ⟨by omega, by omega⟩ xc_3 (by decide) rfl nn_3_1 (fun _ => rfl) hk (Or.inl q197) (fun _ h => h) dX3_begins_2 ?_
  refine x_aload_n B dX3_begins_5 rfl ?_
  refine x_iconst B dX3_begins_6 ?_
  refine x_putI B (k := 2) 2 rfl rfl rfl ⟨by omega, by omega⟩ xc_3 (by decide) rfl nn_3_2 (fun _ => rfl) hk (Or.inl q201) (fun _ h => h) dX3_begins_7 ?_
  refine x_aload_n B dX3_begins_10 rfl ?_
  refine x_aload_n B dX3_begins_11 rfl ?_
  refine x_getZ B (k := 7) 7 rfl rfl xc_3 (by decide) hk (Or.inl q220) (fun _ h => h) dX3_begins_12 (fun r_12 => ?_)
  refine x_if_eq B (tgt := 22) dX3_begins_15 (by decide) ⟨by omega, by omega⟩ (fun h_15 => ?_) (fun h_15 => ?_)
  · have e7 : X a 7 = 0 := by simpa [x_up] using h_15
    refine x_iload_n B dX3_begins_22 rfl ?_
    refine x_putI B (k := 3) 3 rfl rfl rfl ⟨by omega, by omega⟩ xc_3 (by decide) rfl nn_3_3 (fun _ => rfl) hk (Or.inl q207) (fun _ h => h) dX3_begins_23 ?_
    refine x_aload_n B dX3_begins_26 rfl ?_
    refine x_iconst B dX3_begins_27 ?_
    refine x_putI B (k := 4) 4 rfl rfl rfl ⟨by omega, by omega⟩ xc_3 (by decide) rfl nn_3_4 (fun _ => rfl) hk (Or.inl q212) (fun _ h => h) dX3_begins_28 ?_
    refine x_vret B (fun _ _ h => h) ?_ dX3_begins_31
    exact ⟨rfl, by simp only [e7, if_true, if_false]⟩
  · have e7 : X a 7 ≠ 0 := by simpa [x_up] using h_15
    refine x_iconst B dX3_begins_18 ?_
    refine x_goto B (tgt := 23) dX3_begins_19 (by decide) ?_
    refine x_putI B (k := 3) 3 rfl rfl rfl ⟨by omega, by omega⟩ xc_3 (by decide) rfl nn_3_3 (fun _ => rfl) hk (Or.inl q207) (fun _ h => h) dX3_begins_23 ?_
    refine x_aload_n B dX3_begins_26 rfl ?_
    refine x_iconst B dX3_begins_27 ?_
    refine x_putI B (k := 4) 4 rfl rfl rfl ⟨by omega, by omega⟩ xc_3 (by decide) rfl nn_3_4 (fun _ => rfl) hk (Or.inl q212) (fun _ h => h) dX3_begins_28 ?_
    refine x_vret B (fun _ _ h => h) ?_ dX3_begins_31
    exact ⟨rfl, by simp only [e7, if_true, if_false]⟩
theorem c_X2_liftBegins {l : Launch} {E : x_E} {κ : x_Ka} {X : x_X} {mo : Int} (hI : n_I κ X) (hm : κ mo = some (.inl (2, 1))) (hmo : 3 ≤ mo) (hlf : 0 ≤ X mo 1 ∧ X mo 1 ≤ 3) (hm2 : mo ≤ 17) : x_Met l yX2_liftBegins cX2_liftBegins 2 none 3 0 0 E κ X [x_rf E mo] κ (fun v Y => v = none ∧ c_fr mo X Y ∧ c_M Y mo = m_lift (X 1 2) (c_op X) (c_M X mo) ∧ ∀ l, 0 ≤ l → l < X 1 2 → Y (mo + 1 + 1 + 2 * l) 1 = 0) := by
  refine x_Met.of [(false, x_rf E mo)] [some (x_rf E mo), none] 1 (by decide) rfl rfl ⟨x_cr E (mo), trivial⟩ rfl rfl ?_
  intro p e s m args below meth c hargs hin B
  obtain ⟨hT, h0, hn, hl, hla⟩ := id hI
  have lp_2 : ∀ (n : Nat) (k : Int) (Y : x_X), ((0 ≤ k ∧ k ≤ X 1 2) ∧ c_fr mo X Y ∧ c_M Y mo = m_lk (c_M X mo) (c_op X) k ∧ ∀ l, 0 ≤ l → l < k → Y (mo + 1 + 1 + 2 * l) 1 = 0) → ((7 - k).toNat < n) → x_G p l e (x_rm 3 0 0) s m args below meth c 2 E 0 0 (MQ below (x_Q E κ (fun v Y => v = none ∧ c_fr mo X Y ∧ c_M Y mo = m_lift (X 1 2) (c_op X) (c_M X mo) ∧ ∀ l, 0 ≤ l → l < X 1 2 → Y (mo + 1 + 1 + 2 * l) 1 = 0)) args s 0 0 (fun q => E.1 ≤ q)) κ 2 [some (x_rf E mo), some (vi k)] [] Y := by
    intro n
    induction n with
    | zero => intro k Y hi hme; exfalso; omega
    | succ n ih =>
      intro k Y hi hme
      obtain ⟨hk, hf, hM, h1⟩ := hi
      have hIY := hI.fr hf hmo
      have hY : Y 1 2 = X 1 2 := congrFun (hf 1 (by omega)) 2
      obtain ⟨-, -, hn, hl, -⟩ := id hIY
      have hlift : Y mo 1 = X mo 1 := by rw [← c_M_g (X := Y) (by omega), hM, ← c_M_g (X := X) (by omega)]; simp [m_lk]
      refine x_iload_n B dX2_liftBegins_2 rfl ?_
      refine x_aload_n B dX2_liftBegins_3 rfl ?_
      refine x_getC0 B (k := 4) hT rfl rfl xc_2 (by decide) hm (Or.inl q254) (fun _ h => h) dX2_liftBegins_4 (fun k_4 => ?_)
      refine x_getC0 B (k := 0) hT rfl rfl xc_0 (by decide) k_4 (Or.inr q395) (fun _ h => h) dX2_liftBegins_7 (fun k_7 => ?_)
      refine x_goP (x_rV B k_7 (show x_cl[1]? = some _ from rfl) (c_J2_size hT (by assumption)) (lw_V q363 q364 q365 q113 q366) hv_J2_size ⟨by decide, by decide⟩ ⟨by decide, by decide⟩ rfl rfl (by simp [x_cr, x_c1, x_c2]) dX2_liftBegins_10) ?_
      refine x_icmp_ge B (tgt := 64) dX2_liftBegins_13 (by decide) ⟨by omega, by omega⟩ ⟨by omega, by omega⟩ (fun h_13 => ?_) (fun h_13 => ?_)
      · obtain rfl : k = X 1 2 := by omega
        refine x_aload_n B dX2_liftBegins_64 rfl ?_
        refine x_iconst B dX2_liftBegins_65 ?_
        refine x_go (x_rV B hm (show x_cl[2]? = some _ from rfl) (c_X2_roundBegins hIY hm hmo ⟨by omega, by omega⟩) (lw_V q390 q392 qs1 q114 q393) hv_X2_roundBegins ⟨by decide, by decide⟩ ⟨by decide, by decide⟩ rfl rfl (by simp [x_cr, x_c1, x_c2]) dX2_liftBegins_66) (fun v_66 X_66 p_66 => ?_)
        obtain ⟨rfl, hf2, hM2, h2⟩ := p_66
        refine x_vret B (fun _ _ h => h) ?_ dX2_liftBegins_69
        refine ⟨rfl, hf.trans hf2, ?_, fun l q1 q2 => ?_⟩
        · rw [hM2, hM, hY]; rfl
        · rw [h2 l]; exact h1 l q1 q2
      · refine x_aload_n B dX2_liftBegins_16 rfl ?_
        refine x_getC1 B (k := 0) hT rfl rfl xc_2 (by decide) hm (Or.inl q242) (fun _ h => h) dX2_liftBegins_17 (fun k_17 => ?_)
        refine x_iload_n B dX2_liftBegins_20 rfl ?_
        refine x_aaldC B (t := 10) hT k_17 rfl rfl rfl rfl ⟨by omega, by omega⟩ dX2_liftBegins_21 (fun k_21 => ?_)
        refine x_aload_n B dX2_liftBegins_22 rfl ?_
        refine x_goP (x_rV B hm (show x_cl[2]? = some _ from rfl) (c_X2_isOver hT (by assumption)) (lw_V q367 q368 q369 q114 q370) hv_X2_isOver ⟨by decide, by decide⟩ ⟨by decide, by decide⟩ rfl rfl (by simp [x_cr, x_c1, x_c2]) dX2_liftBegins_23) ?_
        refine x_if_eq B (tgt := 33) dX2_liftBegins_26 (by decide) ⟨by split <;> omega, by split <;> omega⟩ (fun h_26 => ?_) (fun h_26 => ?_)
        · have e3 : X mo 1 ≠ 3 := by grind
          refine x_aload_n B dX2_liftBegins_33 rfl ?_
          refine x_getC0 B (k := 4) hT rfl rfl xc_2 (by decide) hm (Or.inl q254) (fun _ h => h) dX2_liftBegins_34 (fun k_34 => ?_)
          refine x_getC0 B (k := 0) hT rfl rfl xc_0 (by decide) k_34 (Or.inr q395) (fun _ h => h) dX2_liftBegins_37 (fun k_37 => ?_)
          refine x_iload_n B dX2_liftBegins_40 rfl ?_
          refine x_goP (x_rV B k_37 (show x_cl[1]? = some _ from rfl) (c_J2_get hT (by assumption) (by omega) ⟨by omega, by omega⟩) (lw_V q371 q372 q373 q113 q374) hv_J2_get ⟨by decide, by decide⟩ ⟨by decide, by decide⟩ rfl rfl (by simp [x_cr, x_c1, x_c2]) dX2_liftBegins_41) ?_
          refine x_cast B (hl _ (by omega) (by omega)) (show x_cl[8]? = some _ from rfl) q385 dX2_liftBegins_44 ?_
          refine x_getC1 B (k := 3) hT rfl rfl xc_8 (by decide) (hl _ (by omega) (by omega)) (Or.inr q527) (fun _ h => h) dX2_liftBegins_47 (fun k_47 => ?_)
          refine x_aload_n B dX2_liftBegins_50 rfl ?_
          refine x_getI B (k := 1) 1 rfl rfl xc_2 (by decide) hm (Or.inl q245) (fun _ h => h) dX2_liftBegins_51 (fun r_51 => ?_)
          refine x_iald B k_47 ⟨by omega, by omega⟩ dX2_liftBegins_54 (fun r_54 => ?_)
          rw [show Y (Y 2 k + 11) (Y mo 1) = c_op X k (X mo 1) by unfold c_op; rw [if_pos (by omega), hlift, hf 2 (by omega), hf (X 2 k + 11) (by have := hla k (by omega) (by omega); omega)]] at r_54 ⊢
          refine x_goV (x_rV B k_21 (show x_cl[3]? = some _ from rfl) (c_X3_begins hT (by assumption) ⟨by omega, by omega⟩) (lw_V q386 q387 q388 q115 q389) hv_X3_begins ⟨by decide, by decide⟩ ⟨by decide, by decide⟩ rfl rfl (by simp [x_cr, x_c1, x_c2]) dX2_liftBegins_55) ?_
          refine x_iinc_1 B dX2_liftBegins_58 (by first | rfl | exact x_cr _ _) ?_
          refine x_goto B (tgt := 2) dX2_liftBegins_61 (by decide) ?_
          refine ih _ _ ?_ (by omega)
          have hA := hla k (by omega) (by omega)
          have e7 : Y (mo + 1 + 1 + 2 * k) 7 = c_M X mo k 7 := by rw [← c_M_s (X := Y) (by omega) (by omega), hM]; simp [m_lk]
          have g1 : c_M X mo (-1) 1 = X mo 1 := c_M_g (by omega)
          have rng7 := c_M_s (X := X) (mo := mo) (l := k) (f := 7) (by omega) (by omega)
          refine ⟨⟨by omega, by omega⟩, (((hf.up (by omega)).up (by omega)).up (by omega)).up (by omega), ?_, ?_⟩
          · rw [c_M_us hmo (by simp only [x_up]; grind) (by omega), c_M_us hmo (by simp only [x_up]; grind) (by omega), c_M_us hmo (by simp only [x_up]; grind) (by omega), c_M_u1 hmo (by omega), hM]
            funext l f; simp only [m_lk, x_up, c_op] at *; grind
          · intro l; simp only [x_up]; grind
        · have e3 : X mo 1 = 3 := by grind
          refine x_iconst B dX2_liftBegins_29 ?_
          refine x_goto B (tgt := 55) dX2_liftBegins_30 (by decide) ?_
          refine x_goV (x_rV B k_21 (show x_cl[3]? = some _ from rfl) (c_X3_begins hT (by assumption) ⟨by omega, by omega⟩) (lw_V q386 q387 q388 q115 q389) hv_X3_begins ⟨by decide, by decide⟩ ⟨by decide, by decide⟩ rfl rfl (by simp [x_cr, x_c1, x_c2]) dX2_liftBegins_55) ?_
          refine x_iinc_1 B dX2_liftBegins_58 (by first | rfl | exact x_cr _ _) ?_
          refine x_goto B (tgt := 2) dX2_liftBegins_61 (by decide) ?_
          refine ih _ _ ?_ (by omega)
          have hA := hla k (by omega) (by omega)
          have e7 : Y (mo + 1 + 1 + 2 * k) 7 = c_M X mo k 7 := by rw [← c_M_s (X := Y) (by omega) (by omega), hM]; simp [m_lk]
          have g1 : c_M X mo (-1) 1 = X mo 1 := c_M_g (by omega)
          have rng7 := c_M_s (X := X) (mo := mo) (l := k) (f := 7) (by omega) (by omega)
          refine ⟨⟨by omega, by omega⟩, (((hf.up (by omega)).up (by omega)).up (by omega)).up (by omega), ?_, ?_⟩
          · rw [c_M_us hmo (by simp only [x_up]; grind) (by omega), c_M_us hmo (by simp only [x_up]; grind) (by omega), c_M_us hmo (by simp only [x_up]; grind) (by omega), c_M_u1 hmo (by omega), hM]
            funext l f; simp only [m_lk, x_up, c_op] at *; grind
          · intro l; simp only [x_up]; grind
  refine x_iconst B dX2_liftBegins_0 ?_
  refine x_ist_1 B dX2_liftBegins_1 (by first | rfl | exact x_cr _ _) ?_
  refine lp_2 _ _ _ ?_ (Nat.lt_succ_self _)
  refine ⟨⟨by omega, by omega⟩, c_fr.rf mo X, ?_, fun l h1 h2 => by omega⟩
  funext l f; simp only [m_lk]; grind
