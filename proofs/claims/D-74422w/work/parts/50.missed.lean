/-- three tries that fail, one behind another -/
def b_m (O : Int → Int → Int) (ag : Int) : Nat → Int → Int → Int → Int
  | 0, _, _, z => z
  | k + 1, f, load, z => if load ≤ 40 then b_m O ag k (f + 1) (load + ag) ((z * (1000 - O load f)).tdiv 1000) else z
theorem b_dv {z o : Int} (hz : 0 ≤ z ∧ z ≤ 1000000) (ho : 0 ≤ o ∧ o ≤ 1000) : (0 ≤ z * (1000 - o) ∧ z * (1000 - o) ≤ 1000000000) ∧ 0 ≤ (z * (1000 - o)).tdiv 1000 ∧ (z * (1000 - o)).tdiv 1000 ≤ 1000000 := by
  have h1 := x_mb hz (show 0 ≤ 1000 - o ∧ 1000 - o ≤ 1000 by omega)
  refine ⟨⟨h1.1, by omega⟩, Int.tdiv_nonneg h1.1 (by omega), ?_⟩
  have h2 := Int.tdiv_le_tdiv (show (0 : Int) < 1000 by omega) h1.2
  exact Int.le_trans h2 (by decide)
theorem b_m_stop {O : Int → Int → Int} {ag : Int} {k : Nat} {f load z : Int} (h : k = 0 ∨ 40 < load) : b_m O ag k f load z = z := by
  cases k with
  | zero => rfl
  | succ k => unfold b_m; rw [if_neg (by omega)]
theorem b_m_r {O : Int → Int → Int} {ag : Int} (hO : ∀ x f, 0 ≤ f → 0 ≤ O x f ∧ O x f ≤ 1000) : ∀ (k : Nat) (f load z : Int), 0 ≤ f → (0 ≤ z ∧ z ≤ 1000000) → 0 ≤ b_m O ag k f load z ∧ b_m O ag k f load z ≤ 1000000
  | 0, _, _, _, _, h => h
  | k + 1, f, load, z, hf, h => by
    unfold b_m
    split
    · exact b_m_r hO k _ _ _ (by omega) (b_dv h (hO load f hf)).2
    · exact h
theorem c_X1_missed {l : Launch} {E : x_E} {κ : x_Ka} {X : x_X} {L t o ag : Int} (hT : x_T κ) (h0 : κ 0 = some (.inl (0, 1))) (hL : κ L = some (.inl (8, 1))) (hw : l_wf X L) (hti : 0 ≤ X 0 1 ∧ X 0 1 ≤ 300) (ht : 0 ≤ t ∧ t < 3) (ho : 1 ≤ o ∧ o ≤ 40) (ha : 0 ≤ ag ∧ ag ≤ 9) : x_Pu l yX1_missed cX1_missed 9 (some .long) 3 E κ X [x_rf E 0, x_rf E L, vi t, vi o, vi ag] (vl (b_m (l_odds X L t) ag 3 0 o 1000000)) := by
  refine x_Met.of [(false, x_rf E 0), (false, x_rf E L), (false, vi t), (false, vi o), (false, vi ag)] [some (x_rf E 0), some (x_rf E L), some (vi t), some (vi o), some (vi ag), none, none, none, none] 4 (by decide) rfl rfl ⟨x_cr E (0), x_cr E (L), rfl, rfl, rfl, trivial⟩ rfl rfl ?_
  intro p e s m args below meth c hargs hin B
  have lp_11 : ∀ (n : Nat) (f load z : Int) (q : Nat), (((0 ≤ f ∧ f ≤ 3) ∧ (0 ≤ load ∧ load ≤ 40 + 9 * f) ∧ (0 ≤ z ∧ z ≤ 1000000) ∧ (q : Int) = 3 - f) ∧ b_m (l_odds X L t) ag 3 0 o 1000000 = b_m (l_odds X L t) ag q f load z) → ((4 - f).toNat < n) → x_G p l e (x_rm 3 0 0) s m args below meth c 9 E 0 0 (MQ below (x_Q E κ (fun v_ X_ => v_ = some (vl (b_m (l_odds X L t) ag 3 0 o 1000000)) ∧ X_ = X)) args s 0 0 (fun q => E.1 ≤ q)) κ 11 [some (x_rf E 0), some (x_rf E L), some (vi t), some (vi o), some (vi ag), some (vl z), none, some (vi load), some (vi f)] [] X := by
    intro n
    induction n with
    | zero => intro f load z q hi hme; exfalso; omega
    | succ n ih =>
      intro f load z q hi hme
      obtain ⟨⟨hf, hld, hz, hq⟩, he⟩ := hi
      have hor := l_odds_r (x := load) (f := f) hw ht hf.1 hti.1
      have hd := b_dv hz hor
      refine x_iload B dX1_missed_11 rfl ?_
      refine x_iconst B dX1_missed_13 ?_
      refine x_icmp_ge B (tgt := 61) dX1_missed_14 (by decide) ⟨by omega, by omega⟩ ⟨by omega, by omega⟩ (fun h_14 => ?_) (fun h_14 => ?_)
      · refine x_lload B dX1_missed_61 rfl ?_
        refine x_lret B (fun _ _ h => h) ?_ dX1_missed_63
        exact ⟨congrArg (fun z => some (vl z)) (by rw [he]; exact (b_m_stop (by omega)).symm), rfl⟩
      · refine x_iload B dX1_missed_17 rfl ?_
        refine x_bipush B dX1_missed_19 (by decide) ?_
        refine x_icmp_gt B (tgt := 61) dX1_missed_21 (by decide) ⟨by omega, by omega⟩ ⟨by omega, by omega⟩ (fun h_21 => ?_) (fun h_21 => ?_)
        · refine x_lload B dX1_missed_61 rfl ?_
          refine x_lret B (fun _ _ h => h) ?_ dX1_missed_63
          exact ⟨congrArg (fun z => some (vl z)) (by rw [he]; exact (b_m_stop (by omega)).symm), rfl⟩
        · refine x_lload B dX1_missed_24 rfl ?_
          refine x_sipush B dX1_missed_26 (by decide) ?_
          refine x_aload_n B dX1_missed_29 rfl ?_
          refine x_aload_n B dX1_missed_30 rfl ?_
          refine x_iload_n B dX1_missed_31 rfl ?_
          refine x_iload B dX1_missed_32 rfl ?_
          refine x_iload B dX1_missed_34 rfl ?_
          refine x_goP (x_rV B h0 (show x_cl[0]? = some _ from rfl) (c_X1_oddsOf hT h0 hL hw ht ⟨by omega, by omega⟩ ⟨by omega, by omega⟩ hti) (lw_V q764 q766 qs14 q110 q767) hv_X1_oddsOf ⟨by decide, by decide⟩ ⟨by decide, by decide⟩ rfl rfl (by simp [x_cr, x_c1, x_c2]) dX1_missed_36) ?_
          refine x_isub B dX1_missed_39 ?_
          refine x_i2l B dX1_missed_40 ⟨by omega, by omega⟩ ?_
          refine x_lmul B dX1_missed_41 ?_
          refine x_ldc2 B (1000) q1062 (by decide) dX1_missed_42 ?_
          refine x_ldiv B dX1_missed_45 ⟨by omega, by omega⟩ ⟨by omega, by omega⟩ ?_
          refine x_lstw_5 B dX1_missed_46 (by first | rfl | exact x_cr _ _) ?_
          refine x_iload B dX1_missed_48 rfl ?_
          refine x_iload B dX1_missed_50 rfl ?_
          refine x_iadd B dX1_missed_52 ?_
          refine x_istw_7 B dX1_missed_53 (by first | rfl | exact x_cr _ _) ?_
          refine x_iinc_8 B dX1_missed_55 (by first | rfl | exact x_cr _ _) ?_
          refine x_goto B (tgt := 11) dX1_missed_58 (by decide) ?_
          obtain ⟨q, rfl⟩ : ∃ g, q = g + 1 := ⟨q - 1, by omega⟩
          refine ih _ _ _ q ⟨⟨⟨by omega, by omega⟩, ⟨by omega, by omega⟩, hd.2, by omega⟩, ?_⟩ (by omega)
          rw [he]; conv => lhs; unfold b_m
          rw [if_pos (by omega)]
  refine x_ldc2 B (1000000) q1149 (by decide) dX1_missed_0 ?_
  refine x_lstw_5 B dX1_missed_3 (by first | rfl | exact x_cr _ _) ?_
  refine x_iload_n B dX1_missed_5 rfl ?_
  refine x_istw_7 B dX1_missed_6 (by first | rfl | exact x_cr _ _) ?_
  refine x_iconst B dX1_missed_8 ?_
  refine x_istw_8 B dX1_missed_9 (by first | rfl | exact x_cr _ _) ?_
  refine lp_11 _ 0 _ _ 3 ⟨⟨⟨by omega, by omega⟩, ⟨by omega, by omega⟩, ⟨by omega, by omega⟩, by omega⟩, rfl⟩ (Nat.lt_succ_self _)
def q_ms (X : x_X) (i t o ag : Int) : Int := b_m (fun x f => c_O X i t x f) ag 3 0 o 1000000
theorem b_m_c {O O2 : Int → Int → Int} {ag : Int} (h : ∀ x f, O x f = O2 x f) (k : Nat) (f load z : Int) : b_m O ag k f load z = b_m O2 ag k f load z := by
  have : O = O2 := by funext x f; exact h x f
  rw [this]
theorem q_ms_e {X : x_X} {i t o ag : Int} (hi : 0 ≤ i ∧ i < X 1 2) (ht : 0 ≤ t ∧ t < 3) : b_m (l_odds X (X 2 i) t) ag 3 0 o 1000000 = q_ms X i t o ag := b_m_c (fun x f => by unfold c_O; rw [if_pos ⟨hi.1, hi.2, ht.1, ht.2⟩]) _ _ _ _
theorem q_ms_r {κ : x_Ka} {X : x_X} {i t o ag : Int} (hC : n_C κ X) (hi : 0 ≤ i ∧ i < X 1 2) (ht : 0 ≤ t ∧ t < 3) : 0 ≤ q_ms X i t o ag ∧ q_ms X i t o ag ≤ 1000000 := b_m_r (fun x f hf => by unfold c_O; rw [if_pos ⟨hi.1, hi.2, ht.1, ht.2⟩]; exact l_odds_r (hC.2.2.1.1 i hi.1 hi.2) ht hf hC.2.2.1.2.1) 3 0 o 1000000 (by omega) (by omega)
theorem v_eq.ms {X Y : x_X} (h : v_eq X Y) (i t o ag : Int) : q_ms Y i t o ag = q_ms X i t o ag := by unfold q_ms; rw [h.O]
/-- the heaviest load from k down that comes to no more than z -/
def o_f (g : Int → Int) (z : Int) : Nat → Int
  | 0 => -2
  | k + 1 => if g (k + 1) ≤ z then k + 1 else o_f g z k
theorem c_X1_opener {l : Launch} {E : x_E} {κ : x_Ka} {X : x_X} {i t pp : Int} (hC : n_C κ X) (hx : xR i) (hy : xR t) (hz : xR pp) : x_Pu l yX1_opener cX1_opener 5 (some .int) 4 E κ X [x_rf E 0, vi i, vi t, vi pp] (vi (if x_in i 0 (X 1 2 - 1) = 1 ∧ x_in t 0 2 = 1 ∧ x_in pp 0 1000000 = 1 then o_f (fun x => q_ms X i t x 0) pp 40 else -1)) := by
  refine x_Met.of [(false, x_rf E 0), (false, vi i), (false, vi t), (false, vi pp)] [some (x_rf E 0), some (vi i), some (vi t), some (vi pp), none] 1 (by decide) rfl rfl ⟨x_cr E (0), rfl, rfl, rfl, trivial⟩ rfl rfl ?_
  intro p e s m args below meth c hargs hin B
  obtain ⟨hI, hP, hO, hW, hJ⟩ := id hC
  obtain ⟨hT, h0, hn, hl, hla⟩ := id hI
  have z1 := x_in_01 i 0 (X 1 2 - 1)
  have z2 := x_in_01 t 0 2
  have z3 := x_in_01 pp 0 1000000
  have lp_33 : ∀ (n : Nat) (k : Int) (q : Nat), ((0 ≤ k ∧ k ≤ 40 ∧ (q : Int) = k) ∧ (0 ≤ i ∧ i < X 1 2) ∧ (0 ≤ t ∧ t < 3) ∧ (x_in i 0 (X 1 2 - 1) = 1 ∧ x_in t 0 2 = 1 ∧ x_in pp 0 1000000 = 1) ∧ o_f (fun x => q_ms X i t x 0) pp 40 = o_f (fun x => q_ms X i t x 0) pp q) → ((41 + k).toNat < n) → x_G p l e (x_rm 4 0 0) s m args below meth c 5 E 0 0 (MQ below (x_Q E κ (fun v_ X_ => v_ = some (vi (if x_in i 0 (X 1 2 - 1) = 1 ∧ x_in t 0 2 = 1 ∧ x_in pp 0 1000000 = 1 then o_f (fun x => q_ms X i t x 0) pp 40 else -1)) ∧ X_ = X)) args s 0 0 (fun q => E.1 ≤ q)) κ 33 [some (x_rf E 0), some (vi i), some (vi t), some (vi pp), some (vi k)] [] X := by
    intro n
    induction n with
    | zero => intro k q hinv hme; exfalso; omega
    | succ n ih =>
      intro k q hinv hme
      obtain ⟨hk, hi, ht, hcd, he⟩ := hinv
      have hmr := q_ms_r (o := k) (ag := 0) hC hi ht
      have hmq := q_ms_e (X := X) (o := k) (ag := 0) hi ht
      refine x_iload B dX1_opener_33 rfl ?_
      refine x_if_le B (tgt := 72) dX1_opener_35 (by decide) ⟨by omega, by omega⟩ (fun h_35 => ?_) (fun h_35 => ?_)
      · refine x_bipush B dX1_opener_72 (by decide) ?_
        refine x_iret B (fun _ _ h => h) ?_ dX1_opener_74
        exact ⟨congrArg (fun z => some (vi z)) (by rw [if_pos hcd, he]; obtain rfl : q = 0 := (by omega); rfl), rfl⟩
      · refine x_aload_n B dX1_opener_38 rfl ?_
        refine x_aload_n B dX1_opener_39 rfl ?_
        refine x_getC0 B (k := 0) hT rfl rfl xc_0 (by decide) h0 (Or.inl q394) (fun _ h => h) dX1_opener_40 (fun k_40 => ?_)
        refine x_iload_n B dX1_opener_43 rfl ?_
        refine x_goP (x_rV B k_40 (show x_cl[1]? = some _ from rfl) (c_J2_get hT (by assumption) (by omega) ⟨by omega, by omega⟩) (lw_V q745 q372 q373 q113 q374) hv_J2_get ⟨by decide, by decide⟩ ⟨by decide, by decide⟩ rfl rfl (by simp [x_cr, x_c1, x_c2]) dX1_opener_44) ?_
        refine x_cast B (hl _ (by omega) (by omega)) (show x_cl[8]? = some _ from rfl) q746 dX1_opener_47 ?_
        refine x_iload_n B dX1_opener_50 rfl ?_
        refine x_iload B dX1_opener_51 rfl ?_
        refine x_iconst B dX1_opener_53 ?_
        refine x_goP (x_rV B h0 (show x_cl[0]? = some _ from rfl) (c_X1_missed hT h0 (hl _ (by omega) (by omega)) (hO.1 _ hi.1 hi.2) hO.2 ht ⟨by omega, by omega⟩ ⟨by omega, by omega⟩) (lw_V q1145 q1147 qs26 q110 q1148) hv_X1_missed ⟨by decide, by decide⟩ ⟨by decide, by decide⟩ rfl rfl (by simp [x_cr, x_c1, x_c2]) dX1_opener_54) ?_
        rw [hmq]
        refine x_iload_n B dX1_opener_57 rfl ?_
        refine x_i2l B dX1_opener_58 ⟨by omega, by omega⟩ ?_
        refine x_lcmp B dX1_opener_59 ⟨by omega, by omega⟩ ⟨by omega, by omega⟩ ?_
        have hcp := x_cmp_r (q_ms X i t k 0) pp
        refine x_if_gt B (tgt := 66) dX1_opener_60 (by decide) ⟨by omega, by omega⟩ (fun h_60 => ?_) (fun h_60 => ?_)
        · refine x_iinc_4 B dX1_opener_66 (by first | rfl | exact x_cr _ _) ?_
          refine x_goto B (tgt := 33) dX1_opener_69 (by decide) ?_
          obtain ⟨q, rfl⟩ : ∃ g, q = g + 1 := ⟨q - 1, by omega⟩
          rw [show k + -1 = k - 1 by omega]
          refine ih _ q ⟨⟨by omega, by omega, by omega⟩, hi, ht, hcd, ?_⟩ (by omega)
          have hg := x_cmp_gt h_60
          rw [he]; conv => lhs; unfold o_f
          rw [if_neg (by show ¬ q_ms X i t ((q : Int) + 1) 0 ≤ pp; rw [show (q : Int) + 1 = k by omega]; omega)]
        · refine x_iload B dX1_opener_63 rfl ?_
          refine x_iret B (fun _ _ h => h) ?_ dX1_opener_65
          exact ⟨congrArg (fun z => some (vi z)) (by rw [if_pos hcd, he]; obtain ⟨q, rfl⟩ : ∃ g, q = g + 1 := ⟨q - 1, by omega⟩; have hg := x_cmp_le h_60; unfold o_f; rw [if_pos (by show q_ms X i t ((q : Int) + 1) 0 ≤ pp; rw [show (q : Int) + 1 = k by omega]; omega)]; omega), rfl⟩
  refine x_aload_n B dX1_opener_0 rfl ?_
  refine x_iload_n B dX1_opener_1 rfl ?_
  refine x_goP (x_rV B h0 (show x_cl[0]? = some _ from rfl) (c_X1_isLifter hI ⟨by omega, by omega⟩) (lw_V q735 q737 qs13 q110 q738) hv_X1_isLifter ⟨by decide, by decide⟩ ⟨by decide, by decide⟩ rfl rfl (by simp [x_cr, x_c1, x_c2]) dX1_opener_2) ?_
  refine x_if_eq B (tgt := 27) dX1_opener_5 (by decide) ⟨by omega, by omega⟩ (fun h_5 => ?_) (fun h_5 => ?_)
  · refine x_iconst B dX1_opener_27 ?_
    refine x_iret B (fun _ _ h => h) ?_ dX1_opener_28
    exact ⟨congrArg (fun z => some (vi z)) (by rw [if_neg (by omega)]), rfl⟩
  · refine x_iload_n B dX1_opener_8 rfl ?_
    refine x_goP (x_rS B (c_X1_isLift ⟨by omega, by omega⟩) (lw_S q739 q740 q110 q741) hd_X1_isLift ⟨by decide, by decide⟩ ⟨by decide, by decide⟩ rfl rfl (by simp [x_cr, x_c1, x_c2]) dX1_opener_9) ?_
    refine x_if_eq B (tgt := 27) dX1_opener_12 (by decide) ⟨by omega, by omega⟩ (fun h_12 => ?_) (fun h_12 => ?_)
    · refine x_iconst B dX1_opener_27 ?_
      refine x_iret B (fun _ _ h => h) ?_ dX1_opener_28
      exact ⟨congrArg (fun z => some (vi z)) (by rw [if_neg (by omega)]), rfl⟩
    · refine x_iload_n B dX1_opener_15 rfl ?_
      refine x_i2l B dX1_opener_16 ⟨by omega, by omega⟩ ?_
      refine x_lconst B 0 dX1_opener_17 (by decide) ?_
      refine x_ldc2 B (1000000) q1149 (by decide) dX1_opener_18 ?_
      refine x_goP (x_rS B (c_X1_in ⟨by omega, by omega⟩ ⟨by omega, by omega⟩ ⟨by omega, by omega⟩) (lw_S q464 q465 q110 q466) hd_X1_in ⟨by decide, by decide⟩ ⟨by decide, by decide⟩ rfl rfl (by simp [x_cr, x_c1, x_c2]) dX1_opener_21) ?_
      refine x_if_ne B (tgt := 29) dX1_opener_24 (by decide) ⟨by omega, by omega⟩ (fun h_24 => ?_) (fun h_24 => ?_)
      · have hi : 0 ≤ i ∧ i < X 1 2 := by unfold x_in at h_5; split at h_5 <;> omega
        have ht : 0 ≤ t ∧ t < 3 := by unfold x_in at h_12; split at h_12 <;> omega
        refine x_bipush B dX1_opener_29 (by decide) ?_
        refine x_istw_4 B dX1_opener_31 (by first | rfl | exact x_cr _ _) ?_
        refine lp_33 _ 40 40 ⟨⟨by omega, by omega, by omega⟩, hi, ht, ⟨by omega, by omega, by omega⟩, rfl⟩ (Nat.lt_succ_self _)
      · refine x_iconst B dX1_opener_27 ?_
        refine x_iret B (fun _ _ h => h) ?_ dX1_opener_28
        exact ⟨congrArg (fun z => some (vi z)) (by rw [if_neg (by omega)]), rfl⟩
