/-! ===== the duel: side 1 is a, side 0 is b ===== -/
def d_l (a b sd : Int) : Int := if sd = 1 then a else b
def d_od (O : Int → Int → Int → Int → Int) (M : x_X) (a b sd load : Int) : Int := O (d_l a b sd) 2 load (M (d_l a b sd) 2)
def d_ow (M : x_X) (a b sd : Int) : Int := M (d_l a b sd) 12
def d_ed (li : Int → Int → Int) (M : x_X) (a b x y : Int) : Int := if x = 0 then 0 else if m_ah (li a b) (M a 10 + M a 11 + x) 0 (if y = 0 then 0 else M b 10 + M b 11 + y) (if y = 0 then 1 else 0) ≠ 0 then 1000000 else 0
def d_fs (lot : Int → Int) (a b x y : Int) : Int := if x < y ∨ (x = y ∧ lot a < lot b) then 1 else 0
def d_lst (ed : Int → Int → Int) (od : Int → Int → Int) (ow : Int → Int) (sd load has : Int) : Int := if sd = 1 then p_mix (od sd load) (ed load has) (ed (ow sd) has) else p_mix (od sd load) (ed has load) (ed has (ow sd))
def d_bt (sd v than : Int) : Int := if sd = 1 then (if than < v then 1 else 0) else (if v < than then 1 else 0)
def d_as (L : Int → Int) (sd : Int) : Nat → Int → Int → Int
  | 0, _, best => best
  | n + 1, x, best => d_as L sd n (x + 1) (if d_bt sd (L x) best = 0 then best else L x)
def d_ans (ed : Int → Int → Int) (od : Int → Int → Int) (ow : Int → Int) (sd load ch has : Int) : Int := d_as (fun x => d_lst ed od ow sd x has) sd (if ch > 0 then (40 - load).toNat else 0) (load + 1) (d_lst ed od ow sd load has)
def d_b0 (ed : Int → Int → Int) (od : Int → Int → Int) (ow : Int → Int) (sd load ol oc : Int) : Int := p_mix (od sd load) (d_ans ed od ow (1 - sd) ol oc load) (d_ans ed od ow (1 - sd) ol oc (ow sd))
def d_sc (V : Int → Int) (sd : Int) : Nat → Int → Int → Int → Int × Int
  | 0, _, best, at_ => (best, at_)
  | n + 1, x, best, at_ => if d_bt sd (V x) best = 0 then d_sc V sd n (x + 1) best at_ else d_sc V sd n (x + 1) (V x) x
def d_of (ed : Int → Int → Int) (od : Int → Int → Int) (ow : Int → Int) (fs : Int → Int → Int) : Nat → Int → Int → Int → Int → Int × Int
  | 0, _, _, _, _ => (0, 0)
  | k + 1, x, y, m, o => if fs x y = 0 then d_sc (fun z => (d_of ed od ow fs k x z m (o - 1)).1) 0 (if o > 0 then (40 - y).toNat else 0) (y + 1) (d_b0 ed od ow 0 y x m) 0 else d_sc (fun z => (d_of ed od ow fs k z y (m - 1) o).1) 1 (if m > 0 then (40 - x).toNat else 0) (x + 1) (d_b0 ed od ow 1 x y o) 0
theorem d_sc_0 (V : Int → Int) (sd x best at_ : Int) : d_sc V sd 0 x best at_ = (best, at_) := rfl
theorem x_01R {z : Int} (h : 0 ≤ z ∧ z ≤ 1) : xR z := ⟨by omega, by omega⟩
theorem d_of_m {ed : Int → Int → Int} {od : Int → Int → Int} {ow : Int → Int} {fs : Int → Int → Int} : ∀ (k : Nat) (x y m o : Int), (0 ≤ m ∧ 0 ≤ o) → m + o < k → d_of ed od ow fs k x y m o = d_of ed od ow fs (k + 1) x y m o
  | 0, x, y, m, o, h1, h2 => by omega
  | k + 1, x, y, m, o, h1, h2 => by
    conv => lhs; unfold d_of
    conv => rhs; unfold d_of
    by_cases q : fs x y = 0
    · rw [if_pos q, if_pos q]
      by_cases q2 : o > 0
      · rw [if_pos q2]
        refine congrArg (fun V : Int → Int => d_sc V 0 (40 - y).toNat (y + 1) (d_b0 ed od ow 0 y x m) 0) (funext fun z => ?_)
        rw [d_of_m k _ _ _ _ (by omega) (by omega)]
      · rw [if_neg q2, d_sc_0, d_sc_0]
    · rw [if_neg q, if_neg q]
      by_cases q2 : m > 0
      · rw [if_pos q2]
        refine congrArg (fun V : Int → Int => d_sc V 1 (40 - x).toNat (x + 1) (d_b0 ed od ow 1 x y o) 0) (funext fun z => ?_)
        rw [d_of_m k _ _ _ _ (by omega) (by omega)]
      · rw [if_neg q2, d_sc_0, d_sc_0]
/-- the duel's value and choice, one step -/
theorem d_ofE {ed : Int → Int → Int} {od : Int → Int → Int} {ow : Int → Int} {fs : Int → Int → Int} {x y m o : Int} (h1 : 0 ≤ m ∧ 0 ≤ o) (h2 : m + o < 5) : d_of ed od ow fs 5 x y m o = if fs x y = 0 then d_sc (fun z => (d_of ed od ow fs 5 x z m (o - 1)).1) 0 (if o > 0 then (40 - y).toNat else 0) (y + 1) (d_b0 ed od ow 0 y x m) 0 else d_sc (fun z => (d_of ed od ow fs 5 z y (m - 1) o).1) 1 (if m > 0 then (40 - x).toNat else 0) (x + 1) (d_b0 ed od ow 1 x y o) 0 := by
  conv => lhs; unfold d_of
  by_cases q : fs x y = 0
  · rw [if_pos q, if_pos q]
    by_cases q2 : o > 0
    · rw [if_pos q2]
      refine congrArg (fun V : Int → Int => d_sc V 0 (40 - y).toNat (y + 1) (d_b0 ed od ow 0 y x m) 0) (funext fun z => ?_)
      rw [d_of_m 4 _ _ _ _ (by omega) (by omega)]
    · rw [if_neg q2, d_sc_0, d_sc_0]
  · rw [if_neg q, if_neg q]
    by_cases q2 : m > 0
    · rw [if_pos q2]
      refine congrArg (fun V : Int → Int => d_sc V 1 (40 - x).toNat (x + 1) (d_b0 ed od ow 1 x y o) 0) (funext fun z => ?_)
      rw [d_of_m 4 _ _ _ _ (by omega) (by omega)]
    · rw [if_neg q2, d_sc_0, d_sc_0]
theorem d_bt_r (sd v than : Int) : 0 ≤ d_bt sd v than ∧ d_bt sd v than ≤ 1 := by unfold d_bt; repeat' split <;> omega
theorem d_ed_r (li : Int → Int → Int) (M : x_X) (a b x y : Int) : 0 ≤ d_ed li M a b x y ∧ d_ed li M a b x y ≤ 1000000 := by unfold d_ed; repeat' split <;> omega
def d_R (od : Int → Int → Int) (ed : Int → Int → Int) : Prop := (∀ sd x, 0 ≤ od sd x ∧ od sd x ≤ 1000) ∧ ∀ x y, 0 ≤ ed x y ∧ ed x y ≤ 1000000
theorem d_lst_r {ed od : Int → Int → Int} {ow : Int → Int} (h : d_R od ed) (sd load has : Int) : 0 ≤ d_lst ed od ow sd load has ∧ d_lst ed od ow sd load has ≤ 1000000 := by
  unfold d_lst
  split
  · exact (p_mix_r (h.1 _ _) (h.2 _ _) (h.2 _ _)).2
  · exact (p_mix_r (h.1 _ _) (h.2 _ _) (h.2 _ _)).2
theorem d_as_r {L : Int → Int} {sd : Int} (h : ∀ x, 0 ≤ L x ∧ L x ≤ 1000000) : ∀ (n : Nat) (x best : Int), (0 ≤ best ∧ best ≤ 1000000) → 0 ≤ d_as L sd n x best ∧ d_as L sd n x best ≤ 1000000
  | 0, _, _, hb => hb
  | n + 1, x, best, hb => by
    unfold d_as
    split
    · exact d_as_r h n _ _ hb
    · exact d_as_r h n _ _ (h x)
theorem d_ans_r {ed od : Int → Int → Int} {ow : Int → Int} (h : d_R od ed) (sd load ch has : Int) : 0 ≤ d_ans ed od ow sd load ch has ∧ d_ans ed od ow sd load ch has ≤ 1000000 := d_as_r (fun x => d_lst_r h sd x has) _ _ _ (d_lst_r h sd load has)
theorem d_b0_r {ed od : Int → Int → Int} {ow : Int → Int} (h : d_R od ed) (sd load ol oc : Int) : 0 ≤ d_b0 ed od ow sd load ol oc ∧ d_b0 ed od ow sd load ol oc ≤ 1000000 := (p_mix_r (h.1 _ _) (d_ans_r h _ _ _ _) (d_ans_r h _ _ _ _)).2
theorem d_sc_r {V : Int → Int} {sd : Int} (h : ∀ x, 0 ≤ V x ∧ V x ≤ 1000000) : ∀ (n : Nat) (x best at_ : Int), (0 ≤ best ∧ best ≤ 1000000) → (0 ≤ at_ ∧ at_ ≤ 40) → (0 ≤ x ∧ x + n ≤ 41) → (0 ≤ (d_sc V sd n x best at_).1 ∧ (d_sc V sd n x best at_).1 ≤ 1000000) ∧ (0 ≤ (d_sc V sd n x best at_).2 ∧ (d_sc V sd n x best at_).2 ≤ 40)
  | 0, _, _, _, hb, ha, _ => ⟨hb, ha⟩
  | n + 1, x, best, at_, hb, ha, hx => by
    unfold d_sc
    split
    · exact d_sc_r h n _ _ _ hb ha (by omega)
    · exact d_sc_r h n _ _ _ (h x) (by omega) (by omega)
theorem d_of_r {ed od : Int → Int → Int} {ow : Int → Int} {fs : Int → Int → Int} (h : d_R od ed) : ∀ (k : Nat) (x y m o : Int), 0 ≤ (d_of ed od ow fs k x y m o).1 ∧ (d_of ed od ow fs k x y m o).1 ≤ 1000000
  | 0, _, _, _, _ => by simp [d_of]
  | k + 1, x, y, m, o => by
    have key : ∀ (V : Int → Int) (sd : Int), (∀ x, 0 ≤ V x ∧ V x ≤ 1000000) → ∀ (n : Nat) (x best at_ : Int), (0 ≤ best ∧ best ≤ 1000000) → 0 ≤ (d_sc V sd n x best at_).1 ∧ (d_sc V sd n x best at_).1 ≤ 1000000 := by
      intro V sd hV n
      induction n with
      | zero => intro x best at_ hb; exact hb
      | succ n ih =>
        intro x best at_ hb
        unfold d_sc
        split
        · exact ih _ _ _ hb
        · exact ih _ _ _ (hV x)
    unfold d_of
    split
    · exact key _ _ (fun z => d_of_r h k _ _ _ _) _ _ _ _ (d_b0_r h _ _ _ _)
    · exact key _ _ (fun z => d_of_r h k _ _ _ _) _ _ _ _ (d_b0_r h _ _ _ _)
/-! its picture in the store -/
def d_E (X : x_X) : Int → Int → Int := d_ed (c_li X) (c_M X 3) (X 60 3) (X 60 4)
def d_O (X : x_X) : Int → Int → Int := d_od (c_O X) (c_M X 3) (X 60 3) (X 60 4)
def d_W (X : x_X) : Int → Int := d_ow (c_M X 3) (X 60 3) (X 60 4)
def d_F (X : x_X) : Int → Int → Int := d_fs (c_lot X) (X 60 3) (X 60 4)
def d_H (κ : x_Ka) (X : x_X) : Prop := n_C κ X ∧ (0 ≤ X 60 3 ∧ X 60 3 < X 1 2) ∧ (0 ≤ X 60 4 ∧ X 60 4 < X 1 2) ∧ X 60 3 ≠ X 60 4
theorem d_H.k60 {κ : x_Ka} {X : x_X} (h : d_H κ X) : κ 60 = some (.inl (6, 1)) := h.1.1.1.1 0 0 h.1.1.2.1 16 (0, 60, .inl (6, 1)) rfl
theorem d_H.R {κ : x_Ka} {X : x_X} (h : d_H κ X) : d_R (d_O X) (d_E X) := by
  obtain ⟨⟨hI, hP, hO, hW, hJ⟩, ha, hb, hne⟩ := h
  refine ⟨fun sd x => ?_, fun x y => d_ed_r _ _ _ _ _ _⟩
  have hl : 0 ≤ d_l (X 60 3) (X 60 4) sd ∧ d_l (X 60 3) (X 60 4) sd < X 1 2 := by unfold d_l; split <;> assumption
  have w2 := hW.2.1 _ hl.1 hl.2
  unfold d_O d_od c_O
  rw [if_pos ⟨hl.1, hl.2, by omega, by omega⟩]
  exact l_odds_r (hO.1 _ hl.1 hl.2) ⟨by omega, by omega⟩ w2.1.1 hO.2.1
theorem c_X7_cell {l : Launch} {E : x_E} {κ : x_Ka} {X : x_X} {a b c_ d_ : Int}  : x_Pu l yX7_cell cX7_cell 5 (some .int) 0 E κ X [x_rf E 60, vi a, vi b, vi c_, vi d_] (vi (((3 * c_ + d_) * 41 + a) * 41 + b)) := by
  refine x_Met.of [(false, x_rf E 60), (false, vi a), (false, vi b), (false, vi c_), (false, vi d_)] [some (x_rf E 60), some (vi a), some (vi b), some (vi c_), some (vi d_)] 0 (by decide) rfl rfl ⟨x_cr E (60), rfl, rfl, rfl, rfl, trivial⟩ rfl rfl ?_
  intro p e s m args below meth c hargs hin B
  refine x_iconst B dX7_cell_0 ?_
  refine x_iload_n B dX7_cell_1 rfl ?_
  refine x_imul B dX7_cell_2 ?_
  refine x_iload B dX7_cell_3 rfl ?_
  refine x_iadd B dX7_cell_5 ?_
  refine x_bipush B dX7_cell_6 (by decide) ?_
  refine x_imul B dX7_cell_8 ?_
  refine x_iload_n B dX7_cell_9 rfl ?_
  refine x_iadd B dX7_cell_10 ?_
  refine x_bipush B dX7_cell_11 (by decide) ?_
  refine x_imul B dX7_cell_13 ?_
  refine x_iload_n B dX7_cell_14 rfl ?_
  refine x_iadd B dX7_cell_15 ?_
  refine x_iret B (fun _ _ h => h) ?_ dX7_cell_16
  exact ⟨rfl, rfl⟩
theorem c_X7_isFirst {l : Launch} {E : x_E} {κ : x_Ka} {X : x_X} {x y : Int} (h : d_H κ X) (hx : xR x) (hy : xR y) : x_Pu l yX7_isFirst cX7_isFirst 3 (some .boolean) 4 E κ X [x_rf E 60, vi x, vi y] (vi (d_F X x y)) := by
  refine x_Met.of [(false, x_rf E 60), (false, vi x), (false, vi y)] [some (x_rf E 60), some (vi x), some (vi y)] 0 (by decide) rfl rfl ⟨x_cr E (60), rfl, rfl, trivial⟩ rfl rfl ?_
  intro p e s m args below meth c hargs hin B
  obtain ⟨hC, ha, hb, hne⟩ := id h
  obtain ⟨hI, hP, hO, hW, hJ⟩ := id hC
  obtain ⟨hT, h0, hn, hl, hla⟩ := id hI
  have hk := h.k60
  have hm : κ 3 = some (.inl (2, 1)) := hT.1 0 0 h0 2 (0, 3, .inl (2, 1)) rfl
  refine x_aload_n B dX7_isFirst_0 rfl ?_
  refine x_getC0 B (k := 5) hT rfl rfl xc_6 (by decide) hk (Or.inl q341) (fun _ h => h) dX7_isFirst_1 (fun k_1 => ?_)
  refine x_getC0 B (k := 2) hT rfl rfl xc_0 (by decide) k_1 (Or.inr q399) (fun _ h => h) dX7_isFirst_4 (fun k_4 => ?_)
  refine x_aload_n B dX7_isFirst_7 rfl ?_
  refine x_getI B (k := 3) 3 rfl rfl xc_6 (by decide) hk (Or.inl q339) (fun _ h => h) dX7_isFirst_8 (fun r_8 => ?_)
  refine x_iload_n B dX7_isFirst_11 rfl ?_
  refine x_aload_n B dX7_isFirst_12 rfl ?_
  refine x_getI B (k := 4) 4 rfl rfl xc_6 (by decide) hk (Or.inl q340) (fun _ h => h) dX7_isFirst_13 (fun r_13 => ?_)
  refine x_iload_n B dX7_isFirst_16 rfl ?_
  refine x_goP (x_rVN B k_4 (show x_cl[2]? = some _ from rfl) (c_X2_isAheadAt hI hm ha hb hx hy) q1238 q804 qs15 q114 q805 hd_X2_isAheadAt ⟨by decide, by decide⟩ ⟨by decide, by decide⟩ rfl rfl (by simp [x_cr, x_c1, x_c2]) dX7_isFirst_17) ?_
  refine x_zret B (fun _ _ h => h) (by split <;> omega) ?_ dX7_isFirst_20
  exact ⟨rfl, rfl⟩
theorem c_X7_odds {l : Launch} {E : x_E} {κ : x_Ka} {X : x_X} {sd i load : Int} (h : d_H κ X) (hl2 : (sd = 1 ∧ i = X 60 3) ∨ (sd = 0 ∧ i = X 60 4)) (hx : xR load) : x_Pu l yX7_odds cX7_odds 3 (some .int) 3 E κ X [x_rf E 60, vi i, vi load] (vi (d_O X sd load)) := by
  refine x_Met.of [(false, x_rf E 60), (false, vi i), (false, vi load)] [some (x_rf E 60), some (vi i), some (vi load)] 0 (by decide) rfl rfl ⟨x_cr E (60), rfl, rfl, trivial⟩ rfl rfl ?_
  intro p e s m args below meth c hargs hin B
  obtain ⟨hC, ha, hb, hne⟩ := id h
  obtain ⟨hI, hP, hO, hW, hJ⟩ := id hC
  obtain ⟨hT, h0, hn, hl, hla⟩ := id hI
  have hk := h.k60
  have hdl : d_l (X 60 3) (X 60 4) sd = i := by unfold d_l; split <;> omega
  have hi : 0 ≤ i ∧ i < X 1 2 := by omega
  have w2 := hW.2.1 i hi.1 hi.2
  have s2 : c_M X 3 i 2 = X (3 + 1 + 1 + 2 * i) 2 := c_M_s hi (by omega)
  refine x_aload_n B dX7_odds_0 rfl ?_
  refine x_getC0 B (k := 5) hT rfl rfl xc_6 (by decide) hk (Or.inl q341) (fun _ h => h) dX7_odds_1 (fun k_1 => ?_)
  refine x_aload_n B dX7_odds_4 rfl ?_
  refine x_getC0 B (k := 5) hT rfl rfl xc_6 (by decide) hk (Or.inl q341) (fun _ h => h) dX7_odds_5 (fun k_5 => ?_)
  refine x_getC0 B (k := 0) hT rfl rfl xc_0 (by decide) k_5 (Or.inr q396) (fun _ h => h) dX7_odds_8 (fun k_8 => ?_)
  refine x_iload_n B dX7_odds_11 rfl ?_
  refine x_goP (x_rV B k_8 (show x_cl[1]? = some _ from rfl) (c_J2_get hT (by assumption) (by omega) ⟨by omega, by omega⟩) (lw_V q1257 q372 q373 q113 q374) hv_J2_get ⟨by decide, by decide⟩ ⟨by decide, by decide⟩ rfl rfl (by simp [x_cr, x_c1, x_c2]) dX7_odds_12) ?_
  refine x_cast B (hl _ (by omega) (by omega)) (show x_cl[8]? = some _ from rfl) q1258 dX7_odds_15 ?_
  refine x_iconst B dX7_odds_18 ?_
  refine x_iload_n B dX7_odds_19 rfl ?_
  refine x_aload_n B dX7_odds_20 rfl ?_
  refine x_getC0 B (k := 5) hT rfl rfl xc_6 (by decide) hk (Or.inl q341) (fun _ h => h) dX7_odds_21 (fun k_21 => ?_)
  refine x_getC0 B (k := 2) hT rfl rfl xc_0 (by decide) k_21 (Or.inr q399) (fun _ h => h) dX7_odds_24 (fun k_24 => ?_)
  refine x_getC1 B (k := 0) hT rfl rfl xc_2 (by decide) k_24 (Or.inr q243) (fun _ h => h) dX7_odds_27 (fun k_27 => ?_)
  refine x_iload_n B dX7_odds_30 rfl ?_
  refine x_aaldC B (t := 10) hT k_27 rfl rfl rfl rfl ⟨by omega, by omega⟩ dX7_odds_31 (fun k_31 => ?_)
  refine x_getI B (k := 2) 2 rfl rfl xc_3 (by decide) k_31 (Or.inr q202) (fun _ h => h) dX7_odds_32 (fun r_32 => ?_)
  refine x_goP (x_rVN B k_1 (show x_cl[0]? = some _ from rfl) (c_X1_oddsOf hT h0 (hl _ hi.1 hi.2) (hO.1 _ hi.1 hi.2) ⟨by omega, by omega⟩ hx ⟨by omega, by omega⟩ hO.2) q1259 q766 qs14 q110 q767 hd_X1_oddsOf ⟨by decide, by decide⟩ ⟨by decide, by decide⟩ rfl rfl (by simp [x_cr, x_c1, x_c2]) dX7_odds_35) ?_
  refine x_iret B (fun _ _ h => h) ?_ dX7_odds_38
  refine ⟨congrArg (fun z => some (vi z)) ?_, rfl⟩
  unfold d_O d_od
  rw [hdl]
  unfold c_O
  rw [if_pos ⟨hi.1, hi.2, by omega, by omega⟩, s2]
theorem c_X7_ended {l : Launch} {E : x_E} {κ : x_Ka} {X : x_X} {x y : Int} (h : d_H κ X) (hx : 0 ≤ x ∧ x ≤ 40) (hy : 0 ≤ y ∧ y ≤ 40) : x_Pu l yX7_ended cX7_ended 5 (some .int) 4 E κ X [x_rf E 60, vi x, vi y] (vi (d_E X x y)) := by
  refine x_Met.of [(false, x_rf E 60), (false, vi x), (false, vi y)] [some (x_rf E 60), some (vi x), some (vi y), none, none] 2 (by decide) rfl rfl ⟨x_cr E (60), rfl, rfl, trivial⟩ rfl rfl ?_
  intro p e s m args below meth c hargs hin B
  obtain ⟨hC, ha, hb, hne⟩ := id h
  obtain ⟨hI, hP, hO, hW, hJ⟩ := id hC
  obtain ⟨hT, h0, hn, hl, hla⟩ := id hI
  have hk := h.k60
  have w2 := hW.2.1 _ ha.1 ha.2
  have w3 := hW.2.1 _ hb.1 hb.2
  have p0 : c_M X 3 (X 60 3) 10 = X (3 + 1 + 1 + 2 * X 60 3 + 1) 0 := c_M_b ha (by omega)
  have p1 : c_M X 3 (X 60 3) 11 = X (3 + 1 + 1 + 2 * X 60 3 + 1) 1 := c_M_b ha (by omega)
  have r0 : c_M X 3 (X 60 4) 10 = X (3 + 1 + 1 + 2 * X 60 4 + 1) 0 := c_M_b hb (by omega)
  have r1 : c_M X 3 (X 60 4) 11 = X (3 + 1 + 1 + 2 * X 60 4 + 1) 1 := c_M_b hb (by omega)
  have hli : 0 ≤ c_li X (X 60 3) (X 60 4) ∧ c_li X (X 60 3) (X 60 4) ≤ 1 := m_li_r _ _ _ _
  have hm : κ 3 = some (.inl (2, 1)) := hT.1 0 0 h0 2 (0, 3, .inl (2, 1)) rfl
  refine x_aload_n B dX7_ended_0 rfl ?_
  refine x_getC0 B (k := 5) hT rfl rfl xc_6 (by decide) hk (Or.inl q341) (fun _ h => h) dX7_ended_1 (fun k_1 => ?_)
  refine x_getC0 B (k := 2) hT rfl rfl xc_0 (by decide) k_1 (Or.inr q399) (fun _ h => h) dX7_ended_4 (fun k_4 => ?_)
  refine x_getC1 B (k := 0) hT rfl rfl xc_2 (by decide) k_4 (Or.inr q243) (fun _ h => h) dX7_ended_7 (fun k_7 => ?_)
  refine x_aload_n B dX7_ended_10 rfl ?_
  refine x_getI B (k := 3) 3 rfl rfl xc_6 (by decide) hk (Or.inl q339) (fun _ h => h) dX7_ended_11 (fun r_11 => ?_)
  refine x_aaldC B (t := 10) hT k_7 rfl rfl rfl rfl ⟨by omega, by omega⟩ dX7_ended_14 (fun k_14 => ?_)
  refine x_getC1 B (k := 0) hT rfl rfl xc_3 (by decide) k_14 (Or.inr q193) (fun _ h => h) dX7_ended_15 (fun k_15 => ?_)
  refine x_iconst B dX7_ended_18 ?_
  refine x_iald B k_15 ⟨by omega, by omega⟩ dX7_ended_19 (fun r_19 => ?_)
  refine x_aload_n B dX7_ended_20 rfl ?_
  refine x_getC0 B (k := 5) hT rfl rfl xc_6 (by decide) hk (Or.inl q341) (fun _ h => h) dX7_ended_21 (fun k_21 => ?_)
  refine x_getC0 B (k := 2) hT rfl rfl xc_0 (by decide) k_21 (Or.inr q399) (fun _ h => h) dX7_ended_24 (fun k_24 => ?_)
  refine x_getC1 B (k := 0) hT rfl rfl xc_2 (by decide) k_24 (Or.inr q243) (fun _ h => h) dX7_ended_27 (fun k_27 => ?_)
  refine x_aload_n B dX7_ended_30 rfl ?_
  refine x_getI B (k := 3) 3 rfl rfl xc_6 (by decide) hk (Or.inl q339) (fun _ h => h) dX7_ended_31 (fun r_31 => ?_)
  refine x_aaldC B (t := 10) hT k_27 rfl rfl rfl rfl ⟨by omega, by omega⟩ dX7_ended_34 (fun k_34 => ?_)
  refine x_getC1 B (k := 0) hT rfl rfl xc_3 (by decide) k_34 (Or.inr q193) (fun _ h => h) dX7_ended_35 (fun k_35 => ?_)
  refine x_iconst B dX7_ended_38 ?_
  refine x_iald B k_35 ⟨by omega, by omega⟩ dX7_ended_39 (fun r_39 => ?_)
  refine x_iadd B dX7_ended_40 ?_
  refine x_ist_3 B dX7_ended_41 (by first | rfl | exact x_cr _ _) ?_
  refine x_aload_n B dX7_ended_42 rfl ?_
  refine x_getC0 B (k := 5) hT rfl rfl xc_6 (by decide) hk (Or.inl q341) (fun _ h => h) dX7_ended_43 (fun k_43 => ?_)
  refine x_getC0 B (k := 2) hT rfl rfl xc_0 (by decide) k_43 (Or.inr q399) (fun _ h => h) dX7_ended_46 (fun k_46 => ?_)
  refine x_getC1 B (k := 0) hT rfl rfl xc_2 (by decide) k_46 (Or.inr q243) (fun _ h => h) dX7_ended_49 (fun k_49 => ?_)
  refine x_aload_n B dX7_ended_52 rfl ?_
  refine x_getI B (k := 4) 4 rfl rfl xc_6 (by decide) hk (Or.inl q340) (fun _ h => h) dX7_ended_53 (fun r_53 => ?_)
  refine x_aaldC B (t := 10) hT k_49 rfl rfl rfl rfl ⟨by omega, by omega⟩ dX7_ended_56 (fun k_56 => ?_)
  refine x_getC1 B (k := 0) hT rfl rfl xc_3 (by decide) k_56 (Or.inr q193) (fun _ h => h) dX7_ended_57 (fun k_57 => ?_)
  refine x_iconst B dX7_ended_60 ?_
  refine x_iald B k_57 ⟨by omega, by omega⟩ dX7_ended_61 (fun r_61 => ?_)
  refine x_aload_n B dX7_ended_62 rfl ?_
  refine x_getC0 B (k := 5) hT rfl rfl xc_6 (by decide) hk (Or.inl q341) (fun _ h => h) dX7_ended_63 (fun k_63 => ?_)
  refine x_getC0 B (k := 2) hT rfl rfl xc_0 (by decide) k_63 (Or.inr q399) (fun _ h => h) dX7_ended_66 (fun k_66 => ?_)
  refine x_getC1 B (k := 0) hT rfl rfl xc_2 (by decide) k_66 (Or.inr q243) (fun _ h => h) dX7_ended_69 (fun k_69 => ?_)
  refine x_aload_n B dX7_ended_72 rfl ?_
  refine x_getI B (k := 4) 4 rfl rfl xc_6 (by decide) hk (Or.inl q340) (fun _ h => h) dX7_ended_73 (fun r_73 => ?_)
  refine x_aaldC B (t := 10) hT k_69 rfl rfl rfl rfl ⟨by omega, by omega⟩ dX7_ended_76 (fun k_76 => ?_)
  refine x_getC1 B (k := 0) hT rfl rfl xc_3 (by decide) k_76 (Or.inr q193) (fun _ h => h) dX7_ended_77 (fun k_77 => ?_)
  refine x_iconst B dX7_ended_80 ?_
  refine x_iald B k_77 ⟨by omega, by omega⟩ dX7_ended_81 (fun r_81 => ?_)
  refine x_iadd B dX7_ended_82 ?_
  refine x_istw_4 B dX7_ended_83 (by first | rfl | exact x_cr _ _) ?_
  refine x_iload_n B dX7_ended_85 rfl ?_
  refine x_if_ne B (tgt := 91) dX7_ended_86 (by decide) ⟨by omega, by omega⟩ (fun h_86 => ?_) (fun h_86 => ?_)
  · refine x_aload_n B dX7_ended_91 rfl ?_
    refine x_getC0 B (k := 5) hT rfl rfl xc_6 (by decide) hk (Or.inl q341) (fun _ h => h) dX7_ended_92 (fun k_92 => ?_)
    refine x_getC0 B (k := 2) hT rfl rfl xc_0 (by decide) k_92 (Or.inr q399) (fun _ h => h) dX7_ended_95 (fun k_95 => ?_)
    refine x_aload_n B dX7_ended_98 rfl ?_
    refine x_getI B (k := 3) 3 rfl rfl xc_6 (by decide) hk (Or.inl q339) (fun _ h => h) dX7_ended_99 (fun r_99 => ?_)
    refine x_iload_n B dX7_ended_102 rfl ?_
    refine x_iload_n B dX7_ended_103 rfl ?_
    refine x_iadd B dX7_ended_104 ?_
    refine x_iconst B dX7_ended_105 ?_
    refine x_aload_n B dX7_ended_106 rfl ?_
    refine x_getI B (k := 4) 4 rfl rfl xc_6 (by decide) hk (Or.inl q340) (fun _ h => h) dX7_ended_107 (fun r_107 => ?_)
    refine x_iload_n B dX7_ended_110 rfl ?_
    refine x_if_ne B (tgt := 118) dX7_ended_111 (by decide) ⟨by omega, by omega⟩ (fun h_111 => ?_) (fun h_111 => ?_)
    · refine x_iload B dX7_ended_118 rfl ?_
      refine x_iload_n B dX7_ended_120 rfl ?_
      refine x_iadd B dX7_ended_121 ?_
      refine x_iload_n B dX7_ended_122 rfl ?_
      refine x_if_ne B (tgt := 130) dX7_ended_123 (by decide) ⟨by omega, by omega⟩ (fun h_123 => ?_) (fun h_123 => ?_)
      · refine x_iconst B dX7_ended_130 ?_
        refine x_goP (x_rV B k_95 (show x_cl[2]? = some _ from rfl) (c_X2_isAhead_2 hI hm ha hb ⟨by omega, by omega⟩ ⟨by omega, by omega⟩ ⟨by omega, by omega⟩ ⟨by omega, by omega⟩) (lw_V q1251 q927 q928 q114 q929) hv_X2_isAhead_2 ⟨by decide, by decide⟩ ⟨by decide, by decide⟩ rfl rfl (by simp [x_cr, x_c1, x_c2]) dX7_ended_131) ?_
        refine x_if_eq B (tgt := 142) dX7_ended_134 (by decide) (x_01R (m_ah_r hli ⟨by omega, by omega⟩)) (fun h_134 => ?_) (fun h_134 => ?_)
        · refine x_iconst B dX7_ended_142 ?_
          refine x_iret B (fun _ _ h => h) ?_ dX7_ended_143
          exact ⟨congrArg (fun z => some (vi z)) (by unfold d_E d_ed; first | (exfalso; omega) | (rw [if_neg (by omega), p0, p1, r0, r1]; first | (rw [if_pos (show y = 0 by omega), if_pos (show y = 0 by omega)]; first | rw [if_pos h_134] | rw [if_neg (fun q => q h_134)]) | (rw [if_neg (show ¬ y = 0 by omega), if_neg (show ¬ y = 0 by omega)]; first | rw [if_pos h_134] | rw [if_neg (fun q => q h_134)]))), rfl⟩
        · refine x_ldc B (1000000) q1252 (by decide) dX7_ended_137 ?_
          refine x_goto B (tgt := 143) dX7_ended_139 (by decide) ?_
          refine x_iret B (fun _ _ h => h) ?_ dX7_ended_143
          exact ⟨congrArg (fun z => some (vi z)) (by unfold d_E d_ed; first | (exfalso; omega) | (rw [if_neg (by omega), p0, p1, r0, r1]; first | (rw [if_pos (show y = 0 by omega), if_pos (show y = 0 by omega)]; first | rw [if_pos h_134] | rw [if_neg (fun q => q h_134)]) | (rw [if_neg (show ¬ y = 0 by omega), if_neg (show ¬ y = 0 by omega)]; first | rw [if_pos h_134] | rw [if_neg (fun q => q h_134)]))), rfl⟩
      · refine x_iconst B dX7_ended_126 ?_
        refine x_goto B (tgt := 131) dX7_ended_127 (by decide) ?_
        refine x_goP (x_rV B k_95 (show x_cl[2]? = some _ from rfl) (c_X2_isAhead_2 hI hm ha hb ⟨by omega, by omega⟩ ⟨by omega, by omega⟩ ⟨by omega, by omega⟩ ⟨by omega, by omega⟩) (lw_V q1251 q927 q928 q114 q929) hv_X2_isAhead_2 ⟨by decide, by decide⟩ ⟨by decide, by decide⟩ rfl rfl (by simp [x_cr, x_c1, x_c2]) dX7_ended_131) ?_
        refine x_if_eq B (tgt := 142) dX7_ended_134 (by decide) (x_01R (m_ah_r hli ⟨by omega, by omega⟩)) (fun h_134 => ?_) (fun h_134 => ?_)
        · refine x_iconst B dX7_ended_142 ?_
          refine x_iret B (fun _ _ h => h) ?_ dX7_ended_143
          exact ⟨congrArg (fun z => some (vi z)) (by unfold d_E d_ed; first | (exfalso; omega) | (rw [if_neg (by omega), p0, p1, r0, r1]; first | (rw [if_pos (show y = 0 by omega), if_pos (show y = 0 by omega)]; first | rw [if_pos h_134] | rw [if_neg (fun q => q h_134)]) | (rw [if_neg (show ¬ y = 0 by omega), if_neg (show ¬ y = 0 by omega)]; first | rw [if_pos h_134] | rw [if_neg (fun q => q h_134)]))), rfl⟩
        · refine x_ldc B (1000000) q1252 (by decide) dX7_ended_137 ?_
          refine x_goto B (tgt := 143) dX7_ended_139 (by decide) ?_
          refine x_iret B (fun _ _ h => h) ?_ dX7_ended_143
          exact ⟨congrArg (fun z => some (vi z)) (by unfold d_E d_ed; first | (exfalso; omega) | (rw [if_neg (by omega), p0, p1, r0, r1]; first | (rw [if_pos (show y = 0 by omega), if_pos (show y = 0 by omega)]; first | rw [if_pos h_134] | rw [if_neg (fun q => q h_134)]) | (rw [if_neg (show ¬ y = 0 by omega), if_neg (show ¬ y = 0 by omega)]; first | rw [if_pos h_134] | rw [if_neg (fun q => q h_134)]))), rfl⟩
    · refine x_iconst B dX7_ended_114 ?_
      refine x_goto B (tgt := 122) dX7_ended_115 (by decide) ?_
      refine x_iload_n B dX7_ended_122 rfl ?_
      refine x_if_ne B (tgt := 130) dX7_ended_123 (by decide) ⟨by omega, by omega⟩ (fun h_123 => ?_) (fun h_123 => ?_)
      · refine x_iconst B dX7_ended_130 ?_
        refine x_goP (x_rV B k_95 (show x_cl[2]? = some _ from rfl) (c_X2_isAhead_2 hI hm ha hb ⟨by omega, by omega⟩ ⟨by omega, by omega⟩ ⟨by omega, by omega⟩ ⟨by omega, by omega⟩) (lw_V q1251 q927 q928 q114 q929) hv_X2_isAhead_2 ⟨by decide, by decide⟩ ⟨by decide, by decide⟩ rfl rfl (by simp [x_cr, x_c1, x_c2]) dX7_ended_131) ?_
        refine x_if_eq B (tgt := 142) dX7_ended_134 (by decide) (x_01R (m_ah_r hli ⟨by omega, by omega⟩)) (fun h_134 => ?_) (fun h_134 => ?_)
        · refine x_iconst B dX7_ended_142 ?_
          refine x_iret B (fun _ _ h => h) ?_ dX7_ended_143
          exact ⟨congrArg (fun z => some (vi z)) (by unfold d_E d_ed; first | (exfalso; omega) | (rw [if_neg (by omega), p0, p1, r0, r1]; first | (rw [if_pos (show y = 0 by omega), if_pos (show y = 0 by omega)]; first | rw [if_pos h_134] | rw [if_neg (fun q => q h_134)]) | (rw [if_neg (show ¬ y = 0 by omega), if_neg (show ¬ y = 0 by omega)]; first | rw [if_pos h_134] | rw [if_neg (fun q => q h_134)]))), rfl⟩
        · refine x_ldc B (1000000) q1252 (by decide) dX7_ended_137 ?_
          refine x_goto B (tgt := 143) dX7_ended_139 (by decide) ?_
          refine x_iret B (fun _ _ h => h) ?_ dX7_ended_143
          exact ⟨congrArg (fun z => some (vi z)) (by unfold d_E d_ed; first | (exfalso; omega) | (rw [if_neg (by omega), p0, p1, r0, r1]; first | (rw [if_pos (show y = 0 by omega), if_pos (show y = 0 by omega)]; first | rw [if_pos h_134] | rw [if_neg (fun q => q h_134)]) | (rw [if_neg (show ¬ y = 0 by omega), if_neg (show ¬ y = 0 by omega)]; first | rw [if_pos h_134] | rw [if_neg (fun q => q h_134)]))), rfl⟩
      · refine x_iconst B dX7_ended_126 ?_
        refine x_goto B (tgt := 131) dX7_ended_127 (by decide) ?_
        refine x_goP (x_rV B k_95 (show x_cl[2]? = some _ from rfl) (c_X2_isAhead_2 hI hm ha hb ⟨by omega, by omega⟩ ⟨by omega, by omega⟩ ⟨by omega, by omega⟩ ⟨by omega, by omega⟩) (lw_V q1251 q927 q928 q114 q929) hv_X2_isAhead_2 ⟨by decide, by decide⟩ ⟨by decide, by decide⟩ rfl rfl (by simp [x_cr, x_c1, x_c2]) dX7_ended_131) ?_
        refine x_if_eq B (tgt := 142) dX7_ended_134 (by decide) (x_01R (m_ah_r hli ⟨by omega, by omega⟩)) (fun h_134 => ?_) (fun h_134 => ?_)
        · refine x_iconst B dX7_ended_142 ?_
          refine x_iret B (fun _ _ h => h) ?_ dX7_ended_143
          exact ⟨congrArg (fun z => some (vi z)) (by unfold d_E d_ed; first | (exfalso; omega) | (rw [if_neg (by omega), p0, p1, r0, r1]; first | (rw [if_pos (show y = 0 by omega), if_pos (show y = 0 by omega)]; first | rw [if_pos h_134] | rw [if_neg (fun q => q h_134)]) | (rw [if_neg (show ¬ y = 0 by omega), if_neg (show ¬ y = 0 by omega)]; first | rw [if_pos h_134] | rw [if_neg (fun q => q h_134)]))), rfl⟩
        · refine x_ldc B (1000000) q1252 (by decide) dX7_ended_137 ?_
          refine x_goto B (tgt := 143) dX7_ended_139 (by decide) ?_
          refine x_iret B (fun _ _ h => h) ?_ dX7_ended_143
          exact ⟨congrArg (fun z => some (vi z)) (by unfold d_E d_ed; first | (exfalso; omega) | (rw [if_neg (by omega), p0, p1, r0, r1]; first | (rw [if_pos (show y = 0 by omega), if_pos (show y = 0 by omega)]; first | rw [if_pos h_134] | rw [if_neg (fun q => q h_134)]) | (rw [if_neg (show ¬ y = 0 by omega), if_neg (show ¬ y = 0 by omega)]; first | rw [if_pos h_134] | rw [if_neg (fun q => q h_134)]))), rfl⟩
  · refine x_iconst B dX7_ended_89 ?_
    refine x_iret B (fun _ _ h => h) ?_ dX7_ended_90
    exact ⟨congrArg (fun z => some (vi z)) (by unfold d_E d_ed; rw [if_pos (by omega)]), rfl⟩
