/-! ===== queries leave the core as it was ===== -/
def k_eq (X Y : x_X) : Prop := (∀ a, 1 ≤ a → a ≤ 36 → a ≠ 32 → (a < 17 ∨ 30 < a) → Y a = X a) ∧ (∀ a, 64 ≤ a → a < X (-1) 0 → Y a = X a) ∧ (Y 0 1 = X 0 1 ∧ Y 0 5 = X 0 5 ∧ Y 0 12 = X 0 12) ∧ X (-1) 0 ≤ Y (-1) 0
def r_eq (X Y : x_X) : Prop := Y 32 = X 32 ∧ Y 0 7 = X 0 7
def f_eq (X Y : x_X) : Prop := ∀ a, 38 ≤ a → a ≤ 52 → Y a = X a
theorem k_eq.rf (X : x_X) : k_eq X X := ⟨fun _ _ _ _ _ => rfl, fun _ _ _ => rfl, ⟨rfl, rfl, rfl⟩, Int.le_refl _⟩
theorem k_eq.trans {X Y Z : x_X} (h : k_eq X Y) (h2 : k_eq Y Z) : k_eq X Z := ⟨fun a a1 a2 a3 a4 => (h2.1 a a1 a2 a3 a4).trans (h.1 a a1 a2 a3 a4), fun a a1 a2 => (h2.2.1 a a1 (by have := h.2.2.2; omega)).trans (h.2.1 a a1 a2), ⟨h2.2.2.1.1.trans h.2.2.1.1, h2.2.2.1.2.1.trans h.2.2.1.2.1, h2.2.2.1.2.2.trans h.2.2.1.2.2⟩, Int.le_trans h.2.2.2 h2.2.2.2⟩
theorem r_eq.trans {X Y Z : x_X} (h : r_eq X Y) (h2 : r_eq Y Z) : r_eq X Z := ⟨h2.1.trans h.1, h2.2.trans h.2⟩
theorem f_eq.trans {X Y Z : x_X} (h : f_eq X Y) (h2 : f_eq Y Z) : f_eq X Z := fun a a1 a2 => (h2 a a1 a2).trans (h a a1 a2)
/-- lifters lie above the fixed cells and below the heap's end -/
def n_low (X : x_X) : Prop := 88 ≤ X (-1) 0 ∧ ∀ l, 0 ≤ l → l < X 1 2 → X 2 l + 14 ≤ X (-1) 0
theorem k_eq.v {κ : x_Ka} {X Y : x_X} (h : k_eq X Y) (hI : n_I κ X) (hlo : n_low X) : v_eq X Y := ⟨fun a a1 a2 => h.1 a a1 (by omega) (by omega) (by omega), fun l l1 l2 j j1 j2 => h.2.1 _ (by have := hI.2.2.2.2 l l1 l2; omega) (by have := hlo.2 l l1 l2; omega), h.2.2.1.1⟩
theorem k_eq.low {X Y : x_X} (h : k_eq X Y) (hlo : n_low X) : n_low Y := by
  unfold n_low at *
  rw [h.1 1 (by omega) (by omega) (by omega) (by omega), h.1 2 (by omega) (by omega) (by omega) (by omega)]
  have := h.2.2.2
  exact ⟨by omega, fun l l1 l2 => by have := hlo.2 l l1 l2; omega⟩
/-- scratch cells may be written -/
theorem k_eq.up {X Y : x_X} (h : k_eq X Y) {a i z : Int} (ha : (17 ≤ a ∧ a ≤ 30) ∨ a = 32 ∨ (37 ≤ a ∧ a ≤ 63) ∨ X (-1) 0 ≤ a) (hlo : 88 ≤ X (-1) 0) : k_eq X (x_up Y a i z) :=
  ⟨fun b b1 b2 b3 b4 => by rw [x_up_o Y (by omega)]; exact h.1 b b1 b2 b3 b4, fun b b1 b2 => by rw [x_up_o Y (by omega)]; exact h.2.1 b b1 b2, by rw [x_up_o Y (by omega)]; exact h.2.2.1, by rw [x_up_o Y (by omega)]; exact h.2.2.2⟩
theorem k_eq.up7 {X Y : x_X} (h : k_eq X Y) {i z : Int} (hi : i = 7 ∨ i = 17) : k_eq X (x_up Y 0 i z) :=
  ⟨fun b b1 b2 b3 b4 => by rw [x_up_o Y (by omega)]; exact h.1 b b1 b2 b3 b4, fun b b1 b2 => by rw [x_up_o Y (by omega)]; exact h.2.1 b b1 b2, by rw [x_up_n Y (Or.inr (by omega)), x_up_n Y (Or.inr (by omega)), x_up_n Y (Or.inr (by omega))]; exact h.2.2.1, by rw [x_up_o Y (by omega)]; exact h.2.2.2⟩
theorem x_nw_o {X : x_X} {f : Int → Int} {a : Int} (h : a ≠ -1 ∧ a ≠ X (-1) 0) : x_nw X f a = X a := by
  funext i; unfold x_nw; rw [if_neg (by omega), if_neg (by omega)]
theorem x_nw_z {X : x_X} {f : Int → Int} : x_nw X f (-1) 0 = X (-1) 0 + 1 := if_pos ⟨rfl, rfl⟩
theorem x_nw_s {X : x_X} {f : Int → Int} (h : 0 ≤ X (-1) 0) : x_nw X f (X (-1) 0) = f := by
  funext i; unfold x_nw; rw [if_neg (by omega), if_pos rfl]
theorem k_eq.nw {X Y : x_X} (h : k_eq X Y) (f : Int → Int) (hlo : 88 ≤ X (-1) 0) : k_eq X (x_nw Y f) := by
  have := h.2.2.2
  exact ⟨fun b b1 b2 b3 b4 => by rw [x_nw_o (by omega)]; exact h.1 b b1 b2 b3 b4, fun b b1 b2 => by rw [x_nw_o (by omega)]; exact h.2.1 b b1 b2, by rw [x_nw_o (by omega)]; exact h.2.2.1, by rw [x_nw_z]; omega⟩
theorem r_eq.nw {X Y : x_X} (h : r_eq X Y) (f : Int → Int) (hlo : 88 ≤ Y (-1) 0) : r_eq X (x_nw Y f) := ⟨by rw [x_nw_o (by omega)]; exact h.1, by rw [x_nw_o (by omega)]; exact h.2⟩
theorem r_eq.up {X Y : x_X} (h : r_eq X Y) {a i z : Int} (ha : a ≠ 32 ∧ a ≠ 0) : r_eq X (x_up Y a i z) := ⟨by rw [x_up_o Y (by omega)]; exact h.1, by rw [x_up_o Y (by omega)]; exact h.2⟩
theorem f_eq.nw {X Y : x_X} (h : f_eq X Y) (f : Int → Int) (hlo : 88 ≤ Y (-1) 0) : f_eq X (x_nw Y f) := fun a a1 a2 => by rw [x_nw_o (by omega)]; exact h a a1 a2
theorem f_eq.up {X Y : x_X} (h : f_eq X Y) {a i z : Int} (ha : a < 38 ∨ 52 < a) : f_eq X (x_up Y a i z) := fun b b1 b2 => by rw [x_up_o Y (by omega)]; exact h b b1 b2
def x_raw (kd : x_k) : Prop := (∃ ci, kd = .inl (ci, 0)) ∨ ∃ t n, kd = .inr (t, n) ∧ x_af t = none
theorem x_T.ku {κ : x_Ka} {a : Int} {kd : x_k} (h : x_T κ) (hn : κ a = none) (hr : x_raw kd) : x_T (x_ku κ a kd) := by
  have up : ∀ b k, κ b = some k → x_ku κ a kd b = some k := x_ku_le hn
  refine ⟨fun b ci hb j q hq => up _ _ (h.1 b ci ?_ j q hq), fun b t n hb q hq j j1 j2 => up _ _ (h.2 b t n ?_ q hq j j1 j2)⟩
  · unfold x_ku at hb
    by_cases e : b = a
    · rw [if_pos e] at hb
      rcases hr with ⟨c, rfl⟩ | ⟨t, n, rfl, -⟩ <;> simp at hb
    · rwa [if_neg e] at hb
  · unfold x_ku at hb
    by_cases e : b = a
    · rw [if_pos e] at hb
      rcases hr with ⟨c, rfl⟩ | ⟨t', n', rfl, haf⟩
      · simp at hb
      · simp at hb
        rw [hb.1, hq] at haf
        cases haf
    · rwa [if_neg e] at hb
theorem n_C.ku {κ : x_Ka} {X : x_X} {a : Int} {kd : x_k} (h : n_C κ X) (hn : κ a = none) (hr : x_raw kd) : n_C (x_ku κ a kd) X := by
  obtain ⟨⟨hT, h0, hn2, hl, hla⟩, hP, hO, hW, hJ⟩ := h
  exact ⟨⟨hT.ku hn hr, x_ku_le hn _ _ h0, hn2, fun l l1 l2 => x_ku_le hn _ _ (hl l l1 l2), hla⟩, hP, hO, hW, hJ⟩
theorem a_bok.ku {κ : x_Ka} {X : x_X} {m a : Int} {kd : x_k} (h : a_bok κ X m) (hn : κ a = none) : a_bok (x_ku κ a kd) X m := ⟨x_ku_le hn _ _ h.1, x_ku_le hn _ _ h.2.1, h.2.2⟩
theorem x_Aim.ku {κ : x_Ka} {X : x_X} {m a : Int} {A : Int → Int} {kd : x_k} (h : x_Aim κ X m A) (hn : κ a = none) : x_Aim (x_ku κ a kd) X m A := by
  rcases h with h | h | h | h
  · exact Or.inl ⟨x_ku_le hn _ _ h.1, h.2⟩
  · exact Or.inr (Or.inl ⟨x_ku_le hn _ _ h.1, h.2⟩)
  · exact Or.inr (Or.inr (Or.inl ⟨h.1.ku hn, h.2⟩))
  · exact Or.inr (Or.inr (Or.inr ⟨x_ku_le hn _ _ h.1, x_ku_le hn _ _ h.2.1, h.2.2.1, fun k k1 k2 => (h.2.2.2.1 k k1 k2).ku hn, h.2.2.2.2⟩))
/-- n_low, out of the kinds -/
theorem n_I.lo {κ : x_Ka} {X : x_X} (hI : n_I κ X) (k87 : κ 87 = some (.inr (1, 1))) (hlow : ∀ a kd, κ a = some kd → 0 ≤ a ∧ a < X (-1) 0) : n_low X := by
  refine ⟨by have := hlow 87 _ k87; omega, fun l l1 l2 => ?_⟩
  have h1 := hI.1.1 _ 8 (hI.2.2.2.1 l l1 l2) 5 (1, 13, .inr (0, 3)) rfl
  have h2 : x_z (1, 13, Sum.inr (0, 3)) (X 2 l) = X 2 l + 13 := rfl
  rw [h2] at h1
  have := hlow _ _ h1
  omega
theorem c_X1_isLifter {l : Launch} {E : x_E} {κ : x_Ka} {X : x_X} {i : Int} (hI : n_I κ X) (hx : xR i) : x_Pu l yX1_isLifter cX1_isLifter 2 (some .boolean) 1 E κ X [x_rf E 0, vi i] (vi (x_in i 0 (X 1 2 - 1))) := by
  refine x_Met.of [(false, x_rf E 0), (false, vi i)] [some (x_rf E 0), some (vi i)] 0 (by decide) rfl rfl ⟨x_cr E (0), rfl, trivial⟩ rfl rfl ?_
  intro p e s m args below meth c hargs hin B
  obtain ⟨hT, h0, hn, hl, hla⟩ := id hI
  refine x_iload_n B dX1_isLifter_0 rfl ?_
  refine x_i2l B dX1_isLifter_1 ⟨by omega, by omega⟩ ?_
  refine x_lconst B 0 dX1_isLifter_2 (by decide) ?_
  refine x_aload_n B dX1_isLifter_3 rfl ?_
  refine x_getC0 B (k := 0) hT rfl rfl xc_0 (by decide) h0 (Or.inl q394) (fun _ h => h) dX1_isLifter_4 (fun k_4 => ?_)
  refine x_goP (x_rV B k_4 (show x_cl[1]? = some _ from rfl) (c_J2_size hT (by assumption)) (lw_V q643 q364 q365 q113 q366) hv_J2_size ⟨by decide, by decide⟩ ⟨by decide, by decide⟩ rfl rfl (by simp [x_cr, x_c1, x_c2]) dX1_isLifter_7) ?_
  refine x_iconst B dX1_isLifter_10 ?_
  refine x_isub B dX1_isLifter_11 ?_
  refine x_i2l B dX1_isLifter_12 ⟨by omega, by omega⟩ ?_
  refine x_goP (x_rS B (c_X1_in ⟨by omega, by omega⟩ ⟨by omega, by omega⟩ ⟨by omega, by omega⟩) (lw_S q464 q465 q110 q466) hd_X1_in ⟨by decide, by decide⟩ ⟨by decide, by decide⟩ rfl rfl (by simp [x_cr, x_c1, x_c2]) dX1_isLifter_13) ?_
  refine x_zret B (fun _ _ h => h) (x_in_01 _ _ _) ?_ dX1_isLifter_16
  exact ⟨rfl, rfl⟩
theorem c_X1_isLift {l : Launch} {E : x_E} {κ : x_Ka} {X : x_X} {i : Int} (hx : xR i) : x_Pu l yX1_isLift cX1_isLift 1 (some .boolean) 1 E κ X [vi i] (vi (x_in i 0 2)) := by
  refine x_Met.of [(false, vi i)] [some (vi i)] 0 (by decide) rfl rfl ⟨rfl, trivial⟩ rfl rfl ?_
  intro p e s m args below meth c hargs hin B
  refine x_iload_n B dX1_isLift_0 rfl ?_
  refine x_i2l B dX1_isLift_1 ⟨by omega, by omega⟩ ?_
  refine x_lconst B 0 dX1_isLift_2 (by decide) ?_
  refine x_ldc2 B (2) q742 (by decide) dX1_isLift_3 ?_
  refine x_goP (x_rS B (c_X1_in ⟨by omega, by omega⟩ ⟨by omega, by omega⟩ ⟨by omega, by omega⟩) (lw_S q464 q465 q110 q466) hd_X1_in ⟨by decide, by decide⟩ ⟨by decide, by decide⟩ rfl rfl (by simp [x_cr, x_c1, x_c2]) dX1_isLift_6) ?_
  refine x_zret B (fun _ _ h => h) (x_in_01 _ _ _) ?_ dX1_isLift_9
  exact ⟨rfl, rfl⟩
theorem c_X1_isGoal {l : Launch} {E : x_E} {κ : x_Ka} {X : x_X} {i : Int} (hx : xR i) : x_Pu l yX1_isGoal cX1_isGoal 1 (some .boolean) 1 E κ X [vi i] (vi (x_in i 0 121)) := by
  refine x_Met.of [(false, vi i)] [some (vi i)] 0 (by decide) rfl rfl ⟨rfl, trivial⟩ rfl rfl ?_
  intro p e s m args below meth c hargs hin B
  refine x_iload_n B dX1_isGoal_0 rfl ?_
  refine x_i2l B dX1_isGoal_1 ⟨by omega, by omega⟩ ?_
  refine x_lconst B 0 dX1_isGoal_2 (by decide) ?_
  refine x_ldc2 B (121) q1074 (by decide) dX1_isGoal_3 ?_
  refine x_goP (x_rS B (c_X1_in ⟨by omega, by omega⟩ ⟨by omega, by omega⟩ ⟨by omega, by omega⟩) (lw_S q464 q465 q110 q466) hd_X1_in ⟨by decide, by decide⟩ ⟨by decide, by decide⟩ rfl rfl (by simp [x_cr, x_c1, x_c2]) dX1_isGoal_6) ?_
  refine x_zret B (fun _ _ h => h) (x_in_01 _ _ _) ?_ dX1_isGoal_9
  exact ⟨rfl, rfl⟩
theorem c_X1_areTwo {l : Launch} {E : x_E} {κ : x_Ka} {X : x_X} {i j : Int} (hI : n_I κ X) (hx : xR i) (hy : xR j) : x_Pu l yX1_areTwo cX1_areTwo 3 (some .boolean) 2 E κ X [x_rf E 0, vi i, vi j] (vi (if x_in i 0 (X 1 2 - 1) = 1 ∧ x_in j 0 (X 1 2 - 1) = 1 ∧ i ≠ j then 1 else 0)) := by
  refine x_Met.of [(false, x_rf E 0), (false, vi i), (false, vi j)] [some (x_rf E 0), some (vi i), some (vi j)] 0 (by decide) rfl rfl ⟨x_cr E (0), rfl, rfl, trivial⟩ rfl rfl ?_
  intro p e s m args below meth c hargs hin B
  obtain ⟨hT, h0, hn, hl, hla⟩ := id hI
  have z1 := x_in_01 i 0 (X 1 2 - 1)
  have z2 := x_in_01 j 0 (X 1 2 - 1)
  refine x_aload_n B dX1_areTwo_0 rfl ?_
  refine x_iload_n B dX1_areTwo_1 rfl ?_
  refine x_goP (x_rV B h0 (show x_cl[0]? = some _ from rfl) (c_X1_isLifter hI ⟨by omega, by omega⟩) (lw_V q735 q737 qs13 q110 q738) hv_X1_isLifter ⟨by decide, by decide⟩ ⟨by decide, by decide⟩ rfl rfl (by simp [x_cr, x_c1, x_c2]) dX1_areTwo_2) ?_
  refine x_if_eq B (tgt := 25) dX1_areTwo_5 (by decide) ⟨by omega, by omega⟩ (fun h_5 => ?_) (fun h_5 => ?_)
  · refine x_iconst B dX1_areTwo_25 ?_
    refine x_zret B (fun _ _ h => h) ⟨by omega, by omega⟩ ?_ dX1_areTwo_26
    exact ⟨congrArg (fun z => some (vi z)) (by first | rw [if_pos ⟨by omega, by omega, by omega⟩] | rw [if_neg (by omega)]), rfl⟩
  · refine x_aload_n B dX1_areTwo_8 rfl ?_
    refine x_iload_n B dX1_areTwo_9 rfl ?_
    refine x_goP (x_rV B h0 (show x_cl[0]? = some _ from rfl) (c_X1_isLifter hI ⟨by omega, by omega⟩) (lw_V q735 q737 qs13 q110 q738) hv_X1_isLifter ⟨by decide, by decide⟩ ⟨by decide, by decide⟩ rfl rfl (by simp [x_cr, x_c1, x_c2]) dX1_areTwo_10) ?_
    refine x_if_eq B (tgt := 25) dX1_areTwo_13 (by decide) ⟨by omega, by omega⟩ (fun h_13 => ?_) (fun h_13 => ?_)
    · refine x_iconst B dX1_areTwo_25 ?_
      refine x_zret B (fun _ _ h => h) ⟨by omega, by omega⟩ ?_ dX1_areTwo_26
      exact ⟨congrArg (fun z => some (vi z)) (by first | rw [if_pos ⟨by omega, by omega, by omega⟩] | rw [if_neg (by omega)]), rfl⟩
    · refine x_iload_n B dX1_areTwo_16 rfl ?_
      refine x_iload_n B dX1_areTwo_17 rfl ?_
      refine x_icmp_eq B (tgt := 25) dX1_areTwo_18 (by decide) ⟨by omega, by omega⟩ ⟨by omega, by omega⟩ (fun h_18 => ?_) (fun h_18 => ?_)
      · refine x_iconst B dX1_areTwo_25 ?_
        refine x_zret B (fun _ _ h => h) ⟨by omega, by omega⟩ ?_ dX1_areTwo_26
        exact ⟨congrArg (fun z => some (vi z)) (by first | rw [if_pos ⟨by omega, by omega, by omega⟩] | rw [if_neg (by omega)]), rfl⟩
      · refine x_iconst B dX1_areTwo_21 ?_
        refine x_goto B (tgt := 26) dX1_areTwo_22 (by decide) ?_
        refine x_zret B (fun _ _ h => h) ⟨by omega, by omega⟩ ?_ dX1_areTwo_26
        exact ⟨congrArg (fun z => some (vi z)) (by first | rw [if_pos ⟨by omega, by omega, by omega⟩] | rw [if_neg (by omega)]), rfl⟩
theorem c_X1_tell {l : Launch} {E : x_E} {κ : x_Ka} {X : x_X} {z : Int} (hT : x_T κ) (h0 : κ 0 = some (.inl (0, 1))) (hr : 0 ≤ X 0 7 ∧ X 0 7 < 64) (hz : xR z) : x_Vo l yX1_tell cX1_tell 3 0 E κ X [x_rf E 0, vl z] (x_up (x_up X 32 (X 0 7) z) 0 7 (X 0 7 + 1)) := by
  refine x_Met.of [(false, x_rf E 0), (true, vl z)] [some (x_rf E 0), some (vl z), none] 0 (by decide) rfl rfl ⟨x_cr E (0), rfl, trivial⟩ rfl rfl ?_
  intro p e s m args below meth c hargs hin B
  have e7 : x_up X 32 (X 0 7) z 0 7 = X 0 7 := x_up_n X (Or.inl (by omega))
  refine x_aload_n B dX1_tell_0 rfl ?_
  refine x_getC0 B (k := 6) hT rfl rfl xc_0 (by decide) h0 (Or.inl q407) (fun _ h => h) dX1_tell_1 (fun k_1 => ?_)
  refine x_aload_n B dX1_tell_4 rfl ?_
  refine x_getI B (k := 7) 7 rfl rfl xc_0 (by decide) h0 (Or.inl q408) (fun _ h => h) dX1_tell_5 (fun r_5 => ?_)
  refine x_lload_n B dX1_tell_8 rfl ?_
  refine x_last B k_1 ⟨by omega, by omega⟩ ⟨by omega, by omega⟩ dX1_tell_9 ?_
  refine x_aload_n B dX1_tell_10 rfl ?_
  refine x_dup B dX1_tell_11 (by first | rfl | exact x_cr _ _) ?_
  refine x_getI B (k := 7) 7 rfl rfl xc_0 (by decide) h0 (Or.inl q408) (fun _ h => h) dX1_tell_12 (fun r_12 => ?_)
  refine x_iconst B dX1_tell_15 ?_
  refine x_iadd B dX1_tell_16 ?_
  refine x_putI B (k := 7) 7 rfl rfl rfl ⟨by first | omega | (simp only [x_up]; grind), by first | omega | (simp only [x_up]; grind)⟩ xc_0 (by decide) rfl nn_0_7 (fun _ => rfl) h0 (Or.inl q408) (fun _ h => h) dX1_tell_17 ?_
  refine x_vret B (fun _ _ h => h) ?_ dX1_tell_20
  exact ⟨rfl, by rw [e7]⟩
theorem c_J11_init {l : Launch} {E : x_E} {κ : x_Ka} {X : x_X} {a : Int} (ha : 0 ≤ a) : x_Vo l yJ11_init cJ11_init 1 1 E κ X [x_rf E a] (X) := by
  refine x_Met.of [(false, x_rf E a)] [some (x_rf E a)] 0 (by decide) rfl rfl ⟨x_cr E (a), trivial⟩ rfl rfl ?_
  intro p e s m args below meth c hargs hin B
  refine x_aload_n B dJ11_init_0 rfl ?_
  refine x_objI B (ha := by omega) q955 dJ11_init_1 (by decide) (by simp [x_cr, x_c1, x_c2]) ?_
  refine x_vret B (fun _ _ h => h) ?_ dJ11_init_4
  exact ⟨rfl, rfl⟩
theorem c_X14_init {l : Launch} {E : x_E} {κ : x_Ka} {X : x_X} {a : Int} (ha : 0 ≤ a) : x_Vo l yX14_init cX14_init 1 2 E κ X [x_rf E a] (X) := by
  refine x_Met.of [(false, x_rf E a)] [some (x_rf E a)] 0 (by decide) rfl rfl ⟨x_cr E (a), trivial⟩ rfl rfl ?_
  intro p e s m args below meth c hargs hin B
  refine x_aload_n B dX14_init_0 rfl ?_
  refine x_goV (x_rI B (by omega) (c_J11_init (by omega)) q952 q953 q135 q954 rfl hd_J11_init ⟨by decide, by decide⟩ ⟨by decide, by decide⟩ rfl rfl (by simp [x_cr, x_c1, x_c2]) dX14_init_1) ?_
  refine x_vret B (fun _ _ h => h) ?_ dX14_init_4
  exact ⟨rfl, rfl⟩
theorem c_X15_init {l : Launch} {E : x_E} {κ : x_Ka} {X : x_X} {a w : Int} (ha : 0 ≤ a) (hk : κ a = some (.inl (13, 0))) (hw : xR w) : x_Vo l yX15_init cX15_init 2 2 E κ X [x_rf E a, vi w] (x_up X a 0 w) := by
  refine x_Met.of [(false, x_rf E a), (false, vi w)] [some (x_rf E a), some (vi w)] 0 (by decide) rfl rfl ⟨x_cr E (a), rfl, trivial⟩ rfl rfl ?_
  intro p e s m args below meth c hargs hin B
  refine x_aload_n B dX15_init_0 rfl ?_
  refine x_goV (x_rI B (by omega) (c_J11_init (by omega)) q1080 q953 q135 q954 rfl hd_J11_init ⟨by decide, by decide⟩ ⟨by decide, by decide⟩ rfl rfl (by simp [x_cr, x_c1, x_c2]) dX15_init_1) ?_
  refine x_aload_n B dX15_init_4 rfl ?_
  refine x_iload_n B dX15_init_5 rfl ?_
  refine x_putFI B (k := 0) 0 rfl rfl rfl ⟨by omega, by omega⟩ xc_13 (by decide) rfl hin rfl nn_13_0 (fun h => absurd h (by decide)) hk q1081 (fun _ h => h) dX15_init_6 ?_
  refine x_vret B (fun _ _ h => h) ?_ dX15_init_9
  exact ⟨rfl, rfl⟩
theorem c_X16_init {l : Launch} {E : x_E} {κ : x_Ka} {X : x_X} {a q w : Int} (ha : 0 ≤ a) (hk : κ a = some (.inl (14, 0))) (hw : 0 ≤ w ∧ w ≤ 1) : x_Vo l yX16_init cX16_init 3 2 E κ X [x_rf E a, x_rf E q, vi w] (x_up (x_up X a 0 q) a 1 w) := by
  refine x_Met.of [(false, x_rf E a), (false, x_rf E q), (false, vi w)] [some (x_rf E a), some (x_rf E q), some (vi w)] 0 (by decide) rfl rfl ⟨x_cr E (a), x_cr E (q), rfl, trivial⟩ rfl rfl ?_
  intro p e s m args below meth c hargs hin B
  refine x_aload_n B dX16_init_0 rfl ?_
  refine x_goV (x_rI B (by omega) (c_J11_init (by omega)) q1111 q953 q135 q954 rfl hd_J11_init ⟨by decide, by decide⟩ ⟨by decide, by decide⟩ rfl rfl (by simp [x_cr, x_c1, x_c2]) dX16_init_1) ?_
  refine x_aload_n B dX16_init_4 rfl ?_
  refine x_aload_n B dX16_init_5 rfl ?_
  refine x_putFA B (k := 0) 0 rfl rfl rfl xc_14 (by decide) rfl hin rfl nn_14_0 (fun h => absurd h (by decide)) hk q1112 (fun _ h => h) dX16_init_6 ?_
  refine x_aload_n B dX16_init_9 rfl ?_
  refine x_iload_n B dX16_init_10 rfl ?_
  refine x_putFZ B (k := 1) 1 rfl rfl rfl ⟨by omega, by omega⟩ xc_14 (by decide) rfl hin rfl nn_14_1 (fun h => absurd h (by decide)) hk q1113 (fun _ h => h) dX16_init_11 ?_
  refine x_vret B (fun _ _ h => h) ?_ dX16_init_14
  exact ⟨rfl, rfl⟩
theorem c_X17_init {l : Launch} {E : x_E} {κ : x_Ka} {X : x_X} {a q w : Int} (ha : 0 ≤ a) (hk : κ a = some (.inl (15, 0))) (hw : xR w) : x_Vo l yX17_init cX17_init 3 1 E κ X [x_rf E a, x_rf E q, vi w] (x_up (x_up X a 0 q) a 1 w) := by
  refine x_Met.of [(false, x_rf E a), (false, x_rf E q), (false, vi w)] [some (x_rf E a), some (x_rf E q), some (vi w)] 0 (by decide) rfl rfl ⟨x_cr E (a), x_cr E (q), rfl, trivial⟩ rfl rfl ?_
  intro p e s m args below meth c hargs hin B
  refine x_aload_n B dX17_init_0 rfl ?_
  refine x_objI B (ha := by omega) q1133 dX17_init_1 (by decide) (by simp [x_cr, x_c1, x_c2]) ?_
  refine x_aload_n B dX17_init_4 rfl ?_
  refine x_aload_n B dX17_init_5 rfl ?_
  refine x_putFA B (k := 0) 0 rfl rfl rfl xc_15 (by decide) rfl hin rfl nn_15_0 (fun h => absurd h (by decide)) hk q1134 (fun _ h => h) dX17_init_6 ?_
  refine x_aload_n B dX17_init_9 rfl ?_
  refine x_iload_n B dX17_init_10 rfl ?_
  refine x_putFI B (k := 1) 1 rfl rfl rfl ⟨by omega, by omega⟩ xc_15 (by decide) rfl hin rfl nn_15_1 (fun h => absurd h (by decide)) hk q1135 (fun _ h => h) dX17_init_11 ?_
  refine x_vret B (fun _ _ h => h) ?_ dX17_init_14
  exact ⟨rfl, rfl⟩
theorem q_plan_r {κ : x_Ka} {X : x_X} {A : Int → Int} {i : Int} (hC : n_C κ X) (hi : 0 ≤ i ∧ i < X 1 2) (hA : ∀ v, 0 ≤ v → v ≤ 120 → 0 ≤ A v ∧ A v ≤ 1000000) : 0 ≤ q_plan X A i ∧ q_plan X A i ≤ 1000000 := by
  obtain ⟨hI, hP, hO, hW, hJ⟩ := id hC
  have hOr : ∀ t x f, 0 ≤ t → t ≤ 2 → 0 ≤ f → 0 ≤ c_O X i t x f ∧ c_O X i t x f ≤ 1000 := fun t x f t1 t2 f0 => by
    unfold c_O; rw [if_pos ⟨hi.1, hi.2, t1, by omega⟩]; exact l_odds_r (hO.1 i hi.1 hi.2) ⟨t1, by omega⟩ f0 hO.2.1
  have hpr : ∀ t, 0 ≤ t → t ≤ 2 → 0 ≤ c_pl X i t 0 ∧ 0 ≤ c_pl X i t 1 ∧ 0 ≤ c_pl X i t 2 := fun t t1 t2 => by
    have := hP i hi.1 hi.2 t t1 (by omega)
    unfold c_pl
    rw [if_pos hi, if_pos hi, if_pos hi, Int.add_zero, show X 2 i + 11 + 1 = X 2 i + 12 by omega, show X 2 i + 11 + 2 = X 2 i + 13 by omega]
    omega
  have key : ∀ (k : Nat) (t sum tr fl best load : Int), (0 ≤ t ∧ t ≤ 2) → (0 ≤ sum ∧ sum ≤ 40 * t) → (0 ≤ best ∧ best ≤ 40) → 0 ≤ fl → 0 ≤ load → 0 ≤ p_w (c_O X i) (fun t => c_pl X i t 0) (fun t => c_pl X i t 1) (fun t => c_pl X i t 2) A k t sum tr fl best load ∧ p_w (c_O X i) (fun t => c_pl X i t 0) (fun t => c_pl X i t 1) (fun t => c_pl X i t 2) A k t sum tr fl best load ≤ 1000000 := by
    intro k
    induction k with
    | zero => intros; simp [p_w]
    | succ k ih =>
      intro t sum tr fl best load h1 h2 h3 h4 h5
      have hp := hpr t h1.1 h1.2
      unfold p_w
      split
      · split
        · exact hA _ (by omega) (by omega)
        · split
          · exact hA _ (by omega) (by omega)
          · have := hpr (t + 1) (by omega) (by omega)
            exact ih _ _ _ _ _ _ (by omega) (by omega) (by omega) (by omega) this.1
      · exact (p_mix_r (hOr _ _ _ h1.1 h1.2 h4) (ih _ _ _ _ _ _ h1 h2 (by omega) h4 (by omega)) (ih _ _ _ _ _ _ h1 h2 h3 (by omega) (by omega))).2
  have hs := m_sum_r hW hi.1 hi.2
  have w2 := hW.2.1 i hi.1 hi.2
  unfold q_plan p_now
  split
  · exact hA _ (by omega) (by omega)
  · rename_i q
    split
    · exact hA _ hs.1 hs.2
    · rename_i q2
      have hr := m_rest hW hi.1 hi.2 (by omega) q2
      have hw := hW.1.1
      split
      · unfold p_e
        split
        · exact hA _ (by omega) (by omega)
        · split
          · exact hA _ (by omega) (by omega)
          · have := hpr (c_M X 3 (-1) 1 + 1) (by omega) (by omega)
            exact key 12 _ _ _ _ _ _ (by omega) (by omega) (by omega) (by omega) this.1
      · exact key 12 _ _ _ _ _ _ (by omega) hr.1 hr.2 (by omega) (by omega)
theorem c_X1_mass {l : Launch} {E : x_E} {κ : x_Ka} {X : x_X} {i : Int} (hC : n_C κ X) (k87 : κ 87 = some (.inr (1, 1))) (hx : xR i) : x_Met l yX1_mass cX1_mass 2 (some .int) 58 1 0 E κ X [x_rf E 0, vi i] κ (fun v_ Y_ => v_ = some (vi (if x_in i 0 (X 1 2 - 1) = 1 then q_plan X (fun v => 1000 * v) i else -1)) ∧ k_eq X Y_ ∧ r_eq X Y_ ∧ f_eq X Y_) := by
  refine x_Met.of [(false, x_rf E 0), (false, vi i)] [some (x_rf E 0), some (vi i)] 0 (by decide) rfl rfl ⟨x_cr E (0), rfl, trivial⟩ rfl rfl ?_
  intro p e s m args below meth c hargs hin B
  obtain ⟨hI, hP, hO, hW, hJ⟩ := id hC
  obtain ⟨hT, h0, hn, hl, hla⟩ := id hI
  refine x_lows (fun hlow => ?_)
  have hlo := hI.lo k87 hlow
  have hlo0 := hlo.1
  have z1 := x_in_01 i 0 (X 1 2 - 1)
  refine x_aload_n B dX1_mass_0 rfl ?_
  refine x_iload_n B dX1_mass_1 rfl ?_
  refine x_goP (x_rV B h0 (show x_cl[0]? = some _ from rfl) (c_X1_isLifter hI ⟨by omega, by omega⟩) (lw_V q735 q737 qs13 q110 q738) hv_X1_isLifter ⟨by decide, by decide⟩ ⟨by decide, by decide⟩ rfl rfl (by simp [x_cr, x_c1, x_c2]) dX1_mass_2) ?_
  refine x_if_eq B (tgt := 24) dX1_mass_5 (by decide) ⟨by omega, by omega⟩ (fun h_5 => ?_) (fun h_5 => ?_)
  · refine x_iconst B dX1_mass_24 ?_
    refine x_wide (cells' := 1) (slots' := 0) (by omega) (by omega) ?_
    refine x_iret B (by first | exact (fun _ _ h => h) | exact (fun a k h => by simp only [x_ku]; grind) ) ?_ dX1_mass_25
    first
    | exact ⟨by rw [if_neg (by omega)], k_eq.rf X, ⟨rfl, rfl⟩, fun _ _ _ => rfl⟩
    | exact ⟨by rw [if_pos (by omega), hv1.q hn.2], (hk1.up (by omega) hlo0).up (by omega) hlo0, ((r_eq.nw ⟨rfl, rfl⟩ _ hlo0).up (by omega)).up (by omega), ((f_eq.nw (fun _ _ _ => rfl) _ hlo0).up (by omega)).up (by omega)⟩
  · have hi : 0 ≤ i ∧ i < X 1 2 := by unfold x_in at h_5; split at h_5 <;> omega
    refine x_aload_n B dX1_mass_8 rfl ?_
    refine x_iload_n B dX1_mass_9 rfl ?_
    refine x_new B xc_12 q947 q948 q136 (xd_12 E) xe_12 (by decide) (by decide) dX1_mass_10 (fun z_10 n_10 => ?_)
    have hr : x_raw (.inl (12, 0)) := Or.inl ⟨_, rfl⟩
    have hk1 := (k_eq.rf X).nw (x_df 12) hlo0
    have hv1 := hk1.v hI hlo
    have hC1 := (hv1.C hC).ku n_10 hr
    have e1 : x_nw X (x_df 12) 1 2 = X 1 2 := congrFun (hv1.1 1 (by omega) (by omega)) 2
    have h0 := x_ku_le (kd := .inl (12, 0)) n_10 _ _ h0
    have hA : x_Aim (x_ku κ (X (-1) 0) (.inl (12, 0))) (x_nw X (x_df 12)) (X (-1) 0) (fun v => 1000 * v) := Or.inl ⟨x_ku_s _ _ _, fun _ _ _ => rfl⟩
    refine x_dup B dX1_mass_13 (by first | rfl | exact x_cr _ _) ?_
    refine x_goV (x_rIN B (by omega) (c_X14_init (by omega)) q949 q950 q136 q951 rfl hd_X14_init ⟨by decide, by decide⟩ ⟨by decide, by decide⟩ rfl rfl (by simp [x_cr, x_c1, x_c2]) dX1_mass_14) ?_
    refine x_goP (x_rV B h0 (show x_cl[0]? = some _ from rfl) (c_X1_byPlan hC1 (by rw [e1]; exact hi) hA) (lw_V q957 q959 qs20 q110 q960) hv_X1_byPlan ⟨by decide, by decide⟩ ⟨by decide, by decide⟩ rfl rfl (by simp [x_cr, x_c1, x_c2]) dX1_mass_17) ?_
    refine x_l2i B dX1_mass_20 ?_
    refine x_goto B (tgt := 25) dX1_mass_21 (by decide) ?_
    refine x_wide (cells' := 1) (slots' := 0) (by omega) (by omega) ?_
    refine x_iret B (by first | exact (fun _ _ h => h) | exact (fun a k h => by simp only [x_ku]; grind) ) ?_ dX1_mass_25
    first
    | exact ⟨by rw [if_neg (by omega)], k_eq.rf X, ⟨rfl, rfl⟩, fun _ _ _ => rfl⟩
    | exact ⟨by rw [if_pos (by omega), hv1.q hn.2], (hk1.up (by omega) hlo0).up (by omega) hlo0, ((r_eq.nw ⟨rfl, rfl⟩ _ hlo0).up (by omega)).up (by omega), ((f_eq.nw (fun _ _ _ => rfl) _ hlo0).up (by omega)).up (by omega)⟩
