theorem c_X8_begins {l : Launch} {E : x_E} {κ : x_Ka} {X : x_X}  (hC : t_C κ X) : x_Met l yX8_begins cX8_begins 1 (some .int) 4 0 0 E κ X [x_rf E 64] κ (fun v_ Y_ => v_ = some (vi (X 64 3)) ∧ (∀ a9, a9 ≠ 72 → a9 ≠ 64 → Y_ a9 = (x_up X 64 0 0) a9) ∧ (∀ i9, i9 ≠ 13 → i9 ≠ 14 → Y_ 64 i9 = (x_up X 64 0 0) 64 i9) ∧ (Y_ 64 13 = 0 ∧ Y_ 64 14 = 0) ∧ t_M Y_ = m_beg ((x_up X 64 0 0) 64 3) (fun l9 t9 => t_p3 (x_up X 64 0 0) l9 t9 0) (t_M (x_up X 64 0 0)) ∧ ∀ a9, 0 ≤ a9 → a9 < (x_up X 64 0 0) 64 3 → Y_ 72 (3 + 10 * a9 + 2) = 0 ∧ Y_ 72 (3 + 10 * a9 + 3) = 0) := by
  refine x_Met.of [(false, x_rf E 64)] [some (x_rf E 64)] 0 (by decide) rfl rfl ⟨x_cr E (64), trivial⟩ rfl rfl ?_
  intro p e s m args below meth c hargs hin B
  obtain ⟨hK, hP, hO, hW, hLa⟩ := id hC
  obtain ⟨hT, h8, hn⟩ := id hK
  have hn0 := (t_nt.rf X).z (i := 0) (Or.inl rfl) 0
  have C0 := hn0.C hC
  obtain ⟨e3, eM, el, eli, ep, eO, eG⟩ := hn0.v
  have ebo : t_body (x_up X 64 0 0) = t_body X := t_body_e e3 (x_up_o _ (by omega))
  have x0o : ∀ b, b ≠ 64 → x_up X 64 0 0 b = X b := fun b hb => x_up_o _ hb
  have x0i : ∀ i, i ≠ 0 → x_up X 64 0 0 64 i = X 64 i := fun i hi => x_up_n _ (Or.inr hi)
  obtain ⟨hK0, hP0, hO0, hW0, hL0⟩ := id C0
  refine x_aload_n B dX8_begins_0 rfl ?_
  refine x_iconst B dX8_begins_1 ?_
  refine x_putI B (k := 0) 0 rfl rfl rfl ⟨by omega, by omega⟩ xc_7 (by decide) rfl nn_7_0 (fun _ => rfl) h8 (Or.inl q1335) (fun _ h => h) dX8_begins_2 ?_
  refine x_aload_n B dX8_begins_5 rfl ?_
  refine x_go (x_rV B h8 (show x_cl[7]? = some _ from rfl) (c_X8_meetBegins hK0 hP0) (lw_V q1509 q1511 qs48 q122 q1512) hv_X8_meetBegins ⟨by decide, by decide⟩ ⟨by decide, by decide⟩ rfl rfl (by simp [x_cr, x_c1, x_c2]) dX8_begins_6) (fun v_6 X_6 p_6 => ?_)
  obtain ⟨rfl, hp⟩ := p_6
  refine x_aload_n B dX8_begins_9 rfl ?_
  refine x_getI B (k := 3) 3 rfl rfl xc_7 (by decide) h8 (Or.inl q1338) (fun _ h => h) dX8_begins_10 (fun r_10 => ?_)
  rw [hp.2.1 3 (by omega) (by omega), e3]
  refine x_iret B (fun _ _ h => h) ?_ dX8_begins_13
  exact ⟨rfl, hp⟩
theorem c_X8_leaves {l : Launch} {E : x_E} {κ : x_Ka} {X : x_X}  (hC : t_C κ X) : x_Met l yX8_leaves cX8_leaves 1 (some .int) 4 0 0 E κ X [x_rf E 64] κ (fun v_ Y_ => if X 64 3 = 0 then (v_ = some (vi (-2)) ∧ Y_ = (x_up X 64 0 0)) else (v_ = some (vi (X 64 3 - 1)) ∧ (∀ a9, a9 ≠ 72 → a9 ≠ 64 → Y_ a9 = (x_up (x_up X 64 0 0) 64 3 (X 64 3 - 1)) a9) ∧ (∀ i9, i9 ≠ 13 → i9 ≠ 14 → Y_ 64 i9 = (x_up (x_up X 64 0 0) 64 3 (X 64 3 - 1)) 64 i9) ∧ (Y_ 64 13 = 0 ∧ Y_ 64 14 = 0) ∧ t_M Y_ = m_beg ((x_up (x_up X 64 0 0) 64 3 (X 64 3 - 1)) 64 3) (fun l9 t9 => t_p3 (x_up (x_up X 64 0 0) 64 3 (X 64 3 - 1)) l9 t9 0) (t_M (x_up (x_up X 64 0 0) 64 3 (X 64 3 - 1))) ∧ ∀ a9, 0 ≤ a9 → a9 < (x_up (x_up X 64 0 0) 64 3 (X 64 3 - 1)) 64 3 → Y_ 72 (3 + 10 * a9 + 2) = 0 ∧ Y_ 72 (3 + 10 * a9 + 3) = 0)) := by
  refine x_Met.of [(false, x_rf E 64)] [some (x_rf E 64)] 0 (by decide) rfl rfl ⟨x_cr E (64), trivial⟩ rfl rfl ?_
  intro p e s m args below meth c hargs hin B
  obtain ⟨hK, hP, hO, hW, hLa⟩ := id hC
  obtain ⟨hT, h8, hn⟩ := id hK
  have hn0 := (t_nt.rf X).z (i := 0) (Or.inl rfl) 0
  have C0 := hn0.C hC
  obtain ⟨e3, eM, el, eli, ep, eO, eG⟩ := hn0.v
  have ebo : t_body (x_up X 64 0 0) = t_body X := t_body_e e3 (x_up_o _ (by omega))
  have x0o : ∀ b, b ≠ 64 → x_up X 64 0 0 b = X b := fun b hb => x_up_o _ hb
  have x0i : ∀ i, i ≠ 0 → x_up X 64 0 0 64 i = X 64 i := fun i hi => x_up_n _ (Or.inr hi)
  obtain ⟨hK0, hP0, hO0, hW0, hL0⟩ := id C0
  have s3 : (x_up (x_up X 64 0 0) 64 3 (X 64 3 - 1)) 64 3 = X 64 3 - 1 := x_up_s _ _ _ _
  refine x_aload_n B dX8_leaves_0 rfl ?_
  refine x_iconst B dX8_leaves_1 ?_
  refine x_putI B (k := 0) 0 rfl rfl rfl ⟨by omega, by omega⟩ xc_7 (by decide) rfl nn_7_0 (fun _ => rfl) h8 (Or.inl q1335) (fun _ h => h) dX8_leaves_2 ?_
  refine x_aload_n B dX8_leaves_5 rfl ?_
  refine x_getI B (k := 3) 3 rfl rfl xc_7 (by decide) h8 (Or.inl q1338) (fun _ h => h) dX8_leaves_6 (fun r_6 => ?_)
  rw [e3] at r_6 ⊢
  refine x_if_ne B (tgt := 15) dX8_leaves_9 (by decide) ⟨by omega, by omega⟩ (fun h_9 => ?_) (fun h_9 => ?_)
  · refine x_aload_n B dX8_leaves_15 rfl ?_
    refine x_dup B dX8_leaves_16 (by first | rfl | exact x_cr _ _) ?_
    refine x_getI B (k := 3) 3 rfl rfl xc_7 (by decide) h8 (Or.inl q1338) (fun _ h => h) dX8_leaves_17 (fun r_17 => ?_)
    rw [e3] at r_17 ⊢
    refine x_iconst B dX8_leaves_20 ?_
    refine x_isub B dX8_leaves_21 ?_
    refine x_putI B (k := 3) 3 rfl rfl rfl ⟨by omega, by omega⟩ xc_7 (by decide) rfl nn_7_3 (fun _ => rfl) h8 (Or.inl q1338) (fun _ h => h) dX8_leaves_22 ?_
    have hKs : t_K κ (x_up (x_up X 64 0 0) 64 3 (X 64 3 - 1)) := by unfold t_K at *; rw [s3]; exact ⟨hT, h8, by omega⟩
    have hPs : t_P (x_up (x_up X 64 0 0) 64 3 (X 64 3 - 1)) := fun l l1 l2 t t1 t2 => by
      rw [s3] at l2
      have h := hP l l1 (by omega) t t1 t2
      have eq : ∀ w, 0 ≤ w → w < 3 → t_p3 (x_up (x_up X 64 0 0) 64 3 (X 64 3 - 1)) l t w = t_p3 X l t w := fun w w1 w2 => by unfold t_p3; rw [s3, if_pos ⟨l1, l2, t1, t2, w1, w2⟩, if_pos ⟨l1, by omega, t1, t2, w1, w2⟩, x_up_o _ (by omega), x_up_o _ (by omega)]
      rw [eq 0 (by omega) (by omega), eq 1 (by omega) (by omega), eq 2 (by omega) (by omega)]; exact h
    refine x_aload_n B dX8_leaves_25 rfl ?_
    refine x_go (x_rV B h8 (show x_cl[7]? = some _ from rfl) (c_X8_meetBegins hKs hPs) (lw_V q1509 q1511 qs48 q122 q1512) hv_X8_meetBegins ⟨by decide, by decide⟩ ⟨by decide, by decide⟩ rfl rfl (by simp [x_cr, x_c1, x_c2]) dX8_leaves_26) (fun v_26 X_26 p_26 => ?_)
    obtain ⟨rfl, hp⟩ := p_26
    refine x_aload_n B dX8_leaves_29 rfl ?_
    refine x_getI B (k := 3) 3 rfl rfl xc_7 (by decide) h8 (Or.inl q1338) (fun _ h => h) dX8_leaves_30 (fun r_30 => ?_)
    rw [hp.2.1 3 (by omega) (by omega), s3]
    refine x_iret B (fun _ _ h => h) ?_ dX8_leaves_33
    rw [if_neg (by omega)]; exact ⟨rfl, hp⟩
  · refine x_bipush B dX8_leaves_12 (by decide) ?_
    refine x_iret B (fun _ _ h => h) ?_ dX8_leaves_14
    rw [if_pos (by omega)]; exact ⟨rfl, rfl⟩
theorem t_P_up {X : x_X} {i t w v : Int} (hP : t_P X) (hi : 0 ≤ i ∧ i < X 64 3) (ht : 0 ≤ t ∧ t ≤ 2) (hw : 0 ≤ w ∧ w ≤ 2) (hv : (if w = 2 then 0 else 1) ≤ v ∧ v ≤ (if w = 0 then 40 else 9)) : t_P (x_up (x_up X 64 0 0) 71 (3 * (3 * i + t) + w) v) := fun a a1 a2 s s1 s2 => by
  have n3 : x_up (x_up X 64 0 0) 71 (3 * (3 * i + t) + w) v 64 3 = X 64 3 := by rw [x_up_o _ (by omega), x_up_n _ (Or.inr (by omega))]
  rw [n3] at a2
  have h := hP a a1 a2 s s1 s2
  have eq : ∀ q, 0 ≤ q → q < 3 → t_p3 (x_up (x_up X 64 0 0) 71 (3 * (3 * i + t) + w) v) a s q = if a = i ∧ s = t ∧ q = w then v else t_p3 X a s q := fun q q1 q2 => by
    by_cases e : a = i ∧ s = t ∧ q = w
    · rw [if_pos e]; unfold t_p3; rw [n3, if_pos ⟨a1, a2, s1, s2, q1, q2⟩, e.1, e.2.1, e.2.2, x_up_s]
    · rw [if_neg e]; unfold t_p3; rw [n3, if_pos ⟨a1, a2, s1, s2, q1, q2⟩, if_pos ⟨a1, a2, s1, s2, q1, q2⟩, x_up_n _ (Or.inr (by omega)), x_up_o _ (by omega)]
  rw [eq 0 (by omega) (by omega), eq 1 (by omega) (by omega), eq 2 (by omega) (by omega)]
  refine ⟨?_, ?_, ?_⟩
  · split
    · rename_i e; rw [if_neg (by omega), if_pos (by omega)] at hv; exact hv
    · exact h.1
  · split
    · rename_i e; rw [if_neg (by omega), if_neg (by omega)] at hv; exact hv
    · exact h.2.1
  · split
    · rename_i e; rw [if_pos (by omega), if_neg (by omega)] at hv; exact hv
    · exact h.2.2
theorem c_X8_plans {l : Launch} {E : x_E} {κ : x_Ka} {X : x_X} {i t w v : Int} (hC : t_C κ X) (hi0 : xR i) (ht0 : xR t) (hw0 : xR w) (hv0 : xR v) : x_Met l yX8_plans cX8_plans 6 (some .int) 4 0 0 E κ X [x_rf E 64, vi i, vi t, vi w, vi v] κ (fun v_ Y_ => if x_in i 0 (X 64 3 - 1) = 1 ∧ x_in t 0 2 = 1 ∧ x_in w 0 2 = 1 ∧ x_in v (if w = 2 then 0 else 1) (if w = 0 then 40 else 9) = 1 then (v_ = some (vi (t_p3 X i t w)) ∧ (∀ a9, a9 ≠ 72 → a9 ≠ 64 → Y_ a9 = (x_up (x_up X 64 0 0) 71 (3 * (3 * i + t) + w) v) a9) ∧ (∀ i9, i9 ≠ 13 → i9 ≠ 14 → Y_ 64 i9 = (x_up (x_up X 64 0 0) 71 (3 * (3 * i + t) + w) v) 64 i9) ∧ (Y_ 64 13 = 0 ∧ Y_ 64 14 = 0) ∧ t_M Y_ = m_beg ((x_up (x_up X 64 0 0) 71 (3 * (3 * i + t) + w) v) 64 3) (fun l9 t9 => t_p3 (x_up (x_up X 64 0 0) 71 (3 * (3 * i + t) + w) v) l9 t9 0) (t_M (x_up (x_up X 64 0 0) 71 (3 * (3 * i + t) + w) v)) ∧ ∀ a9, 0 ≤ a9 → a9 < (x_up (x_up X 64 0 0) 71 (3 * (3 * i + t) + w) v) 64 3 → Y_ 72 (3 + 10 * a9 + 2) = 0 ∧ Y_ 72 (3 + 10 * a9 + 3) = 0) else (v_ = some (vi (-1)) ∧ Y_ = (x_up X 64 0 0))) := by
  refine x_Met.of [(false, x_rf E 64), (false, vi i), (false, vi t), (false, vi w), (false, vi v)] [some (x_rf E 64), some (vi i), some (vi t), some (vi w), some (vi v), none] 1 (by decide) rfl rfl ⟨x_cr E (64), rfl, rfl, rfl, rfl, trivial⟩ rfl rfl ?_
  intro p e s m args below meth c hargs hin B
  obtain ⟨hK, hP, hO, hW, hLa⟩ := id hC
  obtain ⟨hT, h8, hn⟩ := id hK
  have z1 := x_in_01 i 0 (X 64 3 - 1)
  have z2 := x_in_01 t 0 2
  have z3 := x_in_01 w 0 2
  have hn0 := (t_nt.rf X).z (i := 0) (Or.inl rfl) 0
  have C0 := hn0.C hC
  obtain ⟨e3, eM, el, eli, ep, eO, eG⟩ := hn0.v
  have ebo : t_body (x_up X 64 0 0) = t_body X := t_body_e e3 (x_up_o _ (by omega))
  have x0o : ∀ b, b ≠ 64 → x_up X 64 0 0 b = X b := fun b hb => x_up_o _ hb
  have x0i : ∀ i, i ≠ 0 → x_up X 64 0 0 64 i = X 64 i := fun i hi => x_up_n _ (Or.inr hi)
  obtain ⟨hK0, hP0, hO0, hW0, hL0⟩ := id C0
  refine x_aload_n B dX8_plans_0 rfl ?_
  refine x_iconst B dX8_plans_1 ?_
  refine x_putI B (k := 0) 0 rfl rfl rfl ⟨by omega, by omega⟩ xc_7 (by decide) rfl nn_7_0 (fun _ => rfl) h8 (Or.inl q1335) (fun _ h => h) dX8_plans_2 ?_
  refine x_aload_n B dX8_plans_5 rfl ?_
  refine x_iload_n B dX8_plans_6 rfl ?_
  refine x_goP (x_rV B h8 (show x_cl[7]? = some _ from rfl) (c_X8_isLifter hK0 hi0) (lw_V q1553 q1555 qs57 q122 q1556) hv_X8_isLifter ⟨by decide, by decide⟩ ⟨by decide, by decide⟩ rfl rfl (by simp [x_cr, x_c1, x_c2]) dX8_plans_7) ?_
  rw [e3]
  refine x_if_eq B (tgt := 64) dX8_plans_10 (by decide) ⟨by omega, by omega⟩ (fun h_10 => ?_) (fun h_10 => ?_)
  · refine x_iconst B dX8_plans_64 ?_
    refine x_iret B (fun _ _ h => h) ?_ dX8_plans_65
    have hno : ¬ (x_in i 0 (X 64 3 - 1) = 1 ∧ x_in t 0 2 = 1 ∧ x_in w 0 2 = 1 ∧ x_in v (if w = 2 then 0 else 1) (if w = 0 then 40 else 9) = 1) := by
      intro q
      have q4 := q.2.2.2
      first
      | omega
      | (rw [if_pos (by omega), if_pos (by omega)] at q4; omega)
      | (rw [if_pos (by omega), if_neg (by omega)] at q4; omega)
      | (rw [if_neg (by omega), if_pos (by omega)] at q4; omega)
      | (rw [if_neg (by omega), if_neg (by omega)] at q4; omega)
    rw [if_neg hno]; exact ⟨rfl, rfl⟩
  · refine x_iload_n B dX8_plans_13 rfl ?_
    refine x_goP (x_rS B (c_X8_isLift ⟨by omega, by omega⟩) (lw_S q1557 q1558 q122 q1559) hd_X8_isLift ⟨by decide, by decide⟩ ⟨by decide, by decide⟩ rfl rfl (by simp [x_cr, x_c1, x_c2]) dX8_plans_14) ?_
    refine x_if_eq B (tgt := 64) dX8_plans_17 (by decide) ⟨by omega, by omega⟩ (fun h_17 => ?_) (fun h_17 => ?_)
    · refine x_iconst B dX8_plans_64 ?_
      refine x_iret B (fun _ _ h => h) ?_ dX8_plans_65
      have hno : ¬ (x_in i 0 (X 64 3 - 1) = 1 ∧ x_in t 0 2 = 1 ∧ x_in w 0 2 = 1 ∧ x_in v (if w = 2 then 0 else 1) (if w = 0 then 40 else 9) = 1) := by
        intro q
        have q4 := q.2.2.2
        first
        | omega
        | (rw [if_pos (by omega), if_pos (by omega)] at q4; omega)
        | (rw [if_pos (by omega), if_neg (by omega)] at q4; omega)
        | (rw [if_neg (by omega), if_pos (by omega)] at q4; omega)
        | (rw [if_neg (by omega), if_neg (by omega)] at q4; omega)
      rw [if_neg hno]; exact ⟨rfl, rfl⟩
    · refine x_iload_n B dX8_plans_20 rfl ?_
      refine x_i2l B dX8_plans_21 ⟨by omega, by omega⟩ ?_
      refine x_lconst B 0 dX8_plans_22 (by decide) ?_
      refine x_ldc2 B (2) q1560 (by decide) dX8_plans_23 ?_
      refine x_goP (x_rS B (c_X8_in ⟨by omega, by omega⟩ ⟨by omega, by omega⟩ ⟨by omega, by omega⟩) (lw_S q1468 q1469 q122 q1470) hd_X8_in ⟨by decide, by decide⟩ ⟨by decide, by decide⟩ rfl rfl (by simp [x_cr, x_c1, x_c2]) dX8_plans_26) ?_
      refine x_if_eq B (tgt := 64) dX8_plans_29 (by decide) ⟨by omega, by omega⟩ (fun h_29 => ?_) (fun h_29 => ?_)
      · refine x_iconst B dX8_plans_64 ?_
        refine x_iret B (fun _ _ h => h) ?_ dX8_plans_65
        have hno : ¬ (x_in i 0 (X 64 3 - 1) = 1 ∧ x_in t 0 2 = 1 ∧ x_in w 0 2 = 1 ∧ x_in v (if w = 2 then 0 else 1) (if w = 0 then 40 else 9) = 1) := by
          intro q
          have q4 := q.2.2.2
          first
          | omega
          | (rw [if_pos (by omega), if_pos (by omega)] at q4; omega)
          | (rw [if_pos (by omega), if_neg (by omega)] at q4; omega)
          | (rw [if_neg (by omega), if_pos (by omega)] at q4; omega)
          | (rw [if_neg (by omega), if_neg (by omega)] at q4; omega)
        rw [if_neg hno]; exact ⟨rfl, rfl⟩
      · refine x_iload B dX8_plans_32 rfl ?_
        refine x_i2l B dX8_plans_34 ⟨by omega, by omega⟩ ?_
        refine x_iload_n B dX8_plans_35 rfl ?_
        refine x_iconst B dX8_plans_36 ?_
        refine x_icmp_ne B (tgt := 44) dX8_plans_37 (by decide) ⟨by omega, by omega⟩ ⟨by omega, by omega⟩ (fun h_37 => ?_) (fun h_37 => ?_)
        · refine x_lconst B 1 dX8_plans_44 (by decide) ?_
          refine x_iload_n B dX8_plans_45 rfl ?_
          refine x_if_ne B (tgt := 55) dX8_plans_46 (by decide) ⟨by omega, by omega⟩ (fun h_46 => ?_) (fun h_46 => ?_)
          · refine x_ldc2 B (9) q1562 (by decide) dX8_plans_55 ?_
            refine x_goP (x_rS B (c_X8_in ⟨by omega, by omega⟩ ⟨by omega, by omega⟩ ⟨by omega, by omega⟩) (lw_S q1468 q1469 q122 q1470) hd_X8_in ⟨by decide, by decide⟩ ⟨by decide, by decide⟩ rfl rfl (by simp [x_cr, x_c1, x_c2]) dX8_plans_58) ?_
            have z4 : 0 ≤ x_in v 0 0 ∧ x_in v 0 0 ≤ 1 := x_in_01 _ _ _
            refine x_if_ne B (tgt := 66) dX8_plans_61 (by decide) ⟨by have := x_in_01 v; first | (have q := this 0 40; omega) | (have q := this 0 9; omega) | (have q := this 1 40; omega) | (have q := this 1 9; omega), by have := x_in_01 v; first | (have q := this 0 40; omega) | (have q := this 0 9; omega) | (have q := this 1 40; omega) | (have q := this 1 9; omega)⟩ (fun h_61 => ?_) (fun h_61 => ?_)
            · have hi : 0 ≤ i ∧ i < X 64 3 := by unfold x_in at h_10; split at h_10 <;> omega
              have ht : 0 ≤ t ∧ t ≤ 2 := by unfold x_in at h_17; split at h_17 <;> omega
              have hw : 0 ≤ w ∧ w ≤ 2 := by unfold x_in at h_29; split at h_29 <;> omega
              have hv : (if w = 2 then 0 else 1) ≤ v ∧ v ≤ (if w = 0 then 40 else 9) := by
                unfold x_in at h_61; split at h_61
                · rename_i q; refine ⟨?_, ?_⟩ <;> split <;> omega
                · omega
              have hv40 : 0 ≤ v ∧ v ≤ 40 := by unfold x_in at h_61; split at h_61 <;> omega
              refine x_aload_n B dX8_plans_66 rfl ?_
              refine x_iload_n B dX8_plans_67 rfl ?_
              refine x_iload_n B dX8_plans_68 rfl ?_
              refine x_iload_n B dX8_plans_69 rfl ?_
              refine x_goP (x_rV B h8 (show x_cl[7]? = some _ from rfl) (c_X8_planOf hK0 (by rw [e3]; exact hi) ⟨by omega, by omega⟩ ⟨by omega, by omega⟩) (lw_V q1529 q1531 qs53 q122 q1532) hv_X8_planOf ⟨by decide, by decide⟩ ⟨by decide, by decide⟩ rfl rfl (by simp [x_cr, x_c1, x_c2]) dX8_plans_70) ?_
              rw [ep]
              refine x_istw_5 B dX8_plans_73 (by first | rfl | exact x_cr _ _) ?_
              refine x_aload_n B dX8_plans_75 rfl ?_
              refine x_getC0 B (k := 9) hT rfl rfl xc_7 (by decide) h8 (Or.inl q1344) (fun _ h => h) dX8_plans_76 (fun k_76 => ?_)
              refine x_iconst B dX8_plans_79 ?_
              refine x_iconst B dX8_plans_80 ?_
              refine x_iload_n B dX8_plans_81 rfl ?_
              refine x_imul B dX8_plans_82 ?_
              refine x_iload_n B dX8_plans_83 rfl ?_
              refine x_iadd B dX8_plans_84 ?_
              refine x_imul B dX8_plans_85 ?_
              refine x_iload_n B dX8_plans_86 rfl ?_
              refine x_iadd B dX8_plans_87 ?_
              refine x_iload B dX8_plans_88 rfl ?_
              refine x_iast B k_76 ⟨by omega, by omega⟩ ⟨by omega, by omega⟩ dX8_plans_90 ?_
              have n3 : (x_up (x_up X 64 0 0) 71 (3 * (3 * i + t) + w) v) 64 3 = X 64 3 := by rw [x_up_o _ (by omega), e3]
              have hKs : t_K κ (x_up (x_up X 64 0 0) 71 (3 * (3 * i + t) + w) v) := by unfold t_K at *; rw [n3]; exact hK
              have hPs : t_P (x_up (x_up X 64 0 0) 71 (3 * (3 * i + t) + w) v) := t_P_up hP hi ht hw hv
              refine x_aload_n B dX8_plans_91 rfl ?_
              refine x_go (x_rV B h8 (show x_cl[7]? = some _ from rfl) (c_X8_meetBegins hKs hPs) (lw_V q1509 q1511 qs48 q122 q1512) hv_X8_meetBegins ⟨by decide, by decide⟩ ⟨by decide, by decide⟩ rfl rfl (by simp [x_cr, x_c1, x_c2]) dX8_plans_92) (fun v_92 X_92 p_92 => ?_)
              obtain ⟨rfl, hp⟩ := p_92
              refine x_iload B dX8_plans_95 rfl ?_
              refine x_iret B (fun _ _ h => h) ?_ dX8_plans_97
              rw [if_pos ⟨by omega, by omega, by omega, by unfold x_in; rw [if_pos hv]⟩]; exact ⟨rfl, hp⟩
            · refine x_iconst B dX8_plans_64 ?_
              refine x_iret B (fun _ _ h => h) ?_ dX8_plans_65
              have hno : ¬ (x_in i 0 (X 64 3 - 1) = 1 ∧ x_in t 0 2 = 1 ∧ x_in w 0 2 = 1 ∧ x_in v (if w = 2 then 0 else 1) (if w = 0 then 40 else 9) = 1) := by
                intro q
                have q4 := q.2.2.2
                first
                | omega
                | (rw [if_pos (by omega), if_pos (by omega)] at q4; omega)
                | (rw [if_pos (by omega), if_neg (by omega)] at q4; omega)
                | (rw [if_neg (by omega), if_pos (by omega)] at q4; omega)
                | (rw [if_neg (by omega), if_neg (by omega)] at q4; omega)
              rw [if_neg hno]; exact ⟨rfl, rfl⟩
          · refine x_ldc2 B (40) q1561 (by decide) dX8_plans_49 ?_
            refine x_goto B (tgt := 58) dX8_plans_52 (by decide) ?_
            refine x_goP (x_rS B (c_X8_in ⟨by omega, by omega⟩ ⟨by omega, by omega⟩ ⟨by omega, by omega⟩) (lw_S q1468 q1469 q122 q1470) hd_X8_in ⟨by decide, by decide⟩ ⟨by decide, by decide⟩ rfl rfl (by simp [x_cr, x_c1, x_c2]) dX8_plans_58) ?_
            have z4 : 0 ≤ x_in v 0 0 ∧ x_in v 0 0 ≤ 1 := x_in_01 _ _ _
            refine x_if_ne B (tgt := 66) dX8_plans_61 (by decide) ⟨by have := x_in_01 v; first | (have q := this 0 40; omega) | (have q := this 0 9; omega) | (have q := this 1 40; omega) | (have q := this 1 9; omega), by have := x_in_01 v; first | (have q := this 0 40; omega) | (have q := this 0 9; omega) | (have q := this 1 40; omega) | (have q := this 1 9; omega)⟩ (fun h_61 => ?_) (fun h_61 => ?_)
            · have hi : 0 ≤ i ∧ i < X 64 3 := by unfold x_in at h_10; split at h_10 <;> omega
              have ht : 0 ≤ t ∧ t ≤ 2 := by unfold x_in at h_17; split at h_17 <;> omega
              have hw : 0 ≤ w ∧ w ≤ 2 := by unfold x_in at h_29; split at h_29 <;> omega
              have hv : (if w = 2 then 0 else 1) ≤ v ∧ v ≤ (if w = 0 then 40 else 9) := by
                unfold x_in at h_61; split at h_61
                · rename_i q; refine ⟨?_, ?_⟩ <;> split <;> omega
                · omega
              have hv40 : 0 ≤ v ∧ v ≤ 40 := by unfold x_in at h_61; split at h_61 <;> omega
              refine x_aload_n B dX8_plans_66 rfl ?_
              refine x_iload_n B dX8_plans_67 rfl ?_
              refine x_iload_n B dX8_plans_68 rfl ?_
              refine x_iload_n B dX8_plans_69 rfl ?_
              refine x_goP (x_rV B h8 (show x_cl[7]? = some _ from rfl) (c_X8_planOf hK0 (by rw [e3]; exact hi) ⟨by omega, by omega⟩ ⟨by omega, by omega⟩) (lw_V q1529 q1531 qs53 q122 q1532) hv_X8_planOf ⟨by decide, by decide⟩ ⟨by decide, by decide⟩ rfl rfl (by simp [x_cr, x_c1, x_c2]) dX8_plans_70) ?_
              rw [ep]
              refine x_istw_5 B dX8_plans_73 (by first | rfl | exact x_cr _ _) ?_
              refine x_aload_n B dX8_plans_75 rfl ?_
              refine x_getC0 B (k := 9) hT rfl rfl xc_7 (by decide) h8 (Or.inl q1344) (fun _ h => h) dX8_plans_76 (fun k_76 => ?_)
              refine x_iconst B dX8_plans_79 ?_
              refine x_iconst B dX8_plans_80 ?_
              refine x_iload_n B dX8_plans_81 rfl ?_
              refine x_imul B dX8_plans_82 ?_
              refine x_iload_n B dX8_plans_83 rfl ?_
              refine x_iadd B dX8_plans_84 ?_
              refine x_imul B dX8_plans_85 ?_
              refine x_iload_n B dX8_plans_86 rfl ?_
              refine x_iadd B dX8_plans_87 ?_
              refine x_iload B dX8_plans_88 rfl ?_
              refine x_iast B k_76 ⟨by omega, by omega⟩ ⟨by omega, by omega⟩ dX8_plans_90 ?_
              have n3 : (x_up (x_up X 64 0 0) 71 (3 * (3 * i + t) + w) v) 64 3 = X 64 3 := by rw [x_up_o _ (by omega), e3]
              have hKs : t_K κ (x_up (x_up X 64 0 0) 71 (3 * (3 * i + t) + w) v) := by unfold t_K at *; rw [n3]; exact hK
              have hPs : t_P (x_up (x_up X 64 0 0) 71 (3 * (3 * i + t) + w) v) := t_P_up hP hi ht hw hv
              refine x_aload_n B dX8_plans_91 rfl ?_
              refine x_go (x_rV B h8 (show x_cl[7]? = some _ from rfl) (c_X8_meetBegins hKs hPs) (lw_V q1509 q1511 qs48 q122 q1512) hv_X8_meetBegins ⟨by decide, by decide⟩ ⟨by decide, by decide⟩ rfl rfl (by simp [x_cr, x_c1, x_c2]) dX8_plans_92) (fun v_92 X_92 p_92 => ?_)
              obtain ⟨rfl, hp⟩ := p_92
              refine x_iload B dX8_plans_95 rfl ?_
              refine x_iret B (fun _ _ h => h) ?_ dX8_plans_97
              rw [if_pos ⟨by omega, by omega, by omega, by unfold x_in; rw [if_pos hv]⟩]; exact ⟨rfl, hp⟩
            · refine x_iconst B dX8_plans_64 ?_
              refine x_iret B (fun _ _ h => h) ?_ dX8_plans_65
              have hno : ¬ (x_in i 0 (X 64 3 - 1) = 1 ∧ x_in t 0 2 = 1 ∧ x_in w 0 2 = 1 ∧ x_in v (if w = 2 then 0 else 1) (if w = 0 then 40 else 9) = 1) := by
                intro q
                have q4 := q.2.2.2
                first
                | omega
                | (rw [if_pos (by omega), if_pos (by omega)] at q4; omega)
                | (rw [if_pos (by omega), if_neg (by omega)] at q4; omega)
                | (rw [if_neg (by omega), if_pos (by omega)] at q4; omega)
                | (rw [if_neg (by omega), if_neg (by omega)] at q4; omega)
              rw [if_neg hno]; exact ⟨rfl, rfl⟩
        · refine x_lconst B 0 dX8_plans_40 (by decide) ?_
          refine x_goto B (tgt := 45) dX8_plans_41 (by decide) ?_
          refine x_iload_n B dX8_plans_45 rfl ?_
          refine x_if_ne B (tgt := 55) dX8_plans_46 (by decide) ⟨by omega, by omega⟩ (fun h_46 => ?_) (fun h_46 => ?_)
          · refine x_ldc2 B (9) q1562 (by decide) dX8_plans_55 ?_
            refine x_goP (x_rS B (c_X8_in ⟨by omega, by omega⟩ ⟨by omega, by omega⟩ ⟨by omega, by omega⟩) (lw_S q1468 q1469 q122 q1470) hd_X8_in ⟨by decide, by decide⟩ ⟨by decide, by decide⟩ rfl rfl (by simp [x_cr, x_c1, x_c2]) dX8_plans_58) ?_
            have z4 : 0 ≤ x_in v 0 0 ∧ x_in v 0 0 ≤ 1 := x_in_01 _ _ _
            refine x_if_ne B (tgt := 66) dX8_plans_61 (by decide) ⟨by have := x_in_01 v; first | (have q := this 0 40; omega) | (have q := this 0 9; omega) | (have q := this 1 40; omega) | (have q := this 1 9; omega), by have := x_in_01 v; first | (have q := this 0 40; omega) | (have q := this 0 9; omega) | (have q := this 1 40; omega) | (have q := this 1 9; omega)⟩ (fun h_61 => ?_) (fun h_61 => ?_)
            · have hi : 0 ≤ i ∧ i < X 64 3 := by unfold x_in at h_10; split at h_10 <;> omega
              have ht : 0 ≤ t ∧ t ≤ 2 := by unfold x_in at h_17; split at h_17 <;> omega
              have hw : 0 ≤ w ∧ w ≤ 2 := by unfold x_in at h_29; split at h_29 <;> omega
              have hv : (if w = 2 then 0 else 1) ≤ v ∧ v ≤ (if w = 0 then 40 else 9) := by
                unfold x_in at h_61; split at h_61
                · rename_i q; refine ⟨?_, ?_⟩ <;> split <;> omega
                · omega
              have hv40 : 0 ≤ v ∧ v ≤ 40 := by unfold x_in at h_61; split at h_61 <;> omega
              refine x_aload_n B dX8_plans_66 rfl ?_
              refine x_iload_n B dX8_plans_67 rfl ?_
              refine x_iload_n B dX8_plans_68 rfl ?_
              refine x_iload_n B dX8_plans_69 rfl ?_
              refine x_goP (x_rV B h8 (show x_cl[7]? = some _ from rfl) (c_X8_planOf hK0 (by rw [e3]; exact hi) ⟨by omega, by omega⟩ ⟨by omega, by omega⟩) (lw_V q1529 q1531 qs53 q122 q1532) hv_X8_planOf ⟨by decide, by decide⟩ ⟨by decide, by decide⟩ rfl rfl (by simp [x_cr, x_c1, x_c2]) dX8_plans_70) ?_
              rw [ep]
              refine x_istw_5 B dX8_plans_73 (by first | rfl | exact x_cr _ _) ?_
              refine x_aload_n B dX8_plans_75 rfl ?_
              refine x_getC0 B (k := 9) hT rfl rfl xc_7 (by decide) h8 (Or.inl q1344) (fun _ h => h) dX8_plans_76 (fun k_76 => ?_)
              refine x_iconst B dX8_plans_79 ?_
              refine x_iconst B dX8_plans_80 ?_
              refine x_iload_n B dX8_plans_81 rfl ?_
              refine x_imul B dX8_plans_82 ?_
              refine x_iload_n B dX8_plans_83 rfl ?_
              refine x_iadd B dX8_plans_84 ?_
              refine x_imul B dX8_plans_85 ?_
              refine x_iload_n B dX8_plans_86 rfl ?_
              refine x_iadd B dX8_plans_87 ?_
              refine x_iload B dX8_plans_88 rfl ?_
              refine x_iast B k_76 ⟨by omega, by omega⟩ ⟨by omega, by omega⟩ dX8_plans_90 ?_
              have n3 : (x_up (x_up X 64 0 0) 71 (3 * (3 * i + t) + w) v) 64 3 = X 64 3 := by rw [x_up_o _ (by omega), e3]
              have hKs : t_K κ (x_up (x_up X 64 0 0) 71 (3 * (3 * i + t) + w) v) := by unfold t_K at *; rw [n3]; exact hK
              have hPs : t_P (x_up (x_up X 64 0 0) 71 (3 * (3 * i + t) + w) v) := t_P_up hP hi ht hw hv
              refine x_aload_n B dX8_plans_91 rfl ?_
              refine x_go (x_rV B h8 (show x_cl[7]? = some _ from rfl) (c_X8_meetBegins hKs hPs) (lw_V q1509 q1511 qs48 q122 q1512) hv_X8_meetBegins ⟨by decide, by decide⟩ ⟨by decide, by decide⟩ rfl rfl (by simp [x_cr, x_c1, x_c2]) dX8_plans_92) (fun v_92 X_92 p_92 => ?_)
              obtain ⟨rfl, hp⟩ := p_92
              refine x_iload B dX8_plans_95 rfl ?_
              refine x_iret B (fun _ _ h => h) ?_ dX8_plans_97
              rw [if_pos ⟨by omega, by omega, by omega, by unfold x_in; rw [if_pos hv]⟩]; exact ⟨rfl, hp⟩
            · refine x_iconst B dX8_plans_64 ?_
              refine x_iret B (fun _ _ h => h) ?_ dX8_plans_65
              have hno : ¬ (x_in i 0 (X 64 3 - 1) = 1 ∧ x_in t 0 2 = 1 ∧ x_in w 0 2 = 1 ∧ x_in v (if w = 2 then 0 else 1) (if w = 0 then 40 else 9) = 1) := by
                intro q
                have q4 := q.2.2.2
                first
                | omega
                | (rw [if_pos (by omega), if_pos (by omega)] at q4; omega)
                | (rw [if_pos (by omega), if_neg (by omega)] at q4; omega)
                | (rw [if_neg (by omega), if_pos (by omega)] at q4; omega)
                | (rw [if_neg (by omega), if_neg (by omega)] at q4; omega)
              rw [if_neg hno]; exact ⟨rfl, rfl⟩
          · refine x_ldc2 B (40) q1561 (by decide) dX8_plans_49 ?_
            refine x_goto B (tgt := 58) dX8_plans_52 (by decide) ?_
            refine x_goP (x_rS B (c_X8_in ⟨by omega, by omega⟩ ⟨by omega, by omega⟩ ⟨by omega, by omega⟩) (lw_S q1468 q1469 q122 q1470) hd_X8_in ⟨by decide, by decide⟩ ⟨by decide, by decide⟩ rfl rfl (by simp [x_cr, x_c1, x_c2]) dX8_plans_58) ?_
            have z4 : 0 ≤ x_in v 0 0 ∧ x_in v 0 0 ≤ 1 := x_in_01 _ _ _
            refine x_if_ne B (tgt := 66) dX8_plans_61 (by decide) ⟨by have := x_in_01 v; first | (have q := this 0 40; omega) | (have q := this 0 9; omega) | (have q := this 1 40; omega) | (have q := this 1 9; omega), by have := x_in_01 v; first | (have q := this 0 40; omega) | (have q := this 0 9; omega) | (have q := this 1 40; omega) | (have q := this 1 9; omega)⟩ (fun h_61 => ?_) (fun h_61 => ?_)
            · have hi : 0 ≤ i ∧ i < X 64 3 := by unfold x_in at h_10; split at h_10 <;> omega
              have ht : 0 ≤ t ∧ t ≤ 2 := by unfold x_in at h_17; split at h_17 <;> omega
              have hw : 0 ≤ w ∧ w ≤ 2 := by unfold x_in at h_29; split at h_29 <;> omega
              have hv : (if w = 2 then 0 else 1) ≤ v ∧ v ≤ (if w = 0 then 40 else 9) := by
                unfold x_in at h_61; split at h_61
                · rename_i q; refine ⟨?_, ?_⟩ <;> split <;> omega
                · omega
              have hv40 : 0 ≤ v ∧ v ≤ 40 := by unfold x_in at h_61; split at h_61 <;> omega
              refine x_aload_n B dX8_plans_66 rfl ?_
              refine x_iload_n B dX8_plans_67 rfl ?_
              refine x_iload_n B dX8_plans_68 rfl ?_
              refine x_iload_n B dX8_plans_69 rfl ?_
              refine x_goP (x_rV B h8 (show x_cl[7]? = some _ from rfl) (c_X8_planOf hK0 (by rw [e3]; exact hi) ⟨by omega, by omega⟩ ⟨by omega, by omega⟩) (lw_V q1529 q1531 qs53 q122 q1532) hv_X8_planOf ⟨by decide, by decide⟩ ⟨by decide, by decide⟩ rfl rfl (by simp [x_cr, x_c1, x_c2]) dX8_plans_70) ?_
              rw [ep]
              refine x_istw_5 B dX8_plans_73 (by first | rfl | exact x_cr _ _) ?_
              refine x_aload_n B dX8_plans_75 rfl ?_
              refine x_getC0 B (k := 9) hT rfl rfl xc_7 (by decide) h8 (Or.inl q1344) (fun _ h => h) dX8_plans_76 (fun k_76 => ?_)
              refine x_iconst B dX8_plans_79 ?_
              refine x_iconst B dX8_plans_80 ?_
              refine x_iload_n B dX8_plans_81 rfl ?_
              refine x_imul B dX8_plans_82 ?_
              refine x_iload_n B dX8_plans_83 rfl ?_
              refine x_iadd B dX8_plans_84 ?_
              refine x_imul B dX8_plans_85 ?_
              refine x_iload_n B dX8_plans_86 rfl ?_
              refine x_iadd B dX8_plans_87 ?_
              refine x_iload B dX8_plans_88 rfl ?_
              refine x_iast B k_76 ⟨by omega, by omega⟩ ⟨by omega, by omega⟩ dX8_plans_90 ?_
              have n3 : (x_up (x_up X 64 0 0) 71 (3 * (3 * i + t) + w) v) 64 3 = X 64 3 := by rw [x_up_o _ (by omega), e3]
              have hKs : t_K κ (x_up (x_up X 64 0 0) 71 (3 * (3 * i + t) + w) v) := by unfold t_K at *; rw [n3]; exact hK
              have hPs : t_P (x_up (x_up X 64 0 0) 71 (3 * (3 * i + t) + w) v) := t_P_up hP hi ht hw hv
              refine x_aload_n B dX8_plans_91 rfl ?_
              refine x_go (x_rV B h8 (show x_cl[7]? = some _ from rfl) (c_X8_meetBegins hKs hPs) (lw_V q1509 q1511 qs48 q122 q1512) hv_X8_meetBegins ⟨by decide, by decide⟩ ⟨by decide, by decide⟩ rfl rfl (by simp [x_cr, x_c1, x_c2]) dX8_plans_92) (fun v_92 X_92 p_92 => ?_)
              obtain ⟨rfl, hp⟩ := p_92
              refine x_iload B dX8_plans_95 rfl ?_
              refine x_iret B (fun _ _ h => h) ?_ dX8_plans_97
              rw [if_pos ⟨by omega, by omega, by omega, by unfold x_in; rw [if_pos hv]⟩]; exact ⟨rfl, hp⟩
            · refine x_iconst B dX8_plans_64 ?_
              refine x_iret B (fun _ _ h => h) ?_ dX8_plans_65
              have hno : ¬ (x_in i 0 (X 64 3 - 1) = 1 ∧ x_in t 0 2 = 1 ∧ x_in w 0 2 = 1 ∧ x_in v (if w = 2 then 0 else 1) (if w = 0 then 40 else 9) = 1) := by
                intro q
                have q4 := q.2.2.2
                first
                | omega
                | (rw [if_pos (by omega), if_pos (by omega)] at q4; omega)
                | (rw [if_pos (by omega), if_neg (by omega)] at q4; omega)
                | (rw [if_neg (by omega), if_pos (by omega)] at q4; omega)
                | (rw [if_neg (by omega), if_neg (by omega)] at q4; omega)
              rw [if_neg hno]; exact ⟨rfl, rfl⟩
theorem c_X8_outs {l : Launch} {E : x_E} {κ : x_Ka} {X : x_X}  (hK : t_K κ X) (hW : m_W (X 64 3) (t_M X)) : x_Pu l yX8_outs cX8_outs 3 (some .int) 1 E κ X [x_rf E 64] (vi (g_or (t_M X) (X 64 3).toNat)) := by
  refine x_Met.of [(false, x_rf E 64)] [some (x_rf E 64), none, none] 2 (by decide) rfl rfl ⟨x_cr E (64), trivial⟩ rfl rfl ?_
  intro p e s m args below meth c hargs hin B
  obtain ⟨hT, h8, hn⟩ := id hK
  have lp_4 : ∀ (n : Nat) (k z : Int), ((0 ≤ k ∧ k ≤ X 64 3) ∧ z = g_or (t_M X) k.toNat) → ((7 - k).toNat < n) → x_G p l e (x_rm 1 0 0) s m args below meth c 3 E 0 0 (MQ below (x_Q E κ (fun v_ X_ => v_ = some (vi (g_or (t_M X) (X 64 3).toNat)) ∧ X_ = X)) args s 0 0 (fun q => E.1 ≤ q)) κ 4 [some (x_rf E 64), some (vi z), some (vi k)] [] X := by
    intro n
    induction n with
    | zero => intro k z hinv hme; exfalso; omega
    | succ n ih =>
      intro k z hinv hme
      obtain ⟨hi, hz⟩ := hinv
      have hgs := g_or_s (t_M X) hi.1
      refine x_iload_n B dX8_outs_4 rfl ?_
      refine x_aload_n B dX8_outs_5 rfl ?_
      refine x_getI B (k := 3) 3 rfl rfl xc_7 (by decide) h8 (Or.inl q1338) (fun _ h => h) dX8_outs_6 (fun r_6 => ?_)
      refine x_icmp_ge B (tgt := 30) dX8_outs_9 (by decide) ⟨by omega, by omega⟩ ⟨by omega, by omega⟩ (fun h_9 => ?_) (fun h_9 => ?_)
      · obtain rfl : k = X 64 3 := by omega
        refine x_iload_n B dX8_outs_30 rfl ?_
        refine x_iret B (fun _ _ h => h) ?_ dX8_outs_31
        exact ⟨congrArg (fun z => some (vi z)) (by exact hz), rfl⟩
      · refine x_iload_n B dX8_outs_12 rfl ?_
        refine x_aload_n B dX8_outs_13 rfl ?_
        refine x_iload_n B dX8_outs_14 rfl ?_
        refine x_bipush B dX8_outs_15 (by decide) ?_
        refine x_goP (x_rV B h8 (show x_cl[7]? = some _ from rfl) (c_X8_of hT h8 ⟨by omega, by omega⟩) (lw_V q1525 q1527 qs52 q122 q1528) hv_X8_of ⟨by decide, by decide⟩ ⟨by decide, by decide⟩ rfl rfl (by simp [x_cr, x_c1, x_c2]) dX8_outs_17) ?_
        refine x_iload_n B dX8_outs_20 rfl ?_
        refine x_ishl B dX8_outs_21 ?_
        refine x_ior B dX8_outs_22 ?_
        refine x_ist_1 B dX8_outs_23 (by first | rfl | exact x_cr _ _) ?_
        refine x_iinc_2 B dX8_outs_24 (by first | rfl | exact x_cr _ _) ?_
        refine x_goto B (tgt := 4) dX8_outs_27 (by decide) ?_
        refine ih _ _ ⟨⟨by omega, by omega⟩, ?_⟩ (by omega)
        have s7 : t_M X k 7 = X 72 (3 + 10 * k + 6) := t_M_s (by omega) (by decide) (by omega) (by omega)
        have w2 := hW.2.1 k (by omega) (by omega)
        rw [hgs, s7, hz]
        by_cases q : X 72 (3 + 10 * k + 6) = 0
        · rw [if_pos q, q, i_shl_0 (by omega)]
        · rw [if_neg q, show X 72 (3 + 10 * k + 6) = 1 by omega]
  refine x_iconst B dX8_outs_0 ?_
  refine x_ist_1 B dX8_outs_1 (by first | rfl | exact x_cr _ _) ?_
  refine x_iconst B dX8_outs_2 ?_
  refine x_ist_2 B dX8_outs_3 (by first | rfl | exact x_cr _ _) ?_
  exact lp_4 _ 0 0 ⟨⟨by omega, by omega⟩, rfl⟩ (Nat.lt_succ_self _)
theorem c_X8_count {l : Launch} {E : x_E} {κ : x_Ka} {X : x_X} {w : Int} (hC : t_C κ X) (hw0 : xR w) : x_De l yX8_count cX8_count 2 (some .int) 2 E κ X [x_rf E 64, vi w] (vi (u_count (X 64 3) (X 64 13) (X 64 14) (X 64 10) (X 64 1) (X 64 18) (t_M X) w)) ((x_up X 64 0 0)) := by
  refine x_Met.of [(false, x_rf E 64), (false, vi w)] [some (x_rf E 64), some (vi w)] 0 (by decide) rfl rfl ⟨x_cr E (64), rfl, trivial⟩ rfl rfl ?_
  intro p e s m args below meth c hargs hin B
  obtain ⟨hK, hP, hO, hW, hLa⟩ := id hC
  obtain ⟨hT, h8, hn⟩ := id hK
  have hn0 := (t_nt.rf X).z (i := 0) (Or.inl rfl) 0
  have C0 := hn0.C hC
  obtain ⟨e3, eM, el, eli, ep, eO, eG⟩ := hn0.v
  have ebo : t_body (x_up X 64 0 0) = t_body X := t_body_e e3 (x_up_o _ (by omega))
  have x0o : ∀ b, b ≠ 64 → x_up X 64 0 0 b = X b := fun b hb => x_up_o _ hb
  have x0i : ∀ i, i ≠ 0 → x_up X 64 0 0 64 i = X 64 i := fun i hi => x_up_n _ (Or.inr hi)
  obtain ⟨hK0, hP0, hO0, hW0, hL0⟩ := id C0
  refine x_aload_n B dX8_count_0 rfl ?_
  refine x_iconst B dX8_count_1 ?_
  refine x_putI B (k := 0) 0 rfl rfl rfl ⟨by omega, by omega⟩ xc_7 (by decide) rfl nn_7_0 (fun _ => rfl) h8 (Or.inl q1335) (fun _ h => h) dX8_count_2 ?_
  refine x_iload_n B dX8_count_5 rfl ?_
  by_cases hs_0 : w = 0
  · refine x_tswI B (off := 54) (tgt := 60) ⟨by omega, by omega⟩ hs_0 dX8_count_6 ⟨by decide, by decide⟩ (by decide) (by decide) ?_
    refine x_aload_n B dX8_count_60 rfl ?_
    refine x_getI B (k := 3) 3 rfl rfl xc_7 (by decide) h8 (Or.inl q1338) (fun _ h => h) dX8_count_61 (fun r_61 => ?_)
    refine x_iret B (fun _ _ h => h) ?_ dX8_count_64
    exact ⟨congrArg (fun z => some (vi z)) (by unfold u_count; rw [if_pos hs_0]; exact e3), rfl⟩
  by_cases hs_1 : w = 1
  · refine x_tswI B (off := 59) (tgt := 65) ⟨by omega, by omega⟩ hs_1 dX8_count_6 ⟨by decide, by decide⟩ (by decide) (by decide) ?_
    refine x_aload_n B dX8_count_65 rfl ?_
    refine x_getC0 B (k := 11) hT rfl rfl xc_7 (by decide) h8 (Or.inl q1346) (fun _ h => h) dX8_count_66 (fun k_66 => ?_)
    refine x_iconst B dX8_count_69 ?_
    refine x_iald B k_66 ⟨by omega, by omega⟩ dX8_count_70 (fun r_70 => ?_)
    refine x_iret B (fun _ _ h => h) ?_ dX8_count_71
    exact ⟨congrArg (fun z => some (vi z)) (by unfold u_count; rw [if_neg (by omega), if_pos hs_1]; rw [x0o 72 (by omega), t_M_g (by omega)]; rfl), rfl⟩
  by_cases hs_2 : w = 2
  · refine x_tswI B (off := 66) (tgt := 72) ⟨by omega, by omega⟩ hs_2 dX8_count_6 ⟨by decide, by decide⟩ (by decide) (by decide) ?_
    refine x_aload_n B dX8_count_72 rfl ?_
    refine x_getC0 B (k := 11) hT rfl rfl xc_7 (by decide) h8 (Or.inl q1346) (fun _ h => h) dX8_count_73 (fun k_73 => ?_)
    refine x_iconst B dX8_count_76 ?_
    refine x_iald B k_73 ⟨by omega, by omega⟩ dX8_count_77 (fun r_77 => ?_)
    refine x_iret B (fun _ _ h => h) ?_ dX8_count_78
    exact ⟨congrArg (fun z => some (vi z)) (by unfold u_count; rw [if_neg (by omega), if_neg (by omega), if_pos hs_2]; rw [x0o 72 (by omega), t_M_g (by omega)]; rfl), rfl⟩
  by_cases hs_3 : w = 3
  · refine x_tswI B (off := 73) (tgt := 79) ⟨by omega, by omega⟩ hs_3 dX8_count_6 ⟨by decide, by decide⟩ (by decide) (by decide) ?_
    refine x_aload_n B dX8_count_79 rfl ?_
    refine x_getC0 B (k := 11) hT rfl rfl xc_7 (by decide) h8 (Or.inl q1346) (fun _ h => h) dX8_count_80 (fun k_80 => ?_)
    refine x_iconst B dX8_count_83 ?_
    refine x_iald B k_80 ⟨by omega, by omega⟩ dX8_count_84 (fun r_84 => ?_)
    refine x_iret B (fun _ _ h => h) ?_ dX8_count_85
    exact ⟨congrArg (fun z => some (vi z)) (by unfold u_count; rw [if_neg (by omega), if_neg (by omega), if_neg (by omega), if_pos hs_3]; rw [x0o 72 (by omega), t_M_g (by omega)]; rfl), rfl⟩
  by_cases hs_4 : w = 4
  · refine x_tswI B (off := 80) (tgt := 86) ⟨by omega, by omega⟩ hs_4 dX8_count_6 ⟨by decide, by decide⟩ (by decide) (by decide) ?_
    refine x_aload_n B dX8_count_86 rfl ?_
    refine x_getI B (k := 13) 13 rfl rfl xc_7 (by decide) h8 (Or.inl q1348) (fun _ h => h) dX8_count_87 (fun r_87 => ?_)
    refine x_iret B (fun _ _ h => h) ?_ dX8_count_90
    exact ⟨congrArg (fun z => some (vi z)) (by unfold u_count; rw [if_neg (by omega), if_neg (by omega), if_neg (by omega), if_neg (by omega), if_pos hs_4]; exact x0i 13 (by omega)), rfl⟩
  by_cases hs_5 : w = 5
  · refine x_tswI B (off := 85) (tgt := 91) ⟨by omega, by omega⟩ hs_5 dX8_count_6 ⟨by decide, by decide⟩ (by decide) (by decide) ?_
    refine x_aload_n B dX8_count_91 rfl ?_
    refine x_getI B (k := 14) 14 rfl rfl xc_7 (by decide) h8 (Or.inl q1349) (fun _ h => h) dX8_count_92 (fun r_92 => ?_)
    refine x_iret B (fun _ _ h => h) ?_ dX8_count_95
    exact ⟨congrArg (fun z => some (vi z)) (by unfold u_count; rw [if_neg (by omega), if_neg (by omega), if_neg (by omega), if_neg (by omega), if_neg (by omega), if_pos hs_5]; exact x0i 14 (by omega)), rfl⟩
  by_cases hs_6 : w = 6
  · refine x_tswI B (off := 90) (tgt := 96) ⟨by omega, by omega⟩ hs_6 dX8_count_6 ⟨by decide, by decide⟩ (by decide) (by decide) ?_
    refine x_aload_n B dX8_count_96 rfl ?_
    refine x_getI B (k := 10) 10 rfl rfl xc_7 (by decide) h8 (Or.inl q1345) (fun _ h => h) dX8_count_97 (fun r_97 => ?_)
    refine x_iret B (fun _ _ h => h) ?_ dX8_count_100
    exact ⟨congrArg (fun z => some (vi z)) (by unfold u_count; rw [if_neg (by omega), if_neg (by omega), if_neg (by omega), if_neg (by omega), if_neg (by omega), if_neg (by omega), if_pos hs_6]; exact x0i 10 (by omega)), rfl⟩
  by_cases hs_7 : w = 7
  · refine x_tswI B (off := 95) (tgt := 101) ⟨by omega, by omega⟩ hs_7 dX8_count_6 ⟨by decide, by decide⟩ (by decide) (by decide) ?_
    refine x_aload_n B dX8_count_101 rfl ?_
    refine x_getI B (k := 1) 1 rfl rfl xc_7 (by decide) h8 (Or.inl q1336) (fun _ h => h) dX8_count_102 (fun r_102 => ?_)
    refine x_iret B (fun _ _ h => h) ?_ dX8_count_105
    exact ⟨congrArg (fun z => some (vi z)) (by unfold u_count; rw [if_neg (by omega), if_neg (by omega), if_neg (by omega), if_neg (by omega), if_neg (by omega), if_neg (by omega), if_neg (by omega), if_pos hs_7]; exact x0i 1 (by omega)), rfl⟩
  by_cases hs_8 : w = 8
  · refine x_tswI B (off := 100) (tgt := 106) ⟨by omega, by omega⟩ hs_8 dX8_count_6 ⟨by decide, by decide⟩ (by decide) (by decide) ?_
    refine x_aload_n B dX8_count_106 rfl ?_
    refine x_getI B (k := 18) 18 rfl rfl xc_7 (by decide) h8 (Or.inl q1353) (fun _ h => h) dX8_count_107 (fun r_107 => ?_)
    refine x_iret B (fun _ _ h => h) ?_ dX8_count_110
    exact ⟨congrArg (fun z => some (vi z)) (by unfold u_count; rw [if_neg (by omega), if_neg (by omega), if_neg (by omega), if_neg (by omega), if_neg (by omega), if_neg (by omega), if_neg (by omega), if_neg (by omega), if_pos hs_8]; exact x0i 18 (by omega)), rfl⟩
  by_cases hs_9 : w = 9
  · refine x_tswI B (off := 105) (tgt := 111) ⟨by omega, by omega⟩ hs_9 dX8_count_6 ⟨by decide, by decide⟩ (by decide) (by decide) ?_
    refine x_aload_n B dX8_count_111 rfl ?_
    refine x_goP (x_rV B h8 (show x_cl[7]? = some _ from rfl) (c_X8_outs hK0 hW0) (lw_V q1917 q1919 qs108 q122 q1920) hv_X8_outs ⟨by decide, by decide⟩ ⟨by decide, by decide⟩ rfl rfl (by simp [x_cr, x_c1, x_c2]) dX8_count_112) ?_
    refine x_iret B (fun _ _ h => h) ?_ dX8_count_115
    exact ⟨congrArg (fun z => some (vi z)) (by unfold u_count; rw [if_neg (by omega), if_neg (by omega), if_neg (by omega), if_neg (by omega), if_neg (by omega), if_neg (by omega), if_neg (by omega), if_neg (by omega), if_neg (by omega), if_pos hs_9]; rw [e3, eM]), rfl⟩
  refine x_tswO B (tgt := 116) ⟨by omega, by omega⟩ dX8_count_6 (by omega) (by decide) ?_
  refine x_iconst B dX8_count_116 ?_
  refine x_iret B (fun _ _ h => h) ?_ dX8_count_117
  exact ⟨congrArg (fun z => some (vi z)) (by unfold u_count; rw [if_neg (by omega), if_neg (by omega), if_neg (by omega), if_neg (by omega), if_neg (by omega), if_neg (by omega), if_neg (by omega), if_neg (by omega), if_neg (by omega), if_neg (by omega)]), rfl⟩
theorem c_X8_thrown {l : Launch} {E : x_E} {κ : x_Ka} {X : x_X}  (hT : x_T κ) (h8 : κ 64 = some (.inl (7, 1))) : x_Pu l yX8_thrown cX8_thrown 1 (some .int) 0 E κ X [x_rf E 64] (vi (X 64 0)) := by
  refine x_Met.of [(false, x_rf E 64)] [some (x_rf E 64)] 0 (by decide) rfl rfl ⟨x_cr E (64), trivial⟩ rfl rfl ?_
  intro p e s m args below meth c hargs hin B
  refine x_aload_n B dX8_thrown_0 rfl ?_
  refine x_getI B (k := 0) 0 rfl rfl xc_7 (by decide) h8 (Or.inl q1335) (fun _ h => h) dX8_thrown_1 (fun r_1 => ?_)
  refine x_iret B (fun _ _ h => h) ?_ dX8_thrown_4
  exact ⟨rfl, rfl⟩
theorem c_X8_row {l : Launch} {E : x_E} {κ : x_Ka} {X : x_X} {i : Int} (hT : x_T κ) (h8 : κ 64 = some (.inl (7, 1))) (h1 : 0 ≤ X 64 1 ∧ X 64 1 ≤ 64) (hx : xR i) : x_De l yX8_row cX8_row 2 (some .long) 1 E κ X [x_rf E 64, vi i] (vl (if x_in i 0 (X 64 1 - 1) = 1 then X 65 i else 0)) (x_up X 64 0 (1 - x_in i 0 (X 64 1 - 1))) := by
  refine x_Met.of [(false, x_rf E 64), (false, vi i)] [some (x_rf E 64), some (vi i)] 0 (by decide) rfl rfl ⟨x_cr E (64), rfl, trivial⟩ rfl rfl ?_
  intro p e s m args below meth c hargs hin B
  have z1 := x_in_01 i 0 (X 64 1 - 1)
  refine x_aload_n B dX8_row_0 rfl ?_
  refine x_iload_n B dX8_row_1 rfl ?_
  refine x_i2l B dX8_row_2 ⟨by omega, by omega⟩ ?_
  refine x_lconst B 0 dX8_row_3 (by decide) ?_
  refine x_aload_n B dX8_row_4 rfl ?_
  refine x_getI B (k := 1) 1 rfl rfl xc_7 (by decide) h8 (Or.inl q1336) (fun _ h => h) dX8_row_5 (fun r_5 => ?_)
  refine x_iconst B dX8_row_8 ?_
  refine x_isub B dX8_row_9 ?_
  refine x_i2l B dX8_row_10 ⟨by omega, by omega⟩ ?_
  refine x_goP (x_rS B (c_X8_in ⟨by omega, by omega⟩ ⟨by omega, by omega⟩ ⟨by omega, by omega⟩) (lw_S q1468 q1469 q122 q1470) hd_X8_in ⟨by decide, by decide⟩ ⟨by decide, by decide⟩ rfl rfl (by simp [x_cr, x_c1, x_c2]) dX8_row_11) ?_
  refine x_if_ne B (tgt := 21) dX8_row_14 (by decide) ⟨by omega, by omega⟩ (fun h_14 => ?_) (fun h_14 => ?_)
  · have e1 : x_in i 0 (X 64 1 - 1) = 1 := by omega
    rw [show (1 : Int) - x_in i 0 (X 64 1 - 1) = 0 by omega]
    refine x_iconst B dX8_row_21 ?_
    refine x_goP (x_rS B (c_X8_flag ⟨by omega, by omega⟩) (lw_S q1597 q1598 q122 q1599) hd_X8_flag ⟨by decide, by decide⟩ ⟨by decide, by decide⟩ rfl rfl (by simp [x_cr, x_c1, x_c2]) dX8_row_22) ?_
    refine x_putI B (k := 0) 0 rfl rfl rfl ⟨by omega, by omega⟩ xc_7 (by decide) rfl nn_7_0 (fun _ => rfl) h8 (Or.inl q1335) (fun _ h => h) dX8_row_25 ?_
    refine x_aload_n B dX8_row_28 rfl ?_
    refine x_getI B (k := 0) 0 rfl rfl xc_7 (by decide) h8 (Or.inl q1335) (fun _ h => h) dX8_row_29 (fun r_29 => ?_)
    rw [x_up_s] at r_29 ⊢
    refine x_iconst B dX8_row_32 ?_
    refine x_icmp_ne B (tgt := 40) dX8_row_33 (by decide) ⟨by omega, by omega⟩ ⟨by omega, by omega⟩ (fun h_33 => ?_) (fun h_33 => ?_)
    · have hi : 0 ≤ i ∧ i < X 64 1 := by first | (exfalso; omega) | (unfold x_in at e1; split at e1 <;> omega)
      refine x_aload_n B dX8_row_40 rfl ?_
      refine x_getC0 B (k := 2) hT rfl rfl xc_7 (by decide) h8 (Or.inl q1337) (fun _ h => h) dX8_row_41 (fun k_41 => ?_)
      refine x_iload_n B dX8_row_44 rfl ?_
      refine x_lald B k_41 ⟨by omega, by omega⟩ dX8_row_45 (fun r_45 => ?_)
      rw [x_up_o _ (by omega)]
      refine x_lret B (fun _ _ h => h) ?_ dX8_row_46
      first
      | (exfalso; omega)
      | (rw [if_pos e1]; exact ⟨rfl, rfl⟩)
      | (rw [if_neg (by omega)]; exact ⟨rfl, rfl⟩)
    · refine x_lconst B 0 dX8_row_36 (by decide) ?_
      refine x_goto B (tgt := 46) dX8_row_37 (by decide) ?_
      refine x_lret B (fun _ _ h => h) ?_ dX8_row_46
      first
      | (exfalso; omega)
      | (rw [if_pos e1]; exact ⟨rfl, rfl⟩)
      | (rw [if_neg (by omega)]; exact ⟨rfl, rfl⟩)
  · have e0 : x_in i 0 (X 64 1 - 1) = 0 := by omega
    rw [show (1 : Int) - x_in i 0 (X 64 1 - 1) = 1 by omega]
    refine x_iconst B dX8_row_17 ?_
    refine x_goto B (tgt := 22) dX8_row_18 (by decide) ?_
    refine x_goP (x_rS B (c_X8_flag ⟨by omega, by omega⟩) (lw_S q1597 q1598 q122 q1599) hd_X8_flag ⟨by decide, by decide⟩ ⟨by decide, by decide⟩ rfl rfl (by simp [x_cr, x_c1, x_c2]) dX8_row_22) ?_
    refine x_putI B (k := 0) 0 rfl rfl rfl ⟨by omega, by omega⟩ xc_7 (by decide) rfl nn_7_0 (fun _ => rfl) h8 (Or.inl q1335) (fun _ h => h) dX8_row_25 ?_
    refine x_aload_n B dX8_row_28 rfl ?_
    refine x_getI B (k := 0) 0 rfl rfl xc_7 (by decide) h8 (Or.inl q1335) (fun _ h => h) dX8_row_29 (fun r_29 => ?_)
    rw [x_up_s] at r_29 ⊢
    refine x_iconst B dX8_row_32 ?_
    refine x_icmp_ne B (tgt := 40) dX8_row_33 (by decide) ⟨by omega, by omega⟩ ⟨by omega, by omega⟩ (fun h_33 => ?_) (fun h_33 => ?_)
    · have hi : 0 ≤ i ∧ i < X 64 1 := by first | (exfalso; omega) | (unfold x_in at e1; split at e1 <;> omega)
      refine x_aload_n B dX8_row_40 rfl ?_
      refine x_getC0 B (k := 2) hT rfl rfl xc_7 (by decide) h8 (Or.inl q1337) (fun _ h => h) dX8_row_41 (fun k_41 => ?_)
      refine x_iload_n B dX8_row_44 rfl ?_
      refine x_lald B k_41 ⟨by omega, by omega⟩ dX8_row_45 (fun r_45 => ?_)
      rw [x_up_o _ (by omega)]
      refine x_lret B (fun _ _ h => h) ?_ dX8_row_46
      first
      | (exfalso; omega)
      | (rw [if_pos e1]; exact ⟨rfl, rfl⟩)
      | (rw [if_neg (by omega)]; exact ⟨rfl, rfl⟩)
    · refine x_lconst B 0 dX8_row_36 (by decide) ?_
      refine x_goto B (tgt := 46) dX8_row_37 (by decide) ?_
      refine x_lret B (fun _ _ h => h) ?_ dX8_row_46
      first
      | (exfalso; omega)
      | (rw [if_pos e1]; exact ⟨rfl, rfl⟩)
      | (rw [if_neg (by omega)]; exact ⟨rfl, rfl⟩)
