/-! ===== reading hangs on the text ahead of its end alone ===== -/
theorem r_has_c {lot lot2 : Int → Int} {v : Int} : ∀ k : Nat, (∀ j : Int, 0 ≤ j → j < k → lot j = lot2 j) → r_has lot k v = r_has lot2 k v
  | 0, _ => rfl
  | k + 1, h => by unfold r_has; rw [h k (by omega) (by omega), r_has_c k (fun j j1 j2 => h j j1 (by omega))]
theorem r_lif_c {T T2 : Int → Int} {n m : Int} {lot lot2 : Int → Int} (h : ∀ p, p < n → T p = T2 p) (hl : ∀ j, 0 ≤ j → j < m → lot j = lot2 j) : r_lif (r_num T n) T n lot m = r_lif (r_num T2 n) T2 n lot2 m := by
  have e1 : ∀ p c, (p < n ∧ T p = c) = (p < n ∧ T2 p = c) := fun p c => propext ⟨fun q => ⟨q.1, by rw [← h p q.1]; exact q.2⟩, fun q => ⟨q.1, by rw [h p q.1]; exact q.2⟩⟩
  have e2 : ∀ p, r_dg T n p = r_dg T2 n p := fun p => propext ⟨fun q => ⟨q.1, by rw [← h p q.1]; exact q.2⟩, fun q => ⟨q.1, by rw [h p q.1]; exact q.2⟩⟩
  have hrun : ∀ (k : Nat) (p v : Int), r_run T n k p v = r_run T2 n k p v := by
    intro k
    induction k with
    | zero => intro p v; rfl
    | succ k ih =>
      intro p v
      unfold r_run
      by_cases q : (k = 3 ∨ v > 0) ∧ r_dg T n p
      · rw [if_pos q, if_pos ⟨q.1, by rw [← e2]; exact q.2⟩, ih, h p q.2.1]
      · rw [if_neg q, if_neg (fun z => q ⟨z.1, by rw [e2]; exact z.2⟩)]
  have hnum : r_num T n = r_num T2 n := by
    funext lo hi p
    unfold r_num
    by_cases q : r_dg T n p
    · have q2 : r_dg T2 n p := by rw [← e2]; exact q
      rw [if_pos q, if_pos q2, hrun]
    · have q2 : ¬ r_dg T2 n p := by rw [← e2]; exact q
      rw [if_neg q, if_neg q2]
  have hsn : ∀ N, r_sn N T n = r_sn N T2 n := by
    intro N
    funext c lo hi p
    unfold r_sn
    by_cases q : p < n ∧ T p = c
    · rw [if_pos q, if_pos (by rw [← e1]; exact q)]
    · rw [if_neg q, if_neg (by rw [← e1]; exact q)]
  have htab : ∀ N (k : Nat) (j p : Int) (L D : Int → Int), r_tab N T n k j p L D = r_tab N T2 n k j p L D := by
    intro N k
    induction k with
    | zero => intro j p L D; rfl
    | succ k ih =>
      intro j p L D
      obtain ⟨A, hA⟩ : ∃ A, N (if j = 0 then 1 else L (j - 1) + 1) 40 p = A := ⟨_, rfl⟩
      by_cases a1 : A.1 = 0
      · rw [r_tab_A hA a1, r_tab_A hA a1]
      · by_cases a2 : A.2.1 < n ∧ T A.2.1 = 61
        · have a3 : A.2.1 < n ∧ T2 A.2.1 = 61 := by rw [← e1]; exact a2
          obtain ⟨B, hB⟩ : ∃ B, N 0 (if j = 0 then 1000 else D (j - 1)) (A.2.1 + 1) = B := ⟨_, rfl⟩
          by_cases b1 : B.1 = 0
          · rw [r_tab_B hA a1 a2 hB b1, r_tab_B hA a1 a3 hB b1]
          · by_cases c1 : j + 1 < 6 ∧ B.2.1 < n ∧ T B.2.1 = 44
            · have c2 : j + 1 < 6 ∧ B.2.1 < n ∧ T2 B.2.1 = 44 := ⟨c1.1, by rw [← e1]; exact c1.2⟩
              rw [r_tab_C hA a1 a2 hB b1 c1, r_tab_C hA a1 a3 hB b1 c2, ih]
            · have c2 : ¬ (j + 1 < 6 ∧ B.2.1 < n ∧ T2 B.2.1 = 44) := fun q => c1 ⟨q.1, by rw [e1]; exact q.2⟩
              rw [r_tab_D hA a1 a2 hB b1 c1, r_tab_D hA a1 a3 hB b1 c2]
        · rw [r_tab_E hA a1 a2, r_tab_E hA a1 (by rw [← e1]; exact a2)]
  have hpln : ∀ N p, r_pln N T n p = r_pln N T2 n p := by intro N p; unfold r_pln; rw [hsn N]
  have hlft : ∀ N (k : Nat) (t p : Int) (F : x_X), r_lft N T n k t p F = r_lft N T2 n k t p F := by
    intro N k
    induction k with
    | zero => intro t p F; rfl
    | succ k ih =>
      intro t p F
      obtain ⟨A, hA⟩ : ∃ A, r_tab N T n 6 0 (p + 1) (fun _ => 0) (fun _ => 0) = A := ⟨_, rfl⟩
      have hA2 : r_tab N T2 n 6 0 (p + 1) (fun _ => 0) (fun _ => 0) = A := by rw [← htab]; exact hA
      by_cases q : p < n ∧ T p = 59
      · have q2 : p < n ∧ T2 p = 59 := by rw [← e1]; exact q
        by_cases a1 : A.1 = 0
        · rw [r_lft_2 q hA a1, r_lft_2 q2 hA2 a1]
        · obtain ⟨B, hB⟩ : ∃ B, r_pln N T n A.2.1 = B := ⟨_, rfl⟩
          have hB2 : r_pln N T2 n A.2.1 = B := by rw [← hpln]; exact hB
          by_cases b1 : B.1 = 0
          · rw [r_lft_3 q hA a1 hB b1, r_lft_3 q2 hA2 a1 hB2 b1]
          · rw [r_lft_4 q hA a1 hB b1, r_lft_4 q2 hA2 a1 hB2 b1, ih]
      · rw [r_lft_1 q, r_lft_1 (by rw [← e1]; exact q)]
  have hhas : ∀ v, r_has lot m.toNat v = r_has lot2 m.toNat v := fun v => r_has_c _ (fun j j1 j2 => hl j j1 (by omega))
  unfold r_lif
  rw [hnum]
  simp only [hsn, hlft, hhas]
/-! ===== the relation between both, in one store ===== -/
def EV (X Z : x_X) : Prop := Z 64 3 = X 1 2 ∧ t_M Z = c_M X 3 ∧ t_body Z = c_body X ∧ t_lot Z = c_lot X ∧ t_p3 Z = c_p3 X ∧ t_O Z = c_O X
def EG (X Z : x_X) : Prop := t_G Z = c_G X ∧ Z 64 13 = X 0 12
def ES (X Z : x_X) : Prop := Z 64 10 = X 0 1 ∧ Z 64 18 = X 0 5 ∧ ∀ p, p < X 0 5 → Z 75 p = X 31 p % 256
def ER (X Z : x_X) : Prop := Z 64 1 = X 0 7 ∧ ∀ k, 0 ≤ k → k < X 0 7 → Z 65 k = X 32 k
/-- the memo's marks -/
def FB (X : x_X) (j : Int) : Prop := (0 ≤ X 38 8 ∧ X 38 8 ≤ 1000 * j) ∧ ∀ t, 0 ≤ t → t ≤ 2 → ∀ k, 0 ≤ k → k < 15498 → X (38 + 11 + 1 + 1 * t) k ≤ X 38 8 + 120
def CC (κ : x_Ka) (X : x_X) (j : Int) : Prop := (n_C κ X ∧ n_low X ∧ κ 87 = some (.inr (1, 1))) ∧ (∀ l k, 0 ≤ l → l < k → k < X 1 2 → X 2 l + 14 ≤ X 2 k) ∧ FB X j ∧ (0 ≤ X 1 0 ∧ X 1 0 ≤ j) ∧ (0 ≤ X 0 5 ∧ X 0 5 ≤ 240) ∧ (0 ≤ X 0 7 ∧ X 0 7 ≤ 64) ∧ (0 ≤ X 0 12 ∧ X 0 12 ≤ 54 ∧ X 0 12 ≤ m_T (X 1 2) (c_M X 3)) ∧ g_ds (c_lot X) (X 1 2) ∧ m_Q (X 1 2) (c_M X 3)
def TT (κ : x_Ka) (X : x_X) : Prop := t_C κ X ∧ t_gd X
def Rel (κ : x_Ka) (X : x_X) (j : Int) : Prop := CC κ X j ∧ TT κ X ∧ EV X X ∧ EG X X ∧ ES X X ∧ ER X X
/-- the component's views are those of X -/
def ceq (X Y : x_X) : Prop := Y 1 2 = X 1 2 ∧ c_M Y 3 = c_M X 3 ∧ c_body Y = c_body X ∧ c_lot Y = c_lot X ∧ c_p3 Y = c_p3 X ∧ c_O Y = c_O X
theorem ceq_v {X Y : x_X} (h : v_eq X Y) (hn : X 1 2 ≤ 6) : ceq X Y := ⟨congrFun (h.1 1 (by omega) (by omega)) 2, h.M hn, h.l.bl.1, h.l.bl.2, h.l.p3, h.O⟩
theorem EV.c {X Y Z : x_X} (h : EV X Z) (e : ceq X Y) : EV Y Z := by
  unfold EV at *
  obtain ⟨e1, e2, e3, e4, e5, e6⟩ := e
  rw [e1, e2, e3, e4, e5, e6]; exact h
/-- the twin's views are those of X -/
def teq (X Y : x_X) : Prop := Y 64 3 = X 64 3 ∧ t_M Y = t_M X ∧ t_body Y = t_body X ∧ t_lot Y = t_lot X ∧ t_p3 Y = t_p3 X ∧ t_O Y = t_O X
theorem teq_e {X Y : x_X} (h3 : Y 64 3 = X 64 3) (h10 : Y 64 10 = X 64 10) (h : ∀ a, 66 ≤ a → a ≤ 72 → Y a = X a) : teq X Y := ⟨h3, t_M_e h3 (h 72 (by omega) (by omega)), t_body_e h3 (h 66 (by omega) (by omega)), t_lot_e h3 (h 67 (by omega) (by omega)), t_p3_e h3 (h 71 (by omega) (by omega)), t_O_e h3 h10 (h 68 (by omega) (by omega)) (h 69 (by omega) (by omega)) (h 70 (by omega) (by omega))⟩
theorem EV.t {X Y Z : x_X} (h : EV X Y) (e : teq Y Z) : EV X Z := by
  unfold EV at *
  obtain ⟨e1, e2, e3, e4, e5, e6⟩ := e
  rw [e1, e2, e3, e4, e5, e6]; exact h
theorem t_G_e {X Y : x_X} (h1 : Y 64 13 = X 64 13) (h2 : Y 74 = X 74) : t_G Y = t_G X := by funext k w; unfold t_G; rw [h1, h2]
theorem c_G_e {X Y : x_X} (h1 : Y 0 12 = X 0 12) (h2 : ∀ a, 33 ≤ a → a ≤ 36 → Y a = X a) : c_G Y = c_G X := by funext k w; unfold c_G; rw [h1, h2 33 (by omega) (by omega), h2 34 (by omega) (by omega), h2 35 (by omega) (by omega), h2 36 (by omega) (by omega)]
/-- what the twin's calls leave -/
def TFr (X Z : x_X) : Prop := ∀ a, (a < 64 ∨ 86 < a) → Z a = X a
/-- what the component's calls leave -/
def CFr (X Y : x_X) : Prop := ∀ a, 64 ≤ a → a ≤ 86 → Y a = X a
theorem TFr.v {κ : x_Ka} {X Z : x_X} (h : TFr X Z) (hI : n_I κ X) : v_eq X Z := ⟨fun a a1 a2 => h a (by omega), fun l l1 l2 j j1 j2 => h _ (by have := hI.2.2.2.2 l l1 l2; omega), by rw [h 0 (by omega)]⟩
theorem CC.tf {κ : x_Ka} {X Z : x_X} {j : Int} (h : CC κ X j) (hf : TFr X Z) : CC κ Z j := by
  obtain ⟨⟨h1, h2, h3⟩, h4, h5, h6, h7, h8, h9, h10, h11⟩ := h
  have hv := hf.v h1.1
  have hc := ceq_v hv h1.1.2.2.1.2
  have z0 := hf 0 (by omega)
  have z1 := hf 1 (by omega)
  have z2 := hf 2 (by omega)
  have zm := hf (-1) (by omega)
  refine ⟨⟨hv.C h1, ?_, h3⟩, ?_, ?_, ?_, ?_, ?_, ?_, ?_, ?_⟩
  · unfold n_low at *; rw [zm, z1, z2]; exact h2
  · rw [z1, z2]; exact h4
  · unfold FB at *
    rw [hf 38 (by omega)]
    exact ⟨h5.1, fun t t1 t2 k k1 k2 => by rw [hf _ (by omega)]; exact h5.2 t t1 t2 k k1 k2⟩
  · rw [z1]; exact h6
  · rw [z0]; exact h7
  · rw [z0]; exact h8
  · rw [z0, z1, hc.2.1]; exact h9
  · rw [z1, hc.2.2.2.1]; exact h10
  · rw [z1, hc.2.1]; exact h11
theorem TT.cf {κ κ2 : x_Ka} {X Y : x_X} (h : TT κ X) (hf : CFr X Y) (hT : x_T κ2) (h8 : κ2 64 = some (.inl (7, 1))) : TT κ2 Y := by
  obtain ⟨⟨hK, hP, hO, hW, hL⟩, hg⟩ := h
  have z := hf 64 (by omega) (by omega)
  have e3 : Y 64 3 = X 64 3 := congrFun z 3
  have ht : teq X Y := teq_e e3 (congrFun z 10) (fun a a1 a2 => hf a (by omega) (by omega))
  refine ⟨⟨⟨hT, h8, by rw [e3]; exact hK.2.2⟩, ?_, ?_, ?_, ?_⟩, hg.e (congrFun z 14) (congrFun z 13) (t_G_e (congrFun z 13) (hf 74 (by omega) (by omega)))⟩
  · unfold t_P at *; rw [e3, ht.2.2.2.2.1]; exact hP
  · unfold t_Ow at *; rw [e3, z, hf 68 (by omega) (by omega), hf 69 (by omega) (by omega), hf 70 (by omega) (by omega)]; exact hO
  · rw [e3, ht.2.1]; exact hW
  · unfold t_La at *; rw [e3, hf 72 (by omega) (by omega)]; exact hL
theorem teq.cf {X Y : x_X} (hf : CFr X Y) : teq X Y := teq_e (congrFun (hf 64 (by omega) (by omega)) 3) (congrFun (hf 64 (by omega) (by omega)) 10) (fun a a1 a2 => hf a (by omega) (by omega))
theorem Rel_fin {κ : x_Ka} {Y Z : x_X} {j : Int} (hC : CC κ Y j) (hf : TFr Y Z) (hT : TT κ Z) (hV : EV Y Z) (hG : EG Y Z) (hS : ES Y Z) (hR : ER Y Z) : Rel κ Z j := by
  have hv := hf.v hC.1.1.1
  have hc := ceq_v hv hC.1.1.1.2.2.1.2
  have z0 := hf 0 (by omega)
  refine ⟨hC.tf hf, hT, hV.c hc, ?_, ?_, ?_⟩
  · unfold EG at *
    rw [c_G_e (by rw [z0]) (fun a a1 a2 => hf a (by omega)), z0]; exact hG
  · unfold ES at *
    rw [z0, hf 31 (by omega)]; exact hS
  · unfold ER at *
    rw [z0, hf 32 (by omega)]; exact hR
theorem h_eq.tf {Y Z : x_X} (h : h_eq Y Z) : TFr Y Z := fun a ha => h.1 a (by omega) (by omega) (by omega)
theorem k_eq.cf {X Y : x_X} (h : k_eq X Y) (hlo : n_low X) : CFr X Y := fun a a1 a2 => h.2.1 a a1 (by have := hlo.1; omega)
theorem t_nt.h {X Y : x_X} (h : t_nt X Y) : h_eq X Y := ⟨fun b b1 b2 _ => h.1 b b1 b2, fun i i1 i2 _ => h.2 i i1 i2⟩
theorem FB.k {X Y : x_X} {j : Int} (h : FB X j) (hj : 0 ≤ j) (hf : f_eq X Y ∨ f_B2 X Y) : FB Y (j + 1) := by
  rcases hf with hf | hf
  · unfold FB at *
    rw [hf 38 (by omega) (by omega)]
    exact ⟨⟨h.1.1, by have := h.1.2; omega⟩, fun t t1 t2 k k1 k2 => by rw [hf _ (by omega) (by omega)]; exact h.2 t t1 t2 k k1 k2⟩
  · unfold FB f_B2 at *
    exact ⟨⟨by omega, by omega⟩, hf.2⟩
theorem FB.b {X : x_X} {j : Int} (h : FB X j) (hj : j ≤ 64) : f_B X ∧ X 38 8 ≤ 800000 := ⟨⟨⟨h.1.1, by have := h.1.2; omega⟩, h.2⟩, by have := h.1.2; omega⟩
/-- behind what only asks -/
theorem CC.q {κ : x_Ka} {X Y : x_X} {j : Int} (h : CC κ X j) (hj : 0 ≤ j) (hk : k_eq X Y) (hf : f_eq X Y ∨ f_B2 X Y) (h7 : 0 ≤ Y 0 7 ∧ Y 0 7 ≤ 64) : CC κ Y (j + 1) := by
  obtain ⟨⟨h1, h2, h3⟩, h4, h5, h6, h7', h8, h9, h10, h11⟩ := h
  have hv := hk.v h1.1 h2
  have hc := ceq_v hv h1.1.2.2.1.2
  have z1 := hk.1 1 (by omega) (by omega) (by omega) (by omega)
  have z2 := hk.1 2 (by omega) (by omega) (by omega) (by omega)
  refine ⟨⟨hv.C h1, hk.low h2, h3⟩, ?_, h5.k hj hf, ?_, ?_, h7, ?_, ?_, ?_⟩
  · rw [z1, z2]; exact h4
  · rw [z1]; omega
  · rw [hk.2.2.1.2.1]; exact h7'
  · rw [hk.2.2.1.2.2, z1, hc.2.1]; exact h9
  · rw [z1, hc.2.2.2.1]; exact h10
  · rw [z1, hc.2.1]; exact h11
theorem Rel_q {κ : x_Ka} {X Y Z : x_X} {j : Int} (h : Rel κ X j) (hj : 0 ≤ j) (hk : k_eq X Y) (hf : f_eq X Y ∨ f_B2 X Y) (hh : h_eq Y Z) (h7 : 0 ≤ Y 0 7 ∧ Y 0 7 ≤ 64) (hr : ER Y Z) : Rel κ Z (j + 1) := by
  obtain ⟨hC, hT, hV, hG, hS, hR⟩ := h
  have hlo := hC.1.2.1
  have hI := hC.1.1.1
  have hc := ceq_v (hk.v hI hlo) hI.2.2.1.2
  have hcf := hk.cf hlo
  have hTY := hT.cf hcf hT.1.1.1 hT.1.1.2.1
  have hv := hh.v
  have ht2 : teq Y Z := teq_e hv.1 (hh.2 10 (by omega) (by omega) (by omega)) (fun a a1 a2 => hh.1 a (by omega) (by omega) (by omega))
  have z64 := hcf 64 (by omega) (by omega)
  refine Rel_fin (hC.q hj hk hf h7) hh.tf ⟨hh.C hTY.1, hTY.2.e (hh.2 14 (by omega) (by omega) (by omega)) (hh.2 13 (by omega) (by omega) (by omega)) hv.2.2.2.2.2.2⟩ (((hV.c hc).t (teq.cf hcf)).t ht2) ⟨?_, ?_⟩ ⟨?_, ?_, fun p hp => ?_⟩ hr
  · rw [hv.2.2.2.2.2.2, t_G_e (congrFun z64 13) (hcf 74 (by omega) (by omega)), hG.1]
    exact (c_G_e hk.2.2.1.2.2 (fun a a1 a2 => hk.1 a (by omega) (by omega) (by omega) (by omega))).symm
  · rw [hh.2 13 (by omega) (by omega) (by omega), z64, hk.2.2.1.2.2]; exact hG.2
  · rw [hh.2 10 (by omega) (by omega) (by omega), z64, hk.2.2.1.1]; exact hS.1
  · rw [hh.2 18 (by omega) (by omega) (by omega), z64, hk.2.2.1.2.1]; exact hS.2.1
  · rw [hk.2.2.1.2.1] at hp
    rw [hh.1 75 (by omega) (by omega) (by omega), hcf 75 (by omega) (by omega), hk.1 31 (by omega) (by omega) (by omega) (by omega)]
    exact hS.2.2 p hp
/-- the rows are as they were -/
theorem ER.q {κ : x_Ka} {X Y Z : x_X} {j : Int} (h : Rel κ X j) (hk : k_eq X Y) (hr : r_eq X Y) (h8 : hr8 Y Z) : ER Y Z ∧ 0 ≤ Y 0 7 ∧ Y 0 7 ≤ 64 := by
  have hcf := hk.cf h.1.1.2.1
  have hR := h.2.2.2.2.2
  unfold ER at *
  rw [hr.1, hr.2, h8.1, h8.2, hcf 64 (by omega) (by omega), hcf 65 (by omega) (by omega)]
  exact ⟨hR, h.1.2.2.2.2.2.1⟩
