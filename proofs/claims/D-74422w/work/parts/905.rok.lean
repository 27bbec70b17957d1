/-! ===== what a text that is read holds ===== -/
theorem r_tab_ok {N : Int → Int → Int → Int × Int × Int} {T : Int → Int} {n : Int} (hN : r_N N n) : ∀ (k : Nat) (j p : Int) (L D : Int → Int), (0 ≤ j ∧ j + k ≤ 6) → (0 ≤ p ∧ p ≤ n) → (∀ i, 0 ≤ i → i < j → (1 ≤ L i ∧ L i ≤ 40) ∧ (0 ≤ D i ∧ D i ≤ 1000) ∧ (0 < i → L (i - 1) < L i ∧ D i ≤ D (i - 1))) → (r_tab N T n k j p L D).1 = 1 → t_wf (r_tab N T n k j p L D).2.2.2.1 (r_tab N T n k j p L D).2.2.2.2 (r_tab N T n k j p L D).2.2.1 ∧ (0 ≤ (r_tab N T n k j p L D).2.1 ∧ (r_tab N T n k j p L D).2.1 ≤ n)
  | 0, _, _, _, _, _, _, _, h => by unfold r_tab at h; dsimp only at h; omega
  | k + 1, j, p, L, D, hj, hp, hi, h => by
    obtain ⟨A, hA⟩ : ∃ A_, N (if j = 0 then 1 else L (j - 1) + 1) 40 p = A_ := ⟨_, rfl⟩
    have rA := hN (if j = 0 then 1 else L (j - 1) + 1) 40 p hp
    rw [hA] at rA
    by_cases hA0 : A.1 = 0
    · rw [r_tab_A hA hA0] at h; dsimp only at h; omega
    · by_cases he : A.2.1 < n ∧ T A.2.1 = 61
      · obtain ⟨B, hB⟩ : ∃ A_, N 0 (if j = 0 then 1000 else D (j - 1)) (A.2.1 + 1) = A_ := ⟨_, rfl⟩
        have rB := hN 0 (if j = 0 then 1000 else D (j - 1)) (A.2.1 + 1) (by omega)
        rw [hB] at rB
        by_cases h2 : B.1 = 0
        · rw [r_tab_B hA hA0 he hB h2] at h; dsimp only at h; omega
        · have vA := rA.2.2 (by omega)
          have vB := rB.2.2 (by omega)
          have key : ∀ i, 0 ≤ i → i < j + 1 → (1 ≤ r_u L j A.2.2 i ∧ r_u L j A.2.2 i ≤ 40) ∧ (0 ≤ r_u D j B.2.2 i ∧ r_u D j B.2.2 i ≤ 1000) ∧ (0 < i → r_u L j A.2.2 (i - 1) < r_u L j A.2.2 i ∧ r_u D j B.2.2 i ≤ r_u D j B.2.2 (i - 1)) := by
            intro i i1 i2
            by_cases e : i = j
            · subst e
              rw [r_u_s, r_u_s]
              by_cases z : i = 0
              · rw [if_pos z] at vA vB
                exact ⟨by omega, by omega, fun q => by omega⟩
              · rw [if_neg z] at vA vB
                have := hi (i - 1) (by omega) (by omega)
                exact ⟨by omega, by omega, fun q => by rw [r_u_n (by omega), r_u_n (by omega)]; omega⟩
            · rw [r_u_n e, r_u_n e]
              have := hi i i1 (by omega)
              exact ⟨this.1, this.2.1, fun q => by rw [r_u_n (by omega), r_u_n (by omega)]; exact this.2.2 q⟩
          by_cases hc : j + 1 < 6 ∧ B.2.1 < n ∧ T B.2.1 = 44
          · rw [r_tab_C hA hA0 he hB h2 hc] at h ⊢
            exact r_tab_ok hN k _ _ _ _ (by omega) (by omega) key h
          · rw [r_tab_D hA hA0 he hB h2 hc]
            exact ⟨⟨by dsimp only; omega, fun i i1 i2 => key i i1 i2⟩, by dsimp only; omega⟩
      · rw [r_tab_E hA hA0 he] at h; dsimp only at h; omega
theorem r_pln_ok {N : Int → Int → Int → Int × Int × Int} {T : Int → Int} {n : Int} (hN : r_N N n) {p : Int} (hp : 0 ≤ p ∧ p ≤ n) (h : (r_pln N T n p).1 = 1) : ((1 ≤ (r_pln N T n p).2.2 0 ∧ (r_pln N T n p).2.2 0 ≤ 40) ∧ (1 ≤ (r_pln N T n p).2.2 1 ∧ (r_pln N T n p).2.2 1 ≤ 9) ∧ (0 ≤ (r_pln N T n p).2.2 2 ∧ (r_pln N T n p).2.2 2 ≤ 9)) ∧ (0 ≤ (r_pln N T n p).2.1 ∧ (r_pln N T n p).2.1 ≤ n) := by
  obtain ⟨A, hA⟩ : ∃ A_, r_sn N T n 47 1 40 p = A_ := ⟨_, rfl⟩
  have rA := r_sn_r (T := T) hN 47 1 40 p hp
  rw [hA] at rA
  by_cases h0 : A.1 = 0
  · rw [r_pln_0 hA h0] at h; dsimp only at h; omega
  · obtain ⟨B, hB⟩ : ∃ A_, r_sn N T n 43 1 9 A.2.1 = A_ := ⟨_, rfl⟩
    have rB := r_sn_r (T := T) hN 43 1 9 A.2.1 (by omega)
    rw [hB] at rB
    by_cases h1 : B.1 = 0
    · rw [r_pln_1 hA h0 hB h1] at h; dsimp only at h; omega
    · obtain ⟨C, hC⟩ : ∃ A_, r_sn N T n 43 0 9 B.2.1 = A_ := ⟨_, rfl⟩
      have rC := r_sn_r (T := T) hN 43 0 9 B.2.1 (by omega)
      rw [hC] at rC
      by_cases h2 : C.1 = 0
      · rw [r_pln_2 hA h0 hB h1 hC h2] at h; dsimp only at h; omega
      · rw [r_pln_3 hA h0 hB h1 hC h2]
        have a := rA.2.2 (by omega)
        have b := rB.2.2 (by omega)
        have c := rC.2.2 (by omega)
        dsimp only
        rw [if_pos rfl, if_neg (by omega), if_pos rfl, if_neg (by omega), if_neg (by omega)]
        omega
/-- lift u of a store that may enter -/
def r_G (F : x_X) (u : Int) : Prop := t_wf (F (20 + u)) (F (30 + u)) (F (10 + u) 0) ∧ (1 ≤ F (40 + u) 0 ∧ F (40 + u) 0 ≤ 40) ∧ (1 ≤ F (40 + u) 1 ∧ F (40 + u) 1 ≤ 9) ∧ (0 ≤ F (40 + u) 2 ∧ F (40 + u) 2 ≤ 9)
theorem r_lft_ok {N : Int → Int → Int → Int × Int × Int} {T : Int → Int} {n : Int} (hN : r_N N n) : ∀ (k : Nat) (t p : Int) (F : x_X), (0 ≤ t ∧ t + k = 3) → (0 ≤ p ∧ p ≤ n) → (∀ u, 0 ≤ u → u < t → r_G F u) → (r_lft N T n k t p F).1 = 1 → (∀ u, 0 ≤ u → u < 3 → r_G (r_lft N T n k t p F).2.2 u) ∧ (r_lft N T n k t p F).2.2 0 = F 0 ∧ (0 ≤ (r_lft N T n k t p F).2.1 ∧ (r_lft N T n k t p F).2.1 ≤ n)
  | 0, t, p, F, ht, hp, hu, _ => ⟨fun u u1 u2 => hu u u1 (by omega), rfl, hp⟩
  | k + 1, t, p, F, ht, hp, hu, h => by
    by_cases h0 : p < n ∧ T p = 59
    · obtain ⟨A, hA⟩ : ∃ A_, r_tab N T n 6 0 (p + 1) (fun _ => 0) (fun _ => 0) = A_ := ⟨_, rfl⟩
      by_cases h1 : A.1 = 0
      · rw [r_lft_2 h0 hA h1] at h; dsimp only at h; omega
      · have fA := r_tab_f N T n 6 0 (p + 1) (fun _ => 0) (fun _ => 0)
        rw [hA] at fA
        have oA := r_tab_ok (T := T) hN 6 0 (p + 1) (fun _ => 0) (fun _ => 0) (by omega) (by omega) (fun i i1 i2 => by omega) (by rw [hA]; omega)
        rw [hA] at oA
        obtain ⟨B, hB⟩ : ∃ A_, r_pln N T n A.2.1 = A_ := ⟨_, rfl⟩
        by_cases h2 : B.1 = 0
        · rw [r_lft_3 h0 hA h1 hB h2] at h; dsimp only at h; omega
        · have fB := r_pln_f N T n A.2.1
          rw [hB] at fB
          have oB := r_pln_ok (T := T) hN (p := A.2.1) oA.2 (by rw [hB]; omega)
          rw [hB] at oB
          rw [r_lft_4 h0 hA h1 hB h2] at h ⊢
          have ps := r_put_s (F := F) (t := t) (m := A.2.2.1) (L := A.2.2.2.1) (D := A.2.2.2.2) (W := B.2.2) (by omega)
          have ih := r_lft_ok hN k (t + 1) B.2.1 (r_put F t A.2.2.1 A.2.2.2.1 A.2.2.2.2 B.2.2) (by omega) oB.2 (fun u u1 u2 => by
            by_cases e : u = t
            · subst e; unfold r_G; rw [ps.1, ps.2.1, ps.2.2.1, ps.2.2.2]; exact ⟨oA.1, oB.1⟩
            · unfold r_G
              rw [r_put_o (by omega) (by omega) e (Or.inl rfl), r_put_o (by omega) (by omega) e (Or.inr (Or.inl rfl)), r_put_o (by omega) (by omega) e (Or.inr (Or.inr (Or.inl rfl))), r_put_o (by omega) (by omega) e (Or.inr (Or.inr (Or.inr rfl)))]
              exact hu u u1 (by omega)) h
          exact ⟨ih.1, ih.2.1.trans (r_put_0 (by omega)), ih.2.2⟩
    · rw [r_lft_1 h0] at h; dsimp only at h; omega
theorem r_lft_f (N : Int → Int → Int → Int × Int × Int) (T : Int → Int) (n : Int) : ∀ (k : Nat) (t p : Int) (F : x_X), (r_lft N T n k t p F).1 = 0 ∨ (r_lft N T n k t p F).1 = 1
  | 0, _, _, _ => Or.inr rfl
  | k + 1, t, p, F => by
    by_cases h0 : p < n ∧ T p = 59
    · obtain ⟨A, hA⟩ : ∃ A_, r_tab N T n 6 0 (p + 1) (fun _ => 0) (fun _ => 0) = A_ := ⟨_, rfl⟩
      by_cases h1 : A.1 = 0
      · rw [r_lft_2 h0 hA h1]; exact Or.inl rfl
      · obtain ⟨B, hB⟩ : ∃ A_, r_pln N T n A.2.1 = A_ := ⟨_, rfl⟩
        by_cases h2 : B.1 = 0
        · rw [r_lft_3 h0 hA h1 hB h2]; exact Or.inl rfl
        · rw [r_lft_4 h0 hA h1 hB h2]; exact r_lft_f N T n k _ _ _
    · rw [r_lft_1 h0]; exact Or.inl rfl
theorem r_lif_f (N : Int → Int → Int → Int × Int × Int) (T : Int → Int) (n : Int) (lot : Int → Int) (m : Int) : (r_lif N T n lot m).1 = 0 ∨ (r_lif N T n lot m).1 = 1 := by
  obtain ⟨A, hA⟩ : ∃ A_, N 1 200 0 = A_ := ⟨_, rfl⟩
  by_cases h0 : A.1 = 0
  · rw [r_lif_1 hA h0]; exact Or.inl rfl
  · obtain ⟨B, hB⟩ : ∃ A_, r_sn (r_num T n) T n 44 0 99 A.2.1 = A_ := ⟨_, rfl⟩
    by_cases h1 : B.1 = 0
    · rw [r_lif_2 hA h0 hB h1]; exact Or.inl rfl
    · by_cases h2 : r_has lot m.toNat B.2.2 = 1
      · rw [r_lif_3 hA h0 hB h1 h2]; exact Or.inl rfl
      · rw [r_lif_4 hA h0 hB h1 h2 rfl]
        by_cases h3 : (r_lft N T n 3 0 B.2.1 (r_F0 A.2.2 B.2.2)).1 = 0
        · rw [if_pos h3]; exact Or.inl rfl
        · rw [if_neg h3]
          by_cases h4 : (r_lft N T n 3 0 B.2.1 (r_F0 A.2.2 B.2.2)).2.1 < n
          · rw [if_pos h4]; exact Or.inl rfl
          · rw [if_neg h4]; exact r_lft_f N T n 3 _ _ _
theorem r_lif_ok {N : Int → Int → Int → Int × Int × Int} {T : Int → Int} {n : Int} (hN : r_N N n) (hn : 0 ≤ n) {lot : Int → Int} {m : Int} (h : (r_lif N T n lot m).1 = 1) : (∀ u, 0 ≤ u → u < 3 → r_G (r_lif N T n lot m).2.2 u) ∧ (1 ≤ (r_lif N T n lot m).2.2 0 0 ∧ (r_lif N T n lot m).2.2 0 0 ≤ 200) ∧ (0 ≤ (r_lif N T n lot m).2.2 0 1 ∧ (r_lif N T n lot m).2.2 0 1 ≤ 99) ∧ r_has lot m.toNat ((r_lif N T n lot m).2.2 0 1) ≠ 1 := by
  obtain ⟨A, hA⟩ : ∃ A_, N 1 200 0 = A_ := ⟨_, rfl⟩
  have rA := hN 1 200 0 (by omega)
  rw [hA] at rA
  by_cases h0 : A.1 = 0
  · rw [r_lif_1 hA h0] at h; dsimp only at h; omega
  · obtain ⟨B, hB⟩ : ∃ A_, r_sn (r_num T n) T n 44 0 99 A.2.1 = A_ := ⟨_, rfl⟩
    have rB := r_sn_r (T := T) (r_num_r T n) 44 0 99 A.2.1 (by omega)
    rw [hB] at rB
    by_cases h1 : B.1 = 0
    · rw [r_lif_2 hA h0 hB h1] at h; dsimp only at h; omega
    · by_cases h2 : r_has lot m.toNat B.2.2 = 1
      · rw [r_lif_3 hA h0 hB h1 h2] at h; dsimp only at h; omega
      · have vA := rA.2.2 (by omega)
        have vB := rB.2.2 (by omega)
        rw [r_lif_4 hA h0 hB h1 h2 rfl] at h ⊢
        by_cases h3 : (r_lft N T n 3 0 B.2.1 (r_F0 A.2.2 B.2.2)).1 = 0
        · rw [if_pos h3] at h; dsimp only at h; omega
        · rw [if_neg h3] at h ⊢
          by_cases h4 : (r_lft N T n 3 0 B.2.1 (r_F0 A.2.2 B.2.2)).2.1 < n
          · rw [if_pos h4] at h; dsimp only at h; omega
          · rw [if_neg h4] at h ⊢
            have ok := r_lft_ok (T := T) hN 3 0 B.2.1 (r_F0 A.2.2 B.2.2) (by omega) (by omega) (fun u u1 u2 => by omega) h
            have e0 : (r_lft N T n 3 0 B.2.1 (r_F0 A.2.2 B.2.2)).2.2 0 0 = A.2.2 := by rw [ok.2.1]; rfl
            have e1 : (r_lft N T n 3 0 B.2.1 (r_F0 A.2.2 B.2.2)).2.2 0 1 = B.2.2 := by rw [ok.2.1]; rfl
            rw [e0, e1]
            exact ⟨ok.1, vA, vB, h2⟩
/-! ===== both ways of reading agree ===== -/
theorem r8_num_c (T : Int → Int) (n lo hi p : Int) : ((r_num T n lo hi p).1 = 1 ∧ r_dg T n (r_num T n lo hi p).2.1 ∧ r8_num T n lo hi p = (0, (r_num T n lo hi p).2.1, 0)) ∨ (¬ ((r_num T n lo hi p).1 = 1 ∧ r_dg T n (r_num T n lo hi p).2.1) ∧ r8_num T n lo hi p = r_num T n lo hi p) := by
  unfold r8_num
  by_cases q : (r_num T n lo hi p).1 = 1 ∧ r_dg T n (r_num T n lo hi p).2.1
  · rw [if_pos q]; exact Or.inl ⟨q.1, q.2, rfl⟩
  · rw [if_neg q]; exact Or.inr ⟨q, rfl⟩
theorem r_num_f (T : Int → Int) (n lo hi p : Int) : (r_num T n lo hi p).1 = 0 ∨ (r_num T n lo hi p).1 = 1 := by
  unfold r_num
  split
  · split
    · exact Or.inr rfl
    · exact Or.inl rfl
  · exact Or.inl rfl
theorem r8_sn (T : Int → Int) (n c lo hi p : Int) : ((r_sn (r_num T n) T n c lo hi p).1 = 1 ∧ r_dg T n (r_sn (r_num T n) T n c lo hi p).2.1 ∧ r_sn (r8_num T n) T n c lo hi p = (0, (r_sn (r_num T n) T n c lo hi p).2.1, 0)) ∨ (¬ ((r_sn (r_num T n) T n c lo hi p).1 = 1 ∧ r_dg T n (r_sn (r_num T n) T n c lo hi p).2.1) ∧ r_sn (r8_num T n) T n c lo hi p = r_sn (r_num T n) T n c lo hi p) := by
  unfold r_sn
  by_cases q : p < n ∧ T p = c
  · rw [if_pos q, if_pos q]; exact r8_num_c T n lo hi (p + 1)
  · rw [if_neg q, if_neg q]; exact Or.inr ⟨fun z => by have := z.1; dsimp only at this; omega, rfl⟩
theorem r8_tab (T : Int → Int) (n : Int) : ∀ (k : Nat) (j p : Int) (L D : Int → Int), ((r_tab (r_num T n) T n k j p L D).1 = 1 ∧ r_dg T n (r_tab (r_num T n) T n k j p L D).2.1 ∧ r_tab (r8_num T n) T n k j p L D = (0, (r_tab (r_num T n) T n k j p L D).2.1, 0, fun _ => 0, fun _ => 0)) ∨ (¬ ((r_tab (r_num T n) T n k j p L D).1 = 1 ∧ r_dg T n (r_tab (r_num T n) T n k j p L D).2.1) ∧ r_tab (r8_num T n) T n k j p L D = r_tab (r_num T n) T n k j p L D)
  | 0, _, _, _, _ => Or.inr ⟨fun z => by have := z.1; unfold r_tab at this; dsimp only at this; omega, rfl⟩
  | k + 1, j, p, L, D => by
    have ff : ∀ (z : Int) (w : Int × (Int → Int) × (Int → Int)), ¬ (((0, z, w) : Int × Int × Int × (Int → Int) × (Int → Int)).1 = 1 ∧ r_dg T n ((0, z, w) : Int × Int × Int × (Int → Int) × (Int → Int)).2.1) := fun z w q => by have := q.1; dsimp only at this; omega
    obtain ⟨A, hA⟩ : ∃ A_, r_num T n (if j = 0 then 1 else L (j - 1) + 1) 40 p = A_ := ⟨_, rfl⟩
    have fA := r_num_f T n (if j = 0 then 1 else L (j - 1) + 1) 40 p
    have cA := r8_num_c T n (if j = 0 then 1 else L (j - 1) + 1) 40 p
    rw [hA] at cA fA
    rcases cA with ⟨c1, c2, c3⟩ | ⟨c1, c3⟩
    · have c2' := c2
      unfold r_dg at c2'
      rw [r_tab_A c3 rfl, r_tab_E hA (by omega) (by omega)]
      exact Or.inr ⟨ff _ _, rfl⟩
    · by_cases h0 : A.1 = 0
      · rw [r_tab_A c3 h0, r_tab_A hA h0]; exact Or.inr ⟨ff _ _, rfl⟩
      · by_cases he : A.2.1 < n ∧ T A.2.1 = 61
        · obtain ⟨B, hB⟩ : ∃ A_, r_num T n 0 (if j = 0 then 1000 else D (j - 1)) (A.2.1 + 1) = A_ := ⟨_, rfl⟩
          have fB := r_num_f T n 0 (if j = 0 then 1000 else D (j - 1)) (A.2.1 + 1)
          have cB := r8_num_c T n 0 (if j = 0 then 1000 else D (j - 1)) (A.2.1 + 1)
          rw [hB] at cB fB
          rcases cB with ⟨d1, d2, d3⟩ | ⟨d1, d3⟩
          · have d2' := d2
            unfold r_dg at d2'
            rw [r_tab_B c3 h0 he d3 rfl, r_tab_D hA h0 he hB (by omega) (by omega)]
            exact Or.inl ⟨rfl, d2, rfl⟩
          · by_cases h1 : B.1 = 0
            · rw [r_tab_B c3 h0 he d3 h1, r_tab_B hA h0 he hB h1]; exact Or.inr ⟨ff _ _, rfl⟩
            · by_cases hc : j + 1 < 6 ∧ B.2.1 < n ∧ T B.2.1 = 44
              · rw [r_tab_C c3 h0 he d3 h1 hc, r_tab_C hA h0 he hB h1 hc]; exact r8_tab T n k _ _ _ _
              · rw [r_tab_D c3 h0 he d3 h1 hc, r_tab_D hA h0 he hB h1 hc]
                exact Or.inr ⟨fun q => d1 ⟨by omega, q.2⟩, rfl⟩
        · rw [r_tab_E c3 h0 he, r_tab_E hA h0 he]; exact Or.inr ⟨ff _ _, rfl⟩
theorem r8_pln (T : Int → Int) (n p : Int) : ((r_pln (r_num T n) T n p).1 = 1 ∧ r_dg T n (r_pln (r_num T n) T n p).2.1 ∧ r_pln (r8_num T n) T n p = (0, (r_pln (r_num T n) T n p).2.1, fun _ => 0)) ∨ (¬ ((r_pln (r_num T n) T n p).1 = 1 ∧ r_dg T n (r_pln (r_num T n) T n p).2.1) ∧ r_pln (r8_num T n) T n p = r_pln (r_num T n) T n p) := by
  have ff : ∀ (z : Int) (w : Int → Int), ¬ (((0, z, w) : Int × Int × (Int → Int)).1 = 1 ∧ r_dg T n ((0, z, w) : Int × Int × (Int → Int)).2.1) := fun z w q => by have := q.1; dsimp only at this; omega
  obtain ⟨A, hA⟩ : ∃ A_, r_sn (r_num T n) T n 47 1 40 p = A_ := ⟨_, rfl⟩
  have cA := r8_sn T n 47 1 40 p
  rw [hA] at cA
  rcases cA with ⟨c1, c2, c3⟩ | ⟨c1, c3⟩
  · have e : r_sn (r_num T n) T n 43 1 9 A.2.1 = (0, A.2.1, 0) := r_sn_dg (by omega) c2
    rw [r_pln_0 c3 rfl, r_pln_1 hA (by omega) e rfl]
    exact Or.inr ⟨ff _ _, rfl⟩
  · by_cases h0 : A.1 = 0
    · rw [r_pln_0 c3 h0, r_pln_0 hA h0]; exact Or.inr ⟨ff _ _, rfl⟩
    · obtain ⟨B, hB⟩ : ∃ A_, r_sn (r_num T n) T n 43 1 9 A.2.1 = A_ := ⟨_, rfl⟩
      have cB := r8_sn T n 43 1 9 A.2.1
      rw [hB] at cB
      rcases cB with ⟨d1, d2, d3⟩ | ⟨d1, d3⟩
      · have e : r_sn (r_num T n) T n 43 0 9 B.2.1 = (0, B.2.1, 0) := r_sn_dg (by omega) d2
        rw [r_pln_1 c3 h0 d3 rfl, r_pln_2 hA h0 hB (by omega) e rfl]
        exact Or.inr ⟨ff _ _, rfl⟩
      · by_cases h1 : B.1 = 0
        · rw [r_pln_1 c3 h0 d3 h1, r_pln_1 hA h0 hB h1]; exact Or.inr ⟨ff _ _, rfl⟩
        · obtain ⟨C, hC⟩ : ∃ A_, r_sn (r_num T n) T n 43 0 9 B.2.1 = A_ := ⟨_, rfl⟩
          have cC := r8_sn T n 43 0 9 B.2.1
          have fC : C.1 = 0 ∨ C.1 = 1 := by
            rw [← hC]; unfold r_sn
            split
            · exact r_num_f _ _ _ _ _
            · exact Or.inl rfl
          rw [hC] at cC
          rcases cC with ⟨g1, g2, g3⟩ | ⟨g1, g3⟩
          · rw [r_pln_2 c3 h0 d3 h1 g3 rfl, r_pln_3 hA h0 hB h1 hC (by omega)]
            exact Or.inl ⟨rfl, g2, rfl⟩
          · by_cases h2 : C.1 = 0
            · rw [r_pln_2 c3 h0 d3 h1 g3 h2, r_pln_2 hA h0 hB h1 hC h2]; exact Or.inr ⟨ff _ _, rfl⟩
            · rw [r_pln_3 c3 h0 d3 h1 g3 h2, r_pln_3 hA h0 hB h1 hC h2]
              exact Or.inr ⟨fun q => g1 ⟨by omega, q.2⟩, rfl⟩
theorem r8_lft (T : Int → Int) (n : Int) : ∀ (k : Nat) (t p : Int) (F : x_X), ((r_lft (r_num T n) T n (k + 1) t p F).1 = 1 ∧ r_dg T n (r_lft (r_num T n) T n (k + 1) t p F).2.1 ∧ r_lft (r8_num T n) T n (k + 1) t p F = (0, (r_lft (r_num T n) T n (k + 1) t p F).2.1, fun _ _ => 0)) ∨ (¬ ((r_lft (r_num T n) T n (k + 1) t p F).1 = 1 ∧ r_dg T n (r_lft (r_num T n) T n (k + 1) t p F).2.1) ∧ r_lft (r8_num T n) T n (k + 1) t p F = r_lft (r_num T n) T n (k + 1) t p F) := by
  have ff : ∀ (z : Int) (w : x_X), ¬ (((0, z, w) : Int × Int × x_X).1 = 1 ∧ r_dg T n ((0, z, w) : Int × Int × x_X).2.1) := fun z w q => by have := q.1; dsimp only at this; omega
  intro k
  induction k with
  | zero =>
    intro t p F
    by_cases h0 : p < n ∧ T p = 59
    · obtain ⟨A, hA⟩ : ∃ A_, r_tab (r_num T n) T n 6 0 (p + 1) (fun _ => 0) (fun _ => 0) = A_ := ⟨_, rfl⟩
      have cA := r8_tab T n 6 0 (p + 1) (fun _ => 0) (fun _ => 0)
      rw [hA] at cA
      rcases cA with ⟨c1, c2, c3⟩ | ⟨c1, c3⟩
      · have e : r_pln (r_num T n) T n A.2.1 = (0, A.2.1, fun _ => 0) := r_pln_0 (r_sn_dg (by omega) c2) rfl
        rw [r_lft_2 h0 c3 rfl, r_lft_3 h0 hA (by omega) e rfl]; exact Or.inr ⟨ff _ _, rfl⟩
      · by_cases h1 : A.1 = 0
        · rw [r_lft_2 h0 c3 h1, r_lft_2 h0 hA h1]; exact Or.inr ⟨ff _ _, rfl⟩
        · obtain ⟨B, hB⟩ : ∃ A_, r_pln (r_num T n) T n A.2.1 = A_ := ⟨_, rfl⟩
          have cB := r8_pln T n A.2.1
          have fB := r_pln_f (r_num T n) T n A.2.1
          rw [hB] at cB fB
          rcases cB with ⟨d1, d2, d3⟩ | ⟨d1, d3⟩
          · rw [r_lft_3 h0 c3 h1 d3 rfl, r_lft_4 h0 hA h1 hB (by omega)]
            exact Or.inl ⟨rfl, d2, rfl⟩
          · by_cases h2 : B.1 = 0
            · rw [r_lft_3 h0 c3 h1 d3 h2, r_lft_3 h0 hA h1 hB h2]; exact Or.inr ⟨ff _ _, rfl⟩
            · rw [r_lft_4 h0 c3 h1 d3 h2, r_lft_4 h0 hA h1 hB h2]
              exact Or.inr ⟨fun q => d1 ⟨by omega, q.2⟩, rfl⟩
    · rw [r_lft_1 h0, r_lft_1 h0]; exact Or.inr ⟨ff _ _, rfl⟩
  | succ k ih =>
    intro t p F
    by_cases h0 : p < n ∧ T p = 59
    · obtain ⟨A, hA⟩ : ∃ A_, r_tab (r_num T n) T n 6 0 (p + 1) (fun _ => 0) (fun _ => 0) = A_ := ⟨_, rfl⟩
      have cA := r8_tab T n 6 0 (p + 1) (fun _ => 0) (fun _ => 0)
      rw [hA] at cA
      rcases cA with ⟨c1, c2, c3⟩ | ⟨c1, c3⟩
      · have e : r_pln (r_num T n) T n A.2.1 = (0, A.2.1, fun _ => 0) := r_pln_0 (r_sn_dg (by omega) c2) rfl
        rw [r_lft_2 h0 c3 rfl, r_lft_3 h0 hA (by omega) e rfl]; exact Or.inr ⟨ff _ _, rfl⟩
      · by_cases h1 : A.1 = 0
        · rw [r_lft_2 h0 c3 h1, r_lft_2 h0 hA h1]; exact Or.inr ⟨ff _ _, rfl⟩
        · obtain ⟨B, hB⟩ : ∃ A_, r_pln (r_num T n) T n A.2.1 = A_ := ⟨_, rfl⟩
          have cB := r8_pln T n A.2.1
          rw [hB] at cB
          rcases cB with ⟨d1, d2, d3⟩ | ⟨d1, d3⟩
          · have d2' := d2
            unfold r_dg at d2'
            rw [r_lft_3 h0 c3 h1 d3 rfl, r_lft_4 h0 hA h1 hB (by omega), r_lft_1 (by omega)]
            exact Or.inr ⟨ff _ _, rfl⟩
          · by_cases h2 : B.1 = 0
            · rw [r_lft_3 h0 c3 h1 d3 h2, r_lft_3 h0 hA h1 hB h2]; exact Or.inr ⟨ff _ _, rfl⟩
            · rw [r_lft_4 h0 c3 h1 d3 h2, r_lft_4 h0 hA h1 hB h2]
              exact ih _ _ _
    · rw [r_lft_1 h0, r_lft_1 h0]; exact Or.inr ⟨ff _ _, rfl⟩
theorem r8_lif (T : Int → Int) (n : Int) (lot : Int → Int) (m : Int) : r_lif (r8_num T n) T n lot m = r_lif (r_num T n) T n lot m := by
  obtain ⟨A, hA⟩ : ∃ A_, r_num T n 1 200 0 = A_ := ⟨_, rfl⟩
  have cA := r8_num_c T n 1 200 0
  rw [hA] at cA
  rcases cA with ⟨c1, c2, c3⟩ | ⟨c1, c3⟩
  · have e : r_sn (r_num T n) T n 44 0 99 A.2.1 = (0, A.2.1, 0) := r_sn_dg (by omega) c2
    rw [r_lif_1 c3 rfl, r_lif_2 hA (by omega) e rfl]
  · by_cases h0 : A.1 = 0
    · rw [r_lif_1 c3 h0, r_lif_1 hA h0]
    · obtain ⟨B, hB⟩ : ∃ A_, r_sn (r_num T n) T n 44 0 99 A.2.1 = A_ := ⟨_, rfl⟩
      by_cases h1 : B.1 = 0
      · rw [r_lif_2 c3 h0 hB h1, r_lif_2 hA h0 hB h1]
      · by_cases h2 : r_has lot m.toNat B.2.2 = 1
        · rw [r_lif_3 c3 h0 hB h1 h2, r_lif_3 hA h0 hB h1 h2]
        · rw [r_lif_4 c3 h0 hB h1 h2 rfl, r_lif_4 hA h0 hB h1 h2 rfl]
          have cC := r8_lft T n 2 0 B.2.1 (r_F0 A.2.2 B.2.2)
          have e3 : (2 + 1 : Nat) = 3 := rfl
          rw [e3] at cC
          rcases cC with ⟨g1, g2, g3⟩ | ⟨g1, g3⟩
          · unfold r_dg at g2
            rw [g3, if_pos rfl, if_neg (by omega), if_pos g2.1]
          · rw [g3]
