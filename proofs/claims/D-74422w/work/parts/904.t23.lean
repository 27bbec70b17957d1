theorem r_lft_1 {N : Int → Int → Int → Int × Int × Int} {T : Int → Int} {n : Int} {k : Nat} {t p : Int} {F : x_X} (h : ¬ (p < n ∧ T p = 59)) : r_lft N T n (k + 1) t p F = (0, p, fun _ _ => 0) := by unfold r_lft; rw [if_pos h]
theorem r_lft_2 {N : Int → Int → Int → Int × Int × Int} {T : Int → Int} {n : Int} {k : Nat} {t p : Int} {F : x_X} {A : Int × Int × Int × (Int → Int) × (Int → Int)} (h : p < n ∧ T p = 59) (hA : r_tab N T n 6 0 (p + 1) (fun _ => 0) (fun _ => 0) = A) (h2 : A.1 = 0) : r_lft N T n (k + 1) t p F = (0, A.2.1, fun _ _ => 0) := by unfold r_lft; rw [if_neg (fun q => q h), hA, if_pos h2]
theorem r_lft_3 {N : Int → Int → Int → Int × Int × Int} {T : Int → Int} {n : Int} {k : Nat} {t p : Int} {F : x_X} {A : Int × Int × Int × (Int → Int) × (Int → Int)} {B : Int × Int × (Int → Int)} (h : p < n ∧ T p = 59) (hA : r_tab N T n 6 0 (p + 1) (fun _ => 0) (fun _ => 0) = A) (h2 : A.1 ≠ 0) (hB : r_pln N T n A.2.1 = B) (h3 : B.1 = 0) : r_lft N T n (k + 1) t p F = (0, B.2.1, fun _ _ => 0) := by unfold r_lft; rw [if_neg (fun q => q h), hA, if_neg h2, hB, if_pos h3]
theorem r_lft_4 {N : Int → Int → Int → Int × Int × Int} {T : Int → Int} {n : Int} {k : Nat} {t p : Int} {F : x_X} {A : Int × Int × Int × (Int → Int) × (Int → Int)} {B : Int × Int × (Int → Int)} (h : p < n ∧ T p = 59) (hA : r_tab N T n 6 0 (p + 1) (fun _ => 0) (fun _ => 0) = A) (h2 : A.1 ≠ 0) (hB : r_pln N T n A.2.1 = B) (h3 : B.1 ≠ 0) : r_lft N T n (k + 1) t p F = r_lft N T n k (t + 1) B.2.1 (r_put F t A.2.2.1 A.2.2.2.1 A.2.2.2.2 B.2.2) := by
  conv => lhs; unfold r_lft
  rw [if_neg (fun q => q h), hA, if_neg h2, hB, if_neg h3]
theorem r_lif_1 {N : Int → Int → Int → Int × Int × Int} {T : Int → Int} {n m : Int} {lot : Int → Int} {A : Int × Int × Int} (hA : N 1 200 0 = A) (h : A.1 = 0) : r_lif N T n lot m = (0, A.2.1, fun _ _ => 0) := by unfold r_lif; rw [hA, if_pos h]
theorem r_lif_2 {N : Int → Int → Int → Int × Int × Int} {T : Int → Int} {n m : Int} {lot : Int → Int} {A B : Int × Int × Int} (hA : N 1 200 0 = A) (h : A.1 ≠ 0) (hB : r_sn (r_num T n) T n 44 0 99 A.2.1 = B) (h2 : B.1 = 0) : r_lif N T n lot m = (0, B.2.1, fun _ _ => 0) := by unfold r_lif; rw [hA, if_neg h, hB, if_pos h2]
theorem r_lif_3 {N : Int → Int → Int → Int × Int × Int} {T : Int → Int} {n m : Int} {lot : Int → Int} {A B : Int × Int × Int} (hA : N 1 200 0 = A) (h : A.1 ≠ 0) (hB : r_sn (r_num T n) T n 44 0 99 A.2.1 = B) (h2 : B.1 ≠ 0) (h3 : r_has lot m.toNat B.2.2 = 1) : r_lif N T n lot m = (0, B.2.1 - 1, fun _ _ => 0) := by unfold r_lif; rw [hA, if_neg h, hB, if_neg h2, if_pos h3]
theorem r_lif_4 {N : Int → Int → Int → Int × Int × Int} {T : Int → Int} {n m : Int} {lot : Int → Int} {A B : Int × Int × Int} {C : Int × Int × x_X} (hA : N 1 200 0 = A) (h : A.1 ≠ 0) (hB : r_sn (r_num T n) T n 44 0 99 A.2.1 = B) (h2 : B.1 ≠ 0) (h3 : r_has lot m.toNat B.2.2 ≠ 1) (hC : r_lft N T n 3 0 B.2.1 (r_F0 A.2.2 B.2.2) = C) : r_lif N T n lot m = if C.1 = 0 then (0, C.2.1, fun _ _ => 0) else if C.2.1 < n then (0, C.2.1, fun _ _ => 0) else C := by unfold r_lif; rw [hA, if_neg h, hB, if_neg h2, if_neg h3, hC]
/-- the readings alone have moved -/
def s8 (X Y : x_X) : Prop := (∀ b, b ≠ 64 → (b < 76 ∨ 79 < b) → Y b = X b) ∧ ∀ i, i ≠ 19 → i ≠ 21 → i ≠ 22 → i ≠ 23 → Y 64 i = X 64 i
theorem s8.rf (X : x_X) : s8 X X := ⟨fun _ _ _ => rfl, fun _ _ _ _ _ => rfl⟩
theorem s8.k {X Y Z : x_X} (h : s8 X Y) (h2 : k8 Y Z) : s8 X Z := ⟨fun b b1 b2 => (h2.1 b b1).trans (h.1 b b1 b2), fun i i1 i2 i3 i4 => (h2.2 i i1 i2).trans (h.2 i i1 i2 i3 i4)⟩
theorem s8.n {X Y Z : x_X} {t : Int} (h : s8 X Y) (h2 : n8 Y Z t) : s8 X Z := ⟨fun b b1 b2 => (h2.1 b b1 b2).trans (h.1 b b1 b2), fun i i1 i2 i3 i4 => (h2.2.1 i i1 i2).trans (h.2 i i1 i2 i3 i4)⟩
theorem s8.up {X Y : x_X} (h : s8 X Y) {i z : Int} (hi : i = 19 ∨ i = 21 ∨ i = 22 ∨ i = 23) : s8 X (x_up Y 64 i z) := ⟨fun b b1 b2 => by rw [x_up_o _ b1]; exact h.1 b b1 b2, fun j j1 j2 j3 j4 => by rw [x_up_n _ (Or.inr (by omega))]; exact h.2 j j1 j2 j3 j4⟩
theorem q8.s {κ : x_Ka} {X Y : x_X} {T : Int → Int} {n p q : Int} (h : q8 κ X T n p) (hk : s8 X Y) (hq : Y 64 19 = q) (hr : 0 ≤ q ∧ q ≤ n) : q8 κ Y T n q := ⟨h.1, (hk.1 75 (by omega) (by omega)).trans h.2.1, (hk.2 20 (by omega) (by omega) (by omega) (by omega)).trans h.2.2.1, hq, hr, h.2.2.2.2.2⟩
/-- lift u of the store F lies in the readings -/
def f8 (Y F : x_X) (u : Int) : Prop := Y 76 u = F (10 + u) 0 ∧ (1 ≤ F (10 + u) 0 ∧ F (10 + u) 0 ≤ 6) ∧ (∀ i, 0 ≤ i → i < F (10 + u) 0 → Y 77 (6 * u + i) = F (20 + u) i ∧ Y 78 (6 * u + i) = F (30 + u) i) ∧ ∀ w, 0 ≤ w → w ≤ 2 → Y 79 (3 * u + w) = F (40 + u) w
theorem r_put_o {F : x_X} {t u m a : Int} {L D W : Int → Int} (ht : 0 ≤ t ∧ t ≤ 2) (hu : 0 ≤ u ∧ u ≤ 2) (e : u ≠ t) (ha : a = 10 ∨ a = 20 ∨ a = 30 ∨ a = 40) : r_put F t m L D W (a + u) = F (a + u) := by
  funext i
  unfold r_put
  rw [if_neg (by omega), if_neg (by omega), if_neg (by omega), if_neg (by omega)]
theorem r_put_0 {F : x_X} {t m : Int} {L D W : Int → Int} (ht : 0 ≤ t ∧ t ≤ 2) : r_put F t m L D W 0 = F 0 := by
  funext i
  unfold r_put
  rw [if_neg (by omega), if_neg (by omega), if_neg (by omega), if_neg (by omega)]
theorem r_put_s {F : x_X} {t m : Int} {L D W : Int → Int} (ht : 0 ≤ t ∧ t ≤ 2) : r_put F t m L D W (10 + t) 0 = m ∧ r_put F t m L D W (20 + t) = L ∧ r_put F t m L D W (30 + t) = D ∧ r_put F t m L D W (40 + t) = W := by
  refine ⟨?_, ?_, ?_, ?_⟩
  · unfold r_put; rw [if_pos rfl]
  · funext i; unfold r_put; rw [if_neg (by omega), if_pos rfl]
  · funext i; unfold r_put; rw [if_neg (by omega), if_neg (by omega), if_pos rfl]
  · funext i; unfold r_put; rw [if_neg (by omega), if_neg (by omega), if_neg (by omega), if_pos rfl]
theorem f8.o {X Y F : x_X} {t u m : Int} {L D W : Int → Int} (h : f8 X F u) (hn : n8 X Y t) (ht : 0 ≤ t ∧ t ≤ 2) (hu : 0 ≤ u ∧ u ≤ 2) (e : u ≠ t) : f8 Y (r_put F t m L D W) u := by
  unfold f8 at *
  rw [r_put_o ht hu e (Or.inl rfl), r_put_o ht hu e (Or.inr (Or.inl rfl)), r_put_o ht hu e (Or.inr (Or.inr (Or.inl rfl))), r_put_o ht hu e (Or.inr (Or.inr (Or.inr rfl))), hn.2.2.1 u e]
  refine ⟨h.1, h.2.1, fun i i1 i2 => ?_, fun w w1 w2 => ?_⟩
  · have := hn.2.2.2.1 (6 * u + i) (by have := h.2.1; omega)
    rw [this.1, this.2]; exact h.2.2.1 i i1 i2
  · rw [hn.2.2.2.2 (3 * u + w) (by omega)]; exact h.2.2.2 w w1 w2
theorem r_has_01 (lot : Int → Int) : ∀ (k : Nat) (v : Int), 0 ≤ r_has lot k v ∧ r_has lot k v ≤ 1
  | 0, _ => by simp [r_has]
  | k + 1, v => by unfold r_has; split; omega; exact r_has_01 lot k v
theorem r_tab_f (N : Int → Int → Int → Int × Int × Int) (T : Int → Int) (n : Int) : ∀ (k : Nat) (j p : Int) (L D : Int → Int), (r_tab N T n k j p L D).1 = 0 ∨ (r_tab N T n k j p L D).1 = 1
  | 0, _, _, _, _ => Or.inl rfl
  | k + 1, j, p, L, D => by
    obtain ⟨A, hA⟩ : ∃ A_, N (if j = 0 then 1 else L (j - 1) + 1) 40 p = A_ := ⟨_, rfl⟩
    by_cases h : A.1 = 0
    · rw [r_tab_A hA h]; exact Or.inl rfl
    · by_cases he : A.2.1 < n ∧ T A.2.1 = 61
      · obtain ⟨B, hB⟩ : ∃ A_, N 0 (if j = 0 then 1000 else D (j - 1)) (A.2.1 + 1) = A_ := ⟨_, rfl⟩
        by_cases h2 : B.1 = 0
        · rw [r_tab_B hA h he hB h2]; exact Or.inl rfl
        · by_cases hc : j + 1 < 6 ∧ B.2.1 < n ∧ T B.2.1 = 44
          · rw [r_tab_C hA h he hB h2 hc]; exact r_tab_f N T n k _ _ _ _
          · rw [r_tab_D hA h he hB h2 hc]; exact Or.inr rfl
      · rw [r_tab_E hA h he]; exact Or.inl rfl
theorem r_pln_f (N : Int → Int → Int → Int × Int × Int) (T : Int → Int) (n p : Int) : (r_pln N T n p).1 = 0 ∨ (r_pln N T n p).1 = 1 := by
  unfold r_pln
  split
  · exact Or.inl rfl
  · split
    · exact Or.inl rfl
    · split
      · exact Or.inl rfl
      · exact Or.inr rfl
theorem c_X8_takesLifter {l : Launch} {E : x_E} {κ : x_Ka} {X : x_X} {T : Int → Int} {z0 : Int} (h : q8 κ X T z0 0) (hm : 0 ≤ X 64 3 ∧ X 64 3 ≤ 6) : x_Met l yX8_takesLifter cX8_takesLifter 2 (some .boolean) 5 0 0 E κ X [x_rf E 64] κ (fun v_ Y_ => v_ = some (vi (r_lif (r8_num T z0) T z0 (X 67) (X 64 3)).1) ∧ s8 X Y_ ∧ Y_ 64 19 = (r_lif (r8_num T z0) T z0 (X 67) (X 64 3)).2.1 ∧ ((r_lif (r8_num T z0) T z0 (X 67) (X 64 3)).1 = 1 → (Y_ 64 22 = (r_lif (r8_num T z0) T z0 (X 67) (X 64 3)).2.2 0 0 ∧ Y_ 64 23 = (r_lif (r8_num T z0) T z0 (X 67) (X 64 3)).2.2 0 1) ∧ ∀ u, 0 ≤ u → u ≤ 2 → f8 Y_ (r_lif (r8_num T z0) T z0 (X 67) (X 64 3)).2.2 u) ∧ (0 ≤ (r_lif (r8_num T z0) T z0 (X 67) (X 64 3)).2.1 ∧ (r_lif (r8_num T z0) T z0 (X 67) (X 64 3)).2.1 ≤ z0)) := by
  refine x_Met.of [(false, x_rf E 64)] [some (x_rf E 64), none] 1 (by decide) rfl rfl ⟨x_cr E (64), trivial⟩ rfl rfl ?_
  intro p e s m args below meth c hargs hin B
  obtain ⟨⟨hT, h8⟩, e75, e20, e19, hp, hn⟩ := id h
  have hNr := r8_num_r T z0
  have hNn := r_num_r T z0
  obtain ⟨A1, hA⟩ : ∃ A_, r8_num T z0 1 200 0 = A_ := ⟨_, rfl⟩
  have rA := hNr 1 200 0 hp
  rw [hA] at rA
  obtain ⟨B1, hB⟩ : ∃ A_, r_sn (r_num T z0) T z0 44 0 99 A1.2.1 = A_ := ⟨_, rfl⟩
  have rB := r_sn_r (T := T) hNn 44 0 99 A1.2.1 ⟨by omega, by omega⟩
  rw [hB] at rB
  have lp_49 : ∀ (n : Nat) (t w1 : Int) (F Y : x_X), (((r8_num T z0 1 200 0 = A1 ∧ A1.1 ≠ 0) ∧ (r_sn (r_num T z0) T z0 44 0 99 A1.2.1 = B1 ∧ B1.1 ≠ 0) ∧ r_has (X 67) (X 64 3).toNat B1.2.2 ≠ 1) ∧ (0 ≤ t ∧ t ≤ 3) ∧ (0 ≤ w1 ∧ w1 ≤ z0) ∧ (s8 X Y ∧ Y 64 19 = w1 ∧ (Y 64 22 = F 0 0 ∧ Y 64 23 = F 0 1) ∧ ∀ u, 0 ≤ u → u < t → f8 Y F u) ∧ (r_lft (r8_num T z0) T z0 3 0 B1.2.1 (r_F0 A1.2.2 B1.2.2)) = r_lft (r8_num T z0) T z0 (3 - t).toNat t w1 F) → ((4 - t).toNat < n) → x_G p l e (x_rm 5 0 0) s m args below meth c 2 E 0 0 (MQ below (x_Q E κ (fun v_ Y_ => v_ = some (vi (r_lif (r8_num T z0) T z0 (X 67) (X 64 3)).1) ∧ s8 X Y_ ∧ Y_ 64 19 = (r_lif (r8_num T z0) T z0 (X 67) (X 64 3)).2.1 ∧ ((r_lif (r8_num T z0) T z0 (X 67) (X 64 3)).1 = 1 → (Y_ 64 22 = (r_lif (r8_num T z0) T z0 (X 67) (X 64 3)).2.2 0 0 ∧ Y_ 64 23 = (r_lif (r8_num T z0) T z0 (X 67) (X 64 3)).2.2 0 1) ∧ ∀ u, 0 ≤ u → u ≤ 2 → f8 Y_ (r_lif (r8_num T z0) T z0 (X 67) (X 64 3)).2.2 u) ∧ (0 ≤ (r_lif (r8_num T z0) T z0 (X 67) (X 64 3)).2.1 ∧ (r_lif (r8_num T z0) T z0 (X 67) (X 64 3)).2.1 ≤ z0))) args s 0 0 (fun q => E.1 ≤ q)) κ 49 [some (x_rf E 64), some (vi t)] [] Y := by
    intro n
    induction n with
    | zero => intro t w1 F Y hinv hme; exfalso; omega
    | succ n ih =>
      intro t w1 F Y hinv hme
      obtain ⟨hb, ht, hw, ⟨hs, y19, hf, hu⟩, he⟩ := hinv
      have hq := h.s hs y19 hw
      have y20 := hq.2.2.1
      refine x_iload_n B dX8_takesLifter_49 rfl ?_
      refine x_iconst B dX8_takesLifter_50 ?_
      refine x_icmp_ge B (tgt := 87) dX8_takesLifter_51 (by decide) ⟨by omega, by omega⟩ ⟨by omega, by omega⟩ (fun h_51 => ?_) (fun h_51 => ?_)
      · have h0 : (3 - t).toNat = 0 := by omega
        have el : (r_lft (r8_num T z0) T z0 3 0 B1.2.1 (r_F0 A1.2.2 B1.2.2)) = (1, w1, F) := by rw [he, h0]; rfl
        have er := r_lif_4 hb.1.1 hb.1.2 hb.2.1.1 hb.2.1.2 hb.2.2 el
        rw [if_neg (show ¬ ((1, w1, F) : Int × Int × x_X).1 = 0 by dsimp only; omega)] at er
        refine x_aload_n B dX8_takesLifter_87 rfl ?_
        refine x_getI B (k := 19) 19 rfl rfl xc_7 (by decide) h8 (Or.inl q1354) (fun _ h => h) dX8_takesLifter_88 (fun r_88 => ?_)
        rw [y19] at r_88 ⊢
        refine x_aload_n B dX8_takesLifter_91 rfl ?_
        refine x_getI B (k := 20) 20 rfl rfl xc_7 (by decide) h8 (Or.inl q1355) (fun _ h => h) dX8_takesLifter_92 (fun r_92 => ?_)
        rw [y20] at r_92 ⊢
        refine x_icmp_ne B (tgt := 102) dX8_takesLifter_95 (by decide) ⟨by omega, by omega⟩ ⟨by omega, by omega⟩ (fun h_95 => ?_) (fun h_95 => ?_)
        · refine x_iconst B dX8_takesLifter_102 ?_
          refine x_zret B (fun _ _ h => h) ⟨by omega, by omega⟩ ?_ dX8_takesLifter_103
          rw [if_pos (show w1 < z0 by omega)] at er
          rw [er]
          exact ⟨rfl, hs, y19, fun q => by dsimp only at q; omega, hw⟩
        · refine x_iconst B dX8_takesLifter_98 ?_
          refine x_goto B (tgt := 103) dX8_takesLifter_99 (by decide) ?_
          refine x_zret B (fun _ _ h => h) ⟨by omega, by omega⟩ ?_ dX8_takesLifter_103
          rw [if_neg (show ¬ w1 < z0 by omega)] at er
          rw [er]
          exact ⟨rfl, hs, y19, fun _ => ⟨hf, fun u u1 u2 => hu u u1 (by omega)⟩, hw⟩
      · have h3t : (3 - t).toNat = (3 - (t + 1)).toNat + 1 := by omega
        refine x_aload_n B dX8_takesLifter_54 rfl ?_
        refine x_bipush B dX8_takesLifter_55 (by decide) ?_
        refine x_go (x_rV B h8 (show x_cl[7]? = some _ from rfl) (c_X8_takes hq ⟨by omega, by omega⟩) (lw_V q1493 q1495 qs44 q122 q1496) hv_X8_takes ⟨by decide, by decide⟩ ⟨by decide, by decide⟩ rfl rfl (by simp [x_cr, x_c1, x_c2]) dX8_takesLifter_57) (fun v_57 X_57 p_57 => ?_)
        obtain ⟨s57, rfl, hs57⟩ := p_57
        have hsr57 : 0 ≤ s57 ∧ s57 ≤ 1 := by rcases hs57 with q | q <;> omega
        refine x_if_eq B (tgt := 79) dX8_takesLifter_60 (by decide) ⟨by omega, by omega⟩ (fun h_60 => ?_) (fun h_60 => ?_)
        · refine x_iconst B dX8_takesLifter_79 ?_
          refine x_zret B (fun _ _ h => h) ⟨by omega, by omega⟩ ?_ dX8_takesLifter_80
          obtain ⟨-, hC57, hX57⟩ := hs57.resolve_left (fun q => by omega)
          have hX57 := hX57.symm
          subst hX57
          have el : (r_lft (r8_num T z0) T z0 3 0 B1.2.1 (r_F0 A1.2.2 B1.2.2)) = (0, w1, fun _ _ => 0) := by rw [he, h3t]; exact (r_lft_1 hC57)
          have er := r_lif_4 hb.1.1 hb.1.2 hb.2.1.1 hb.2.1.2 hb.2.2 el
          rw [if_pos rfl] at er
          rw [er]
          exact ⟨rfl, hs, y19, fun q => by dsimp only at q; omega, ⟨by dsimp only; omega, by dsimp only; omega⟩⟩
        · obtain ⟨-, hC57, hX57⟩ := hs57.resolve_right (fun q => h_60 q.1)
          subst hX57
          have hq65 := hq.k ((k8.rf Y).up (i := 19) (z := w1 + 1) (Or.inl rfl)) (x_up_s _ _ _ _) ⟨by omega, by omega⟩
          obtain ⟨TB, hTB⟩ : ∃ A_, r_tab (r8_num T z0) T z0 6 0 (w1 + 1) (fun _ => 0) (fun _ => 0) = A_ := ⟨_, rfl⟩
          refine x_aload_n B dX8_takesLifter_63 rfl ?_
          refine x_iload_n B dX8_takesLifter_64 rfl ?_
          refine x_go (x_rV B h8 (show x_cl[7]? = some _ from rfl) (c_X8_takesTable hq65 ⟨by omega, by omega⟩) (lw_V q1501 q1503 qs46 q122 q1504) hv_X8_takesTable ⟨by decide, by decide⟩ ⟨by decide, by decide⟩ rfl rfl (by simp [x_cr, x_c1, x_c2]) dX8_takesLifter_65) (fun v_65 X_65 p_65 => ?_)
          rw [hTB] at p_65
          obtain ⟨rfl, nt, t79, t19, t19r, tv⟩ := p_65
          have tbf : TB.1 = 0 ∨ TB.1 = 1 := by rw [← hTB]; exact r_tab_f _ _ _ _ _ _ _ _
          refine x_if_eq B (tgt := 79) dX8_takesLifter_68 (by decide) ⟨by omega, by omega⟩ (fun h_68 => ?_) (fun h_68 => ?_)
          · refine x_iconst B dX8_takesLifter_79 ?_
            refine x_zret B (fun _ _ h => h) ⟨by omega, by omega⟩ ?_ dX8_takesLifter_80
            have el : (r_lft (r8_num T z0) T z0 3 0 B1.2.1 (r_F0 A1.2.2 B1.2.2)) = (0, TB.2.1, fun _ _ => 0) := by rw [he, h3t]; exact (r_lft_2 hC57 hTB (by omega))
            have er := r_lif_4 hb.1.1 hb.1.2 hb.2.1.1 hb.2.1.2 hb.2.2 el
            rw [if_pos rfl] at er
            rw [er]
            exact ⟨rfl, (hs.up (Or.inl rfl)).n nt, t19, fun q => by dsimp only at q; omega, t19r⟩
          · have hq73 := hq65.n nt t19 t19r
            obtain ⟨PL, hPL⟩ : ∃ A_, r_pln (r8_num T z0) T z0 TB.2.1 = A_ := ⟨_, rfl⟩
            refine x_aload_n B dX8_takesLifter_71 rfl ?_
            refine x_iload_n B dX8_takesLifter_72 rfl ?_
            refine x_go (x_rV B h8 (show x_cl[7]? = some _ from rfl) (c_X8_takesPlan hq73 ⟨by omega, by omega⟩) (lw_V q1505 q1507 qs47 q122 q1508) hv_X8_takesPlan ⟨by decide, by decide⟩ ⟨by decide, by decide⟩ rfl rfl (by simp [x_cr, x_c1, x_c2]) dX8_takesLifter_73) (fun v_73 X_73 p_73 => ?_)
            rw [hPL] at p_73
            obtain ⟨rfl, np, pk, q19, q19r, pv⟩ := p_73
            have plf : PL.1 = 0 ∨ PL.1 = 1 := by rw [← hPL]; exact r_pln_f _ _ _ _
            refine x_if_ne B (tgt := 81) dX8_takesLifter_76 (by decide) ⟨by omega, by omega⟩ (fun h_76 => ?_) (fun h_76 => ?_)
            · refine x_iinc_1 B dX8_takesLifter_81 (by first | rfl | exact x_cr _ _) ?_
              refine x_goto B (tgt := 49) dX8_takesLifter_84 (by decide) ?_
              refine ih (t + 1) PL.2.1 (r_put F t TB.2.2.1 TB.2.2.2.1 TB.2.2.2.2 PL.2.2) X_73 ⟨hb, ⟨by omega, by omega⟩, q19r, ⟨((hs.up (Or.inl rfl)).n nt).n np, q19, ⟨?_, ?_⟩, fun u u1 u2 => ?_⟩, ?_⟩ (by omega)
              · rw [np.2.1 22 (by omega) (by omega), nt.2.1 22 (by omega) (by omega), x_up_n _ (Or.inr (by omega)), r_put_0 ⟨ht.1, by omega⟩]; exact hf.1
              · rw [np.2.1 23 (by omega) (by omega), nt.2.1 23 (by omega) (by omega), x_up_n _ (Or.inr (by omega)), r_put_0 ⟨ht.1, by omega⟩]; exact hf.2
              · by_cases e : u = t
                · subst e
                  have ps := r_put_s (F := F) (t := u) (m := TB.2.2.1) (L := TB.2.2.2.1) (D := TB.2.2.2.2) (W := PL.2.2) ⟨ht.1, by omega⟩
                  have tv2 := tv (by omega)
                  unfold f8
                  rw [ps.1, ps.2.1, ps.2.2.1, ps.2.2.2, pk.1, pk.2.1, pk.2.2]
                  exact ⟨tv2.1, tv2.2.1, tv2.2.2, pv (by omega)⟩
                · have hnn : n8 Y X_73 t := ((n8.rf Y t).k64.trans nt).trans np
                  exact (hu u u1 (by omega)).o hnn ⟨ht.1, by omega⟩ ⟨by omega, by omega⟩ e
              · rw [he, h3t]; exact r_lft_4 hC57 hTB (by omega) hPL (by omega)
            · refine x_iconst B dX8_takesLifter_79 ?_
              refine x_zret B (fun _ _ h => h) ⟨by omega, by omega⟩ ?_ dX8_takesLifter_80
              have el : (r_lft (r8_num T z0) T z0 3 0 B1.2.1 (r_F0 A1.2.2 B1.2.2)) = (0, PL.2.1, fun _ _ => 0) := by rw [he, h3t]; exact (r_lft_3 hC57 hTB (by omega) hPL (by omega))
              have er := r_lif_4 hb.1.1 hb.1.2 hb.2.1.1 hb.2.1.2 hb.2.2 el
              rw [if_pos rfl] at er
              rw [er]
              exact ⟨rfl, ((hs.up (Or.inl rfl)).n nt).n np, q19, fun q => by dsimp only at q; omega, q19r⟩
  refine x_aload_n B dX8_takesLifter_0 rfl ?_
  refine x_iconst B dX8_takesLifter_1 ?_
  refine x_sipush B dX8_takesLifter_2 (by decide) ?_
  refine x_go (x_rV B h8 (show x_cl[7]? = some _ from rfl) (c_X8_takesNumber h ⟨by omega, by omega⟩ ⟨by omega, by omega⟩) (lw_V q1479 q1481 qs41 q122 q1482) hv_X8_takesNumber ⟨by decide, by decide⟩ ⟨by decide, by decide⟩ rfl rfl (by simp [x_cr, x_c1, x_c2]) dX8_takesLifter_5) (fun v_5 X_5 p_5 => ?_)
  rw [hA] at p_5
  obtain ⟨rfl, hk5, k19, k21⟩ := p_5
  refine x_if_ne B (tgt := 13) dX8_takesLifter_8 (by decide) ⟨by omega, by omega⟩ (fun h_8 => ?_) (fun h_8 => ?_)
  · have hA1 : A1.1 = 1 := by omega
    have vA := rA.2.2 hA1
    refine x_aload_n B dX8_takesLifter_13 rfl ?_
    refine x_aload_n B dX8_takesLifter_14 rfl ?_
    refine x_getI B (k := 21) 21 rfl rfl xc_7 (by decide) h8 (Or.inl q1356) (fun _ h => h) dX8_takesLifter_15 (fun r_15 => ?_)
    rw [k21 hA1] at r_15 ⊢
    refine x_putI B (k := 22) 22 rfl rfl rfl ⟨by omega, by omega⟩ xc_7 (by decide) rfl nn_7_22 (fun _ => rfl) h8 (Or.inl q1357) (fun _ h => h) dX8_takesLifter_18 ?_
    have hS1 : s8 X (x_up X_5 64 22 A1.2.2) := ((s8.rf X).k hk5).up (Or.inr (Or.inr (Or.inl rfl)))
    have s119 : x_up X_5 64 22 A1.2.2 64 19 = A1.2.1 := by rw [x_up_n _ (Or.inr (by omega))]; exact k19
    have s122 : x_up X_5 64 22 A1.2.2 64 22 = A1.2.2 := x_up_s _ _ _ _
    generalize x_up X_5 64 22 A1.2.2 = S1 at hS1 s119 s122 ⊢
    have hq18 := h.s hS1 s119 ⟨by omega, by omega⟩
    refine x_aload_n B dX8_takesLifter_21 rfl ?_
    refine x_bipush B dX8_takesLifter_22 (by decide) ?_
    refine x_go (x_rV B h8 (show x_cl[7]? = some _ from rfl) (c_X8_takes hq18 ⟨by omega, by omega⟩) (lw_V q1493 q1495 qs44 q122 q1496) hv_X8_takes ⟨by decide, by decide⟩ ⟨by decide, by decide⟩ rfl rfl (by simp [x_cr, x_c1, x_c2]) dX8_takesLifter_24) (fun v_24 X_24 p_24 => ?_)
    obtain ⟨s24, rfl, hs24⟩ := p_24
    have hsr24 : 0 ≤ s24 ∧ s24 ≤ 1 := by rcases hs24 with q | q <;> omega
    refine x_if_eq B (tgt := 37) dX8_takesLifter_27 (by decide) ⟨by omega, by omega⟩ (fun h_27 => ?_) (fun h_27 => ?_)
    · refine x_iconst B dX8_takesLifter_37 ?_
      refine x_zret B (fun _ _ h => h) ⟨by omega, by omega⟩ ?_ dX8_takesLifter_38
      obtain ⟨-, hC24, hX24⟩ := hs24.resolve_left (fun q => by omega)
      have hX24 := hX24.symm
      subst hX24
      have e0 : B1 = (0, A1.2.1, 0) := by rw [← hB]; unfold r_sn; rw [if_neg hC24]
      rw [r_lif_2 hA (by omega) hB (by rw [e0]), e0]
      exact ⟨rfl, hS1, s119, fun q => by dsimp only at q; omega, ⟨by dsimp only; omega, by dsimp only; omega⟩⟩
    · obtain ⟨-, hC24, hX24⟩ := hs24.resolve_right (fun q => h_27 q.1)
      subst hX24
      have hB2 : r_num T z0 0 99 (A1.2.1 + 1) = B1 := by rw [← hB]; unfold r_sn; rw [if_pos hC24]
      have hk31 : s8 X (x_up S1 64 19 (A1.2.1 + 1)) := hS1.up (Or.inl rfl)
      have hq31 := h.s hk31 (x_up_s _ _ _ _) ⟨by omega, by omega⟩
      have m3 : x_up S1 64 19 (A1.2.1 + 1) 64 3 = X 64 3 := hk31.2 3 (by omega) (by omega) (by omega) (by omega)
      have m67 : x_up S1 64 19 (A1.2.1 + 1) 67 = X 67 := hk31.1 67 (by omega) (by omega)
      refine x_aload_n B dX8_takesLifter_30 rfl ?_
      refine x_go (x_rV B h8 (show x_cl[7]? = some _ from rfl) (c_X8_takesLot hq31 (by rw [m3]; exact hm)) (lw_V q1497 q1499 qs45 q122 q1500) hv_X8_takesLot ⟨by decide, by decide⟩ ⟨by decide, by decide⟩ rfl rfl (by simp [x_cr, x_c1, x_c2]) dX8_takesLifter_31) (fun v_31 X_31 p_31 => ?_)
      rw [hB2, m3, m67] at p_31
      obtain ⟨rfl, gk, g19a, g21⟩ := p_31
      have hs31 : s8 X X_31 := hk31.k gk
      have hhr := r_has_01 (X 67) (X 64 3).toNat B1.2.2
      refine x_if_ne B (tgt := 39) dX8_takesLifter_34 (by decide) ⟨by split <;> omega, by split <;> omega⟩ (fun h_34 => ?_) (fun h_34 => ?_)
      · have hcc : B1.1 = 1 ∧ r_has (X 67) (X 64 3).toNat B1.2.2 = 0 := by by_cases q : B1.1 = 1 ∧ r_has (X 67) (X 64 3).toNat B1.2.2 = 0; exact q; rw [if_neg q] at h_34; omega
        have hhs : r_has (X 67) (X 64 3).toNat B1.2.2 ≠ 1 := by omega
        have vB := rB.2.2 hcc.1
        have g19 : X_31 64 19 = B1.2.1 := by rw [g19a, if_neg (by omega)]
        have g22 : X_31 64 22 = A1.2.2 := by rw [gk.2 22 (by omega) (by omega), x_up_n _ (Or.inr (by omega))]; exact s122
        refine x_aload_n B dX8_takesLifter_39 rfl ?_
        refine x_aload_n B dX8_takesLifter_40 rfl ?_
        refine x_getI B (k := 21) 21 rfl rfl xc_7 (by decide) h8 (Or.inl q1356) (fun _ h => h) dX8_takesLifter_41 (fun r_41 => ?_)
        rw [g21 hcc.1] at r_41 ⊢
        refine x_putI B (k := 23) 23 rfl rfl rfl ⟨by omega, by omega⟩ xc_7 (by decide) rfl nn_7_23 (fun _ => rfl) h8 (Or.inl q1358) (fun _ h => h) dX8_takesLifter_44 ?_
        refine x_iconst B dX8_takesLifter_47 ?_
        refine x_ist_1 B dX8_takesLifter_48 (by first | rfl | exact x_cr _ _) ?_
        exact lp_49 _ 0 B1.2.1 (r_F0 A1.2.2 B1.2.2) _ ⟨⟨⟨hA, by omega⟩, ⟨hB, by omega⟩, hhs⟩, ⟨by omega, by omega⟩, ⟨by omega, by omega⟩, ⟨hs31.up (Or.inr (Or.inr (Or.inr rfl))), by rw [x_up_n _ (Or.inr (by omega))]; exact g19, ⟨by rw [x_up_n _ (Or.inr (by omega))]; exact g22, x_up_s _ _ _ _⟩, fun u u1 u2 => by omega⟩, rfl⟩ (Nat.lt_succ_self _)
      · refine x_iconst B dX8_takesLifter_37 ?_
        refine x_zret B (fun _ _ h => h) ⟨by omega, by omega⟩ ?_ dX8_takesLifter_38
        by_cases q : B1.1 = 1
        · have hh1 : r_has (X 67) (X 64 3).toNat B1.2.2 = 1 := by by_cases z : r_has (X 67) (X 64 3).toNat B1.2.2 = 0; (rw [if_pos ⟨q, z⟩] at h_34; omega); omega
          rw [if_pos ⟨q, hh1⟩] at g19a
          have hge : A1.2.1 + 1 ≤ B1.2.1 := by have := hNn 0 99 (A1.2.1 + 1) ⟨by omega, by omega⟩; rw [hB2] at this; omega
          rw [r_lif_3 hA (by omega) hB (by omega) hh1]
          exact ⟨rfl, hs31, g19a, fun q => by dsimp only at q; omega, ⟨by dsimp only; omega, by dsimp only; omega⟩⟩
        · rw [if_neg (fun z => q z.1)] at g19a
          rw [r_lif_2 hA (by omega) hB (by omega)]
          exact ⟨rfl, hs31, g19a, fun q => by dsimp only at q; omega, ⟨by dsimp only; omega, by dsimp only; omega⟩⟩
  · refine x_iconst B dX8_takesLifter_11 ?_
    refine x_zret B (fun _ _ h => h) ⟨by omega, by omega⟩ ?_ dX8_takesLifter_12
    rw [r_lif_1 hA (by omega)]
    exact ⟨rfl, (s8.rf X).k hk5, k19, fun q => by dsimp only at q; omega, ⟨by dsimp only; omega, by dsimp only; omega⟩⟩
