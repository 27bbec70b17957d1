/-! ===== the order in which they are called ===== -/
abbrev o_st (M : x_X) (l : Int) : Prop := M l 3 > 0 ∧ M l 6 = 0
abbrev o_ah (lot : Int → Int) (M : x_X) (a b : Int) : Prop := M a 3 < M b 3 ∨ (M a 3 = M b 3 ∧ lot a < lot b)
theorem m_cb_min {lot : Int → Int} {M : x_X} {n : Int} (hd : g_ds lot n) : ∀ k : Nat, (k : Int) ≤ n → ∀ l : Int, 0 ≤ l → l < k → o_st M l → l ≠ m_cb lot M k → o_ah lot M (m_cb lot M k) l
  | 0, _, l, h1, h2, _, _ => by omega
  | k + 1, hk, l, h1, h2, hs, hne => by
    have ih := m_cb_min (M := M) hd k (by omega) l h1
    have hno := m_cb_none lot M k
    have hr := m_cb_r lot M k
    unfold m_cb at hne ⊢
    by_cases hc : (M k 3 > 0 ∧ M k 6 = 0) ∧ (m_cb lot M k = -1 ∨ M k 3 < M (m_cb lot M k) 3 ∨ (M k 3 = M (m_cb lot M k) 3 ∧ lot k < lot (m_cb lot M k)))
    · rw [if_pos hc] at hne ⊢
      have hlk : l < k := by omega
      by_cases e : m_cb lot M k = -1
      · exact absurd hs (hno e l h1 hlk)
      · by_cases e2 : l = m_cb lot M k
        · rw [e2]; exact hc.2.resolve_left e
        · have h3 := ih hlk hs e2
          have h4 := hc.2.resolve_left e
          unfold o_ah at h3 ⊢
          omega
    · rw [if_neg hc] at hne ⊢
      by_cases e : l = k
      · subst e
        have e1 : m_cb lot M k ≠ -1 := fun q => hc ⟨hs, Or.inl q⟩
        have e2 : ¬ (M k 3 < M (m_cb lot M k) 3 ∨ (M k 3 = M (m_cb lot M k) 3 ∧ lot k < lot (m_cb lot M k))) := fun q => hc ⟨hs, Or.inr q⟩
        have hl := hd k (m_cb lot M k) ⟨by omega, by omega⟩ ⟨by omega, by omega⟩ (by omega)
        unfold o_ah
        omega
      · exact ih (by omega) hs hne
/-- a total order: who is still to try, as they are called; then the others -/
def o_R (lot : Int → Int) (M : x_X) : Int → Int → Bool := fun a b => decide ((o_st M a ∧ (¬ o_st M b ∨ o_ah lot M a b)) ∨ (¬ o_st M a ∧ ¬ o_st M b ∧ a < b))
theorem o_R_iff {lot : Int → Int} {M : x_X} {a b : Int} : o_R lot M a b = true ↔ ((o_st M a ∧ (¬ o_st M b ∨ o_ah lot M a b)) ∨ (¬ o_st M a ∧ ¬ o_st M b ∧ a < b)) := by unfold o_R; exact decide_eq_true_iff
theorem o_so {lot : Int → Int} {M : x_X} {n : Int} (hd : g_ds lot n) : g_so (o_R lot M) n := by
  constructor
  · intro a b c ha hb hc hab hbc h1 h2
    rw [o_R_iff] at h1 h2 ⊢
    unfold o_st o_ah at *
    by_cases e : a = c
    · exfalso; subst e; omega
    · exact ⟨e, by omega⟩
  · intro a b ha hb hab
    have hl := hd a b ha hb hab
    rw [o_R_iff, o_R_iff]
    unfold o_st o_ah
    omega
theorem m_sc_g {lot : Int → Int} {M : x_X} {i : Int} (hi : o_st M i) : ∀ k : Nat, m_sc lot M i (M i 3) k = g_cn (o_R lot M) i k
  | 0 => rfl
  | k + 1 => by
    unfold m_sc g_cn
    rw [m_sc_g hi k]
    congr 1
    by_cases q : (k : Int) ≠ i ∧ (M k 3 > 0 ∧ M k 6 = 0) ∧ (M k 3 < M i 3 ∨ (M k 3 = M i 3 ∧ lot k < lot i))
    · rw [if_pos q, if_pos ⟨q.1, o_R_iff.mpr (Or.inl ⟨q.2.1, Or.inr q.2.2⟩)⟩]
    · rw [if_neg q, if_neg]
      intro z
      have z2 := o_R_iff.mp z.2
      apply q
      refine ⟨z.1, ?_⟩
      unfold o_st o_ah at *
      omega
theorem m_oc_ok {n : Int} {lot : Int → Int} {M : x_X} (hn : 0 ≤ n ∧ n ≤ 6) (hd : g_ds lot n) : ∀ (f : Nat) (M' : x_X) (k : Int) (R : Int → Int), k + f = 7 → 0 ≤ k → (∀ l, 0 ≤ l → l < n → M' l 3 = M l 3 ∧ (o_st M' l ↔ (o_st M l ∧ k ≤ m_sc lot M l (M l 3) n.toNat))) → (∀ j, 0 ≤ j → j < k → (0 ≤ R j ∧ R j < n) ∧ o_st M (R j) ∧ m_sc lot M (R j) (M (R j) 3) n.toNat = j) →
    (0 ≤ (m_oc n lot f M' k R).1 ∧ (m_oc n lot f M' k R).1 ≤ n) ∧ (∀ j, 0 ≤ j → j < (m_oc n lot f M' k R).1 → (0 ≤ (m_oc n lot f M' k R).2 j ∧ (m_oc n lot f M' k R).2 j < n) ∧ o_st M ((m_oc n lot f M' k R).2 j) ∧ m_sc lot M ((m_oc n lot f M' k R).2 j) (M ((m_oc n lot f M' k R).2 j) 3) n.toNat = j) ∧ ∀ l, 0 ≤ l → l < n → o_st M l → m_sc lot M l (M l 3) n.toNat < (m_oc n lot f M' k R).1 := by
  have hlt : ∀ l, 0 ≤ l → l < n → o_st M l → 0 ≤ m_sc lot M l (M l 3) n.toNat ∧ m_sc lot M l (M l 3) n.toNat < n := fun l l1 l2 hs => by
    rw [m_sc_g hs]
    have := g_cn_r (o_R lot M) l n.toNat
    rw [if_pos (by omega)] at this
    omega
  have hso := o_so (M := M) hd
  intro f
  induction f with
  | zero =>
    intro M' k R hk hk0 hM hR
    exfalso
    obtain ⟨h1, h2, h3⟩ := hR 6 (by omega) (by omega)
    have := hlt _ h1.1 h1.2 h2
    omega
  | succ f ih =>
    intro M' k R hk hk0 hM hR
    have hkn : k ≤ n := by
      by_cases q : k ≤ n
      · exact q
      · exfalso
        obtain ⟨h1, h2, h3⟩ := hR n hn.1 (by omega)
        have := hlt _ h1.1 h1.2 h2
        omega
    by_cases hc : m_cal n lot M' = -1
    · rw [m_oc_e hc]
      refine ⟨⟨hk0, hkn⟩, hR, fun l l1 l2 hs => ?_⟩
      have h1 := m_cb_none lot M' n.toNat hc l l1 (by omega)
      have h2 := (hM l l1 l2).2
      dsimp only
      by_cases q : m_sc lot M l (M l 3) n.toNat < k
      · exact q
      · exact absurd (h2.mpr ⟨hs, by omega⟩) h1
    · obtain ⟨c, hcd⟩ : ∃ c, c = m_cal n lot M' := ⟨_, rfl⟩
      have hcr : 0 ≤ c ∧ c < n := by have := m_cb_r lot M' n.toNat; unfold m_cal at hcd hc; omega
      have hcs : o_st M' c := by rw [hcd]; exact m_cb_ok lot M' n.toNat hc
      have hci := (hM c hcr.1 hcr.2).2.mp hcs
      have hck : m_sc lot M c (M c 3) n.toNat = k := by
        by_cases q : m_sc lot M c (M c 3) n.toNat = k
        · exact q
        · exfalso
          have hcl := hlt c hcr.1 hcr.2 hci.1
          obtain ⟨l, hl, he⟩ := g_sur hso hn.1 hk0 (show k < n by omega)
          have hne : l ≠ c := by intro e; rw [e, ← m_sc_g hci.1] at he; exact q he
          have hR1 : o_R lot M l c = true := by
            rcases hso.2 l c hl hcr hne with z | z
            · exact z
            · exfalso
              have := g_cn_lt hso hcr hl (Ne.symm hne) z n.toNat (by omega)
              rw [if_pos (by omega), ← m_sc_g hci.1] at this
              omega
          have hls : o_st M l ∧ o_ah lot M l c := by
            have := o_R_iff.mp hR1
            have h9 := hci.1
            unfold o_st o_ah at *
            omega
          have hl2 : o_st M' l := (hM l hl.1 hl.2).2.mpr ⟨hls.1, by rw [m_sc_g hls.1]; omega⟩
          have hmin := m_cb_min (M := M') hd n.toNat (by omega) l hl.1 (by omega) hl2 (by unfold m_cal at hcd; rw [← hcd]; exact hne)
          have hcd2 : m_cb lot M' n.toNat = c := by unfold m_cal at hcd; exact hcd.symm
          rw [hcd2] at hmin
          have e1 := (hM l hl.1 hl.2).1
          have e2 := (hM c hcr.1 hcr.2).1
          have h8 := hls.2
          unfold o_ah at hmin h8
          omega
      rw [m_oc_s hc, ← hcd]
      refine ih _ _ _ (by omega) (by omega) (fun l l1 l2 => ?_) (fun j j1 j2 => ?_)
      · have h1 := hM l l1 l2
        refine ⟨by rw [x_up_n _ (Or.inr (by omega))]; exact h1.1, ?_⟩
        by_cases e : l = c
        · subst e
          constructor
          · intro z
            have z2 := z.2
            rw [x_up_s] at z2
            omega
          · intro z; omega
        · have e6 : x_up M' c 6 1 l 6 = M' l 6 := x_up_n _ (Or.inl e)
          have e3 : x_up M' c 6 1 l 3 = M' l 3 := x_up_n _ (Or.inl e)
          unfold o_st
          rw [e6, e3]
          constructor
          · intro z
            have z2 := h1.2.mp z
            refine ⟨z2.1, ?_⟩
            by_cases w : m_sc lot M l (M l 3) n.toNat = k
            · exfalso
              rw [← hck, m_sc_g z2.1, m_sc_g hci.1] at w
              exact e (g_cn_ne hso ⟨l1, l2⟩ hcr w)
            · omega
          · intro z; exact h1.2.mpr ⟨z.1, by omega⟩
      · by_cases e : j = k
        · rw [e, if_pos rfl]; exact ⟨hcr, hci.1, hck⟩
        · rw [if_neg e]; exact hR j j1 (by omega)
theorem m_ord {n : Int} {lot : Int → Int} {M : x_X} (hn : 0 ≤ n ∧ n ≤ 6) (hd : g_ds lot n) : (w_out (fun k l => decide ((M l 3 > 0 ∧ M l 6 = 0) ∧ m_sc lot M l (M l 3) n.toNat = k)) n.toNat n.toNat).1 = (m_oc n lot 7 M 0 (fun _ => 0)).1 ∧ (0 ≤ (m_oc n lot 7 M 0 (fun _ => 0)).1 ∧ (m_oc n lot 7 M 0 (fun _ => 0)).1 ≤ 6) ∧ ∀ j, 0 ≤ j → j < (m_oc n lot 7 M 0 (fun _ => 0)).1 → (w_out (fun k l => decide ((M l 3 > 0 ∧ M l 6 = 0) ∧ m_sc lot M l (M l 3) n.toNat = k)) n.toNat n.toNat).2 j = (m_oc n lot 7 M 0 (fun _ => 0)).2 j := by
  have hlt : ∀ l, 0 ≤ l → l < n → o_st M l → 0 ≤ m_sc lot M l (M l 3) n.toNat := fun l l1 l2 hs => (m_sc_r _ _ _ _ _).1
  obtain ⟨h1, h2, h3⟩ := m_oc_ok (M := M) hn hd 7 M 0 (fun _ => 0) (by omega) (by omega) (fun l l1 l2 => ⟨rfl, fun z => ⟨z, hlt l l1 l2 z⟩, fun z => z.1⟩) (fun j j1 j2 => by omega)
  obtain ⟨S, hS⟩ : ∃ S, (m_oc n lot 7 M 0 (fun _ => 0)).1 = S := ⟨_, rfl⟩
  obtain ⟨R, hRR⟩ : ∃ R, (m_oc n lot 7 M 0 (fun _ => 0)).2 = R := ⟨_, rfl⟩
  rw [hS, hRR] at h2
  rw [hS] at h1 h3 ⊢
  rw [hRR]
  have hso := o_so (M := M) hd
  have key : ∀ K : Nat, (K : Int) ≤ n → (w_out (fun k l => decide ((M l 3 > 0 ∧ M l 6 = 0) ∧ m_sc lot M l (M l 3) n.toNat = k)) n.toNat K).1 = min (K : Int) S ∧ ∀ j, 0 ≤ j → j < min (K : Int) S → (w_out (fun k l => decide ((M l 3 > 0 ∧ M l 6 = 0) ∧ m_sc lot M l (M l 3) n.toNat = k)) n.toNat K).2 j = R j := by
    intro K
    induction K with
    | zero => intro _; exact ⟨by show (0 : Int) = _; omega, fun j j1 j2 => by omega⟩
    | succ K ih =>
      intro hK
      obtain ⟨ih1, ih2⟩ := ih (by omega)
      by_cases q : (K : Int) < S
      · obtain ⟨r1, r2, r3⟩ := h2 K (by omega) q
        have e : w_out (fun k l => decide ((M l 3 > 0 ∧ M l 6 = 0) ∧ m_sc lot M l (M l 3) n.toNat = k)) n.toNat (K + 1) = ((w_out (fun k l => decide ((M l 3 > 0 ∧ M l 6 = 0) ∧ m_sc lot M l (M l 3) n.toNat = k)) n.toNat K).1 + 1, fun j => if j = (w_out (fun k l => decide ((M l 3 > 0 ∧ M l 6 = 0) ∧ m_sc lot M l (M l 3) n.toNat = k)) n.toNat K).1 then R K else (w_out (fun k l => decide ((M l 3 > 0 ∧ M l 6 = 0) ∧ m_sc lot M l (M l 3) n.toNat = k)) n.toNat K).2 j) := by
          conv => lhs; unfold w_out
          refine w_in_one r1.1 (decide_eq_true ⟨r2, r3⟩) n.toNat _ (fun l l1 l2 z => ?_) (by omega)
          have z2 := of_decide_eq_true z
          have w := z2.2.trans r3.symm
          rw [m_sc_g z2.1, m_sc_g r2] at w
          exact g_cn_ne hso ⟨l1, by omega⟩ r1 w
        rw [e, ih1]
        refine ⟨by dsimp only; omega, fun j j1 j2 => ?_⟩
        dsimp only
        by_cases z : j = K
        · rw [if_pos (by omega), z]
        · rw [if_neg (by omega)]; exact ih2 j j1 (by omega)
      · have e : w_out (fun k l => decide ((M l 3 > 0 ∧ M l 6 = 0) ∧ m_sc lot M l (M l 3) n.toNat = k)) n.toNat (K + 1) = w_out (fun k l => decide ((M l 3 > 0 ∧ M l 6 = 0) ∧ m_sc lot M l (M l 3) n.toNat = k)) n.toNat K := by
          conv => lhs; unfold w_out
          refine w_in_non n.toNat _ (fun l l1 l2 z => ?_)
          have z2 := of_decide_eq_true z
          have := h3 l l1 (by omega) z2.1
          omega
        rw [e, ih1]
        exact ⟨by omega, fun j j1 j2 => ih2 j j1 (by omega)⟩
  obtain ⟨k1, k2⟩ := key n.toNat (by omega)
  exact ⟨by rw [k1]; omega, ⟨by omega, by omega⟩, fun j j1 j2 => k2 j j1 (by omega)⟩
