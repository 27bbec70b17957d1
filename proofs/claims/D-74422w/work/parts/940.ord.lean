/-! ===== counting along a strict total order; places; the order of calls ===== -/
def g_cn (R : Int → Int → Bool) (l : Int) : Nat → Int
  | 0 => 0
  | k + 1 => g_cn R l k + (if (k : Int) ≠ l ∧ R k l = true then 1 else 0)
def g_so (R : Int → Int → Bool) (n : Int) : Prop := (∀ a b c, (0 ≤ a ∧ a < n) → (0 ≤ b ∧ b < n) → (0 ≤ c ∧ c < n) → a ≠ b → b ≠ c → R a b = true → R b c = true → a ≠ c ∧ R a c = true) ∧ (∀ a b, (0 ≤ a ∧ a < n) → (0 ≤ b ∧ b < n) → a ≠ b → R a b = true ∨ R b a = true)
theorem g_cn_r (R : Int → Int → Bool) (l : Int) : ∀ k : Nat, 0 ≤ g_cn R l k ∧ g_cn R l k + (if 0 ≤ l ∧ l < k then 1 else 0) ≤ k
  | 0 => by simp [g_cn]; omega
  | k + 1 => by
    have ih := g_cn_r R l k
    unfold g_cn
    by_cases e : (k : Int) = l
    · rw [if_neg (fun q => q.1 e), if_pos (by omega)]
      rw [if_neg (by omega)] at ih
      omega
    · by_cases q : 0 ≤ l ∧ l < k
      · rw [if_pos q] at ih
        rw [if_pos (show 0 ≤ l ∧ l < ((k + 1 : Nat) : Int) by omega)]
        split <;> omega
      · rw [if_neg q] at ih
        rw [if_neg (show ¬ (0 ≤ l ∧ l < ((k + 1 : Nat) : Int)) by omega)]
        split <;> omega
theorem g_cn_lt {R : Int → Int → Bool} {n a b : Int} (h : g_so R n) (ha : 0 ≤ a ∧ a < n) (hb : 0 ≤ b ∧ b < n) (hne : a ≠ b) (hR : R a b = true) : ∀ k : Nat, (k : Int) ≤ n → g_cn R a k + (if a < k then 1 else 0) ≤ g_cn R b k
  | 0, _ => by rw [if_neg (by omega)]; simp [g_cn]
  | k + 1, hk => by
    have ih := g_cn_lt h ha hb hne hR k (by omega)
    unfold g_cn
    by_cases e : (k : Int) = a
    · rw [if_neg (fun q => q.1 e), if_pos (by omega), if_pos ⟨by omega, by rw [e]; exact hR⟩]
      rw [if_neg (by omega)] at ih
      omega
    · have e2 : (if a < ((k + 1 : Nat) : Int) then (1 : Int) else 0) = (if a < (k : Int) then 1 else 0) := by
        by_cases q : a < (k : Int)
        · rw [if_pos q, if_pos (by omega)]
        · rw [if_neg q, if_neg (by omega)]
      rw [e2]
      by_cases q : R k a = true
      · have h2 := h.1 k a b ⟨by omega, by omega⟩ ha hb e hne q hR
        rw [if_pos ⟨e, q⟩, if_pos h2]
        omega
      · rw [if_neg (fun z => q z.2)]
        split <;> omega
theorem g_cn_ne {R : Int → Int → Bool} {n a b : Int} (h : g_so R n) (ha : 0 ≤ a ∧ a < n) (hb : 0 ≤ b ∧ b < n) (e : g_cn R a n.toNat = g_cn R b n.toNat) : a = b := by
  by_cases q : a = b
  · exact q
  · exfalso
    rcases h.2 a b ha hb q with z | z
    · have := g_cn_lt h ha hb q z n.toNat (by omega)
      rw [if_pos (by omega)] at this; omega
    · have := g_cn_lt h hb ha (Ne.symm q) z n.toNat (by omega)
      rw [if_pos (by omega)] at this; omega
/-- one to one, so onto -/
theorem g_pig : ∀ (n : Nat) (f : Nat → Nat), (∀ i, i < n → f i < n) → (∀ i j, i < n → j < n → f i = f j → i = j) → ∀ k, k < n → ∃ i, i < n ∧ f i = k
  | 0, _, _, _, k, hk => by omega
  | n + 1, f, hf, hi, k, hk => by
    by_cases e : k = f n
    · exact ⟨n, by omega, e.symm⟩
    · have hm : ∀ i, i < n → f i ≠ f n := fun i h q => by have := hi i n (by omega) (by omega) q; omega
      have ih := g_pig n (fun i => if f i = n then f n else f i) (fun i h => by
        show (if f i = n then f n else f i) < n
        have h1 := hf i (by omega)
        have h2 := hf n (by omega)
        have h3 := hm i h
        split <;> omega) (fun i j h1 h2 q => by
        have q : (if f i = n then f n else f i) = (if f j = n then f n else f j) := q
        have m1 := hm i h1
        have m2 := hm j h2
        by_cases a : f i = n
        · by_cases b : f j = n
          · exact hi i j (by omega) (by omega) (a.trans b.symm)
          · rw [if_pos a, if_neg b] at q; exact absurd q.symm m2
        · by_cases b : f j = n
          · rw [if_neg a, if_pos b] at q; exact absurd q m1
          · rw [if_neg a, if_neg b] at q; exact hi i j (by omega) (by omega) q)
      by_cases hkn : k = n
      · have hlt : f n < n := by have := hf n (by omega); omega
        obtain ⟨i, h1, h2⟩ := ih (f n) hlt
        have h2 : (if f i = n then f n else f i) = f n := h2
        by_cases a : f i = n
        · exact ⟨i, by omega, by omega⟩
        · rw [if_neg a] at h2; exact absurd h2 (hm i h1)
      · obtain ⟨i, h1, h2⟩ := ih k (by omega)
        have h2 : (if f i = n then f n else f i) = k := h2
        by_cases a : f i = n
        · rw [if_pos a] at h2; exact absurd h2.symm e
        · rw [if_neg a] at h2; exact ⟨i, by omega, h2⟩
theorem g_sur {R : Int → Int → Bool} {n : Int} (h : g_so R n) (hn : 0 ≤ n) {k : Int} (h1 : 0 ≤ k) (h2 : k < n) : ∃ l, (0 ≤ l ∧ l < n) ∧ g_cn R l n.toNat = k := by
  obtain ⟨i, hi, he⟩ := g_pig n.toNat (fun i => (g_cn R i n.toNat).toNat) (fun i hi => by
      show (g_cn R i n.toNat).toNat < n.toNat
      have := g_cn_r R i n.toNat
      rw [if_pos (by omega)] at this
      omega) (fun i j hi hj q => by
      have q : (g_cn R i n.toNat).toNat = (g_cn R j n.toNat).toNat := q
      have r1 := g_cn_r R i n.toNat
      have r2 := g_cn_r R j n.toNat
      have := g_cn_ne h (a := i) (b := j) ⟨by omega, by omega⟩ ⟨by omega, by omega⟩ (by omega)
      omega) k.toNat (by omega)
  have he : (g_cn R i n.toNat).toNat = k.toNat := he
  have r1 := g_cn_r R i n.toNat
  exact ⟨i, ⟨by omega, by omega⟩, by omega⟩
/-! rows of the double loop -/
theorem w_in_non {P : Int → Bool} : ∀ (m : Nat) (s : Int × (Int → Int)), (∀ l : Int, 0 ≤ l → l < m → ¬ P l = true) → w_in P m s = s
  | 0, _, _ => rfl
  | m + 1, s, h => by
    unfold w_in
    rw [if_neg (h m (by omega) (by omega))]
    exact w_in_non m s (fun l l1 l2 => h l l1 (by omega))
theorem w_in_one {P : Int → Bool} {l0 : Int} (h0 : 0 ≤ l0) (hP : P l0 = true) : ∀ (m : Nat) (s : Int × (Int → Int)), (∀ l : Int, 0 ≤ l → l < m → P l = true → l = l0) → l0 < m → w_in P m s = (s.1 + 1, fun j => if j = s.1 then l0 else s.2 j)
  | 0, _, _, h => by omega
  | m + 1, s, h, hm => by
    unfold w_in
    by_cases e : (m : Int) = l0
    · rw [if_pos (by rw [e]; exact hP), w_in_non m s (fun l l1 l2 q => by have := h l l1 (by omega) q; omega), e]
    · rw [if_neg (fun q => e (h m (by omega) (by omega) q))]
      exact w_in_one h0 hP m s (fun l l1 l2 => h l l1 (by omega)) (by omega)
theorem w_out_pl {g : Int → Int} {n : Nat} (sur : ∀ k : Int, 0 ≤ k → k < n → ∃ l : Int, (0 ≤ l ∧ l < n) ∧ g l = k) (inj : ∀ a b : Int, (0 ≤ a ∧ a < n) → (0 ≤ b ∧ b < n) → g a = g b → a = b) : ∀ K : Nat, K ≤ n → (w_out (fun k l => decide (g l = k)) n K).1 = K ∧ ∀ j : Int, 0 ≤ j → j < K → (0 ≤ (w_out (fun k l => decide (g l = k)) n K).2 j ∧ (w_out (fun k l => decide (g l = k)) n K).2 j < n) ∧ g ((w_out (fun k l => decide (g l = k)) n K).2 j) = j
  | 0, _ => ⟨rfl, fun j h1 h2 => by omega⟩
  | K + 1, hK => by
    obtain ⟨ih1, ih2⟩ := w_out_pl sur inj K (by omega)
    obtain ⟨l0, hl, hg⟩ := sur K (by omega) (by omega)
    have e : w_out (fun k l => decide (g l = k)) n (K + 1) = ((w_out (fun k l => decide (g l = k)) n K).1 + 1, fun j => if j = (w_out (fun k l => decide (g l = k)) n K).1 then l0 else (w_out (fun k l => decide (g l = k)) n K).2 j) := by
      conv => lhs; unfold w_out
      exact w_in_one hl.1 (by exact decide_eq_true hg) n _ (fun l l1 l2 q => inj l l0 ⟨l1, l2⟩ hl ((of_decide_eq_true q).trans hg.symm)) hl.2
    rw [e, ih1]
    refine ⟨by dsimp only; omega, fun j h1 h2 => ?_⟩
    dsimp only
    by_cases q : j = K
    · rw [if_pos q, q]; exact ⟨hl, hg⟩
    · rw [if_neg q]; exact ih2 j h1 (by omega)
theorem m_fp_u {g : Int → Int} {k l : Int} (hg : g l = k) : ∀ (f : Nat) (l0 : Int), l0 ≤ l → l < l0 + f → (∀ l', l0 ≤ l' → l' < l → g l' ≠ k) → m_fp g k f l0 = l
  | 0, l0, h1, h2, _ => by omega
  | f + 1, l0, h1, h2, h3 => by
    by_cases e : l0 = l
    · rw [e]; exact m_fp_e hg
    · rw [m_fp_s (h3 l0 (by omega) (by omega))]
      exact m_fp_u hg f (l0 + 1) (by omega) (by omega) (fun l' q1 q2 => h3 l' (by omega) q2)
/-! places -/
theorem m_cnt_g (li : Int → Int → Int) (M : x_X) (l : Int) : ∀ k : Nat, m_cnt li M l k = g_cn (fun a b => decide (m_ahd li M a b ≠ 0)) l k
  | 0 => rfl
  | k + 1 => by
    unfold m_cnt g_cn
    rw [m_cnt_g li M l k]
    simp only [decide_eq_true_eq]
theorem m_ahd_iff {body lot : Int → Int} {M : x_X} {a b : Int} (ha : 0 ≤ M a 7 ∧ M a 7 ≤ 1) (hb : 0 ≤ M b 7 ∧ M b 7 ≤ 1) : m_ahd (m_li body lot) M a b ≠ 0 ↔ ((M a 7 = M b 7 ∧ ((m_sum M a = m_sum M b ∧ (body a < body b ∨ (body a = body b ∧ lot a < lot b))) ∨ m_sum M b < m_sum M a)) ∨ (M a 7 ≠ M b 7 ∧ M b 7 = 1)) := by
  unfold m_ahd m_ah m_li
  by_cases h1 : M a 7 = M b 7
  · rw [if_pos h1]
    by_cases h2 : m_sum M a = m_sum M b
    · rw [if_pos h2]
      by_cases h3 : body a < body b ∨ (body a = body b ∧ lot a < lot b)
      · rw [if_pos h3]; omega
      · rw [if_neg h3]; omega
    · rw [if_neg h2]
      by_cases h3 : m_sum M b < m_sum M a
      · rw [if_pos h3]; omega
      · rw [if_neg h3]; omega
  · rw [if_neg h1]; omega
def g_ds (lot : Int → Int) (n : Int) : Prop := ∀ a b, (0 ≤ a ∧ a < n) → (0 ≤ b ∧ b < n) → a ≠ b → lot a ≠ lot b
theorem m_so {body lot : Int → Int} {M : x_X} {n : Int} (hd : g_ds lot n) (ho : ∀ l, 0 ≤ l → l < n → 0 ≤ M l 7 ∧ M l 7 ≤ 1) : g_so (fun a b => decide (m_ahd (m_li body lot) M a b ≠ 0)) n := by
  constructor
  · intro a b c ha hb hc hab hbc h1 h2
    have h1 := (m_ahd_iff (ho a ha.1 ha.2) (ho b hb.1 hb.2)).mp (of_decide_eq_true h1)
    have h2 := (m_ahd_iff (ho b hb.1 hb.2) (ho c hc.1 hc.2)).mp (of_decide_eq_true h2)
    have oa := ho a ha.1 ha.2
    have ob := ho b hb.1 hb.2
    have oc := ho c hc.1 hc.2
    have hne : a ≠ c := by intro e; subst e; omega
    exact ⟨hne, decide_eq_true ((m_ahd_iff oa oc).mpr (by omega))⟩
  · intro a b ha hb hab
    have oa := ho a ha.1 ha.2
    have ob := ho b hb.1 hb.2
    have hl := hd a b ha hb hab
    by_cases q : ((M a 7 = M b 7 ∧ ((m_sum M a = m_sum M b ∧ (body a < body b ∨ (body a = body b ∧ lot a < lot b))) ∨ m_sum M b < m_sum M a)) ∨ (M a 7 ≠ M b 7 ∧ M b 7 = 1))
    · exact Or.inl (decide_eq_true ((m_ahd_iff oa ob).mpr q))
    · exact Or.inr (decide_eq_true ((m_ahd_iff ob oa).mpr (by omega)))
/-- the places as both tell them -/
theorem m_pl {body lot : Int → Int} {M : x_X} {n : Int} (hn : 0 ≤ n ∧ n ≤ 6) (hd : g_ds lot n) (ho : ∀ l, 0 ≤ l → l < n → 0 ≤ M l 7 ∧ M l 7 ≤ 1) : (∀ k, 0 ≤ k → k < n → ∃ l, 0 ≤ l ∧ l < n ∧ m_cnt (m_li body lot) M l n.toNat = k) ∧ (w_out (fun k l => decide (m_cnt (m_li body lot) M l n.toNat = k)) n.toNat n.toNat).1 = n ∧ ∀ k, 0 ≤ k → k < n → (w_out (fun k l => decide (m_cnt (m_li body lot) M l n.toNat = k)) n.toNat n.toNat).2 k = q_pl n (m_li body lot) M k := by
  have hs := m_so (body := body) hd ho
  have sur : ∀ k : Int, 0 ≤ k → k < n → ∃ l : Int, (0 ≤ l ∧ l < n) ∧ m_cnt (m_li body lot) M l n.toNat = k := fun k h1 h2 => by
    obtain ⟨l, hl, he⟩ := g_sur hs hn.1 h1 h2
    exact ⟨l, hl, by rw [m_cnt_g]; exact he⟩
  have inj : ∀ a b : Int, (0 ≤ a ∧ a < n) → (0 ≤ b ∧ b < n) → m_cnt (m_li body lot) M a n.toNat = m_cnt (m_li body lot) M b n.toNat → a = b := fun a b ha hb e => by
    rw [m_cnt_g, m_cnt_g] at e
    exact g_cn_ne hs ha hb e
  have hw := w_out_pl (g := fun l => m_cnt (m_li body lot) M l n.toNat) (n := n.toNat) (fun k h1 h2 => by
      obtain ⟨l, hl, he⟩ := sur k h1 (by omega)
      exact ⟨l, ⟨hl.1, by omega⟩, he⟩) (fun a b ha hb e => inj a b ⟨ha.1, by omega⟩ ⟨hb.1, by omega⟩ e) n.toNat (Nat.le_refl _)
  refine ⟨fun k h1 h2 => ?_, by rw [hw.1]; omega, fun k h1 h2 => ?_⟩
  · obtain ⟨l, hl, he⟩ := sur k h1 h2; exact ⟨l, hl.1, hl.2, he⟩
  · obtain ⟨h3, h4⟩ := hw.2 k h1 (by omega)
    unfold q_pl
    refine (m_fp_u h4 6 0 h3.1 (by omega) (fun l' q1 q2 q3 => ?_)).symm
    have := inj l' _ ⟨q1, by omega⟩ ⟨h3.1, by omega⟩ (q3.trans h4.symm)
    omega
