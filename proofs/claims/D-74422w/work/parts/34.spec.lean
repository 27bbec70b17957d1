/-! ===== the meet's invariant, places, a try ===== -/
def m_W (n : Int) (M : x_X) : Prop := ((0 ≤ M (-1) 1 ∧ M (-1) 1 ≤ 3) ∧ (0 ≤ M (-1) 2 ∧ M (-1) 2 ≤ 2) ∧ (0 ≤ M (-1) 3 ∧ M (-1) 3 ≤ 40)) ∧ (∀ l, 0 ≤ l → l < n → ((0 ≤ M l 2 ∧ M l 2 ≤ 3) ∧ (0 ≤ M l 3 ∧ M l 3 ≤ 40) ∧ (1 ≤ M l 4 ∧ M l 4 ≤ 41) ∧ (0 ≤ M l 5 ∧ M l 5 ≤ 2) ∧ (0 ≤ M l 6 ∧ M l 6 ≤ 1) ∧ (0 ≤ M l 7 ∧ M l 7 ≤ 1) ∧ (0 ≤ M l 10 ∧ M l 10 ≤ 40) ∧ (0 ≤ M l 11 ∧ M l 11 ≤ 40) ∧ (0 ≤ M l 12 ∧ M l 12 ≤ 40))) ∧
  (∀ l, 0 ≤ l → l < n → (M l 7 = 1 → M l 3 = 0) ∧ (M (-1) 1 = 3 → M l 3 = 0) ∧ (M (-1) 1 < 1 → M l 11 = 0) ∧ (M (-1) 1 < 2 → M l 12 = 0) ∧ (0 < M l 3 → M l 4 ≤ M l 3 ∧ M l (10 + M (-1) 1) < M l 4 ∧ M l 2 ≤ M (-1) 2 + M l 6 ∧ (M l 2 = M (-1) 2 + M l 6 → M l (10 + M (-1) 1) = 0)))
def n_P (X : x_X) : Prop := ∀ l, 0 ≤ l → l < X 1 2 → ∀ t, 0 ≤ t → t < 3 → (1 ≤ X (X 2 l + 11) t ∧ X (X 2 l + 11) t ≤ 40) ∧ (1 ≤ X (X 2 l + 12) t ∧ X (X 2 l + 12) t ≤ 9) ∧ (0 ≤ X (X 2 l + 13) t ∧ X (X 2 l + 13) t ≤ 9)
theorem n_P.fr {κ : x_Ka} {mo : Int} {X Y : x_X} (h : n_P X) (hI : n_I κ X) (hf : c_fr mo X Y) (hmo : 3 ≤ mo) (hm2 : mo ≤ 17) : n_P Y := by
  intro l h1 h2 t t1 t2
  rw [hf 1 (by omega)] at h2
  have ha := hI.2.2.2.2 l h1 h2
  rw [hf 2 (by omega), hf (X 2 l + 11) (by omega), hf (X 2 l + 12) (by omega), hf (X 2 l + 13) (by omega)]
  exact h l h1 h2 t t1 t2
def c_pl (X : x_X) (l t w : Int) : Int := if 0 ≤ l ∧ l < X 1 2 then X (X 2 l + 11 + w) t else 0
/-- a try of l: g 1 good, 0 failed; w what the plan adds -/
def m_tr (M : x_X) (l g w : Int) : x_X := x_up (x_up (x_up (x_up (x_up (x_up M (-1) 3 (max (M (-1) 3) (M l 3))) l (10 + M (-1) 1) (if g = 1 then M l 3 else M l (10 + M (-1) 1))) l 4 (M l 3 + g)) l 2 (M l 2 + (1 - g))) l 6 1) l 3 (if M (-1) 2 = 2 then 0 else if M l 3 + w > 40 then 0 else M l 3 + w)
/-! places -/
def m_sum (M : x_X) (l : Int) : Int := if M l 7 = 0 then M l 10 + M l 11 + M l 12 else 0
def m_ah (li s io o oo : Int) : Int := if io = oo then (if s = o then li else if o < s then 1 else 0) else oo
def m_ahd (li : Int → Int → Int) (M : x_X) (a b : Int) : Int := m_ah (li a b) (m_sum M a) (M a 7) (m_sum M b) (M b 7)
def m_cnt (li : Int → Int → Int) (M : x_X) (l : Int) : Nat → Int
  | 0 => 0
  | k + 1 => m_cnt li M l k + (if (k : Int) ≠ l ∧ m_ahd li M k l ≠ 0 then 1 else 0)
def c_body (X : x_X) (l : Int) : Int := if 0 ≤ l ∧ l < X 1 2 then X (X 2 l) 0 else 0
def m_li (body lot : Int → Int) (i j : Int) : Int := if body i < body j ∨ (body i = body j ∧ lot i < lot j) then 1 else 0
def c_li (X : x_X) : Int → Int → Int := m_li (c_body X) (c_lot X)
theorem m_li_r (body lot : Int → Int) (i j : Int) : 0 ≤ m_li body lot i j ∧ m_li body lot i j ≤ 1 := by unfold m_li; split <;> omega
theorem m_ah_r {li s io o oo : Int} (h1 : 0 ≤ li ∧ li ≤ 1) (h2 : 0 ≤ oo ∧ oo ≤ 1) : 0 ≤ m_ah li s io o oo ∧ m_ah li s io o oo ≤ 1 := by unfold m_ah; repeat' split <;> omega
theorem m_cnt_r (li : Int → Int → Int) (M : x_X) (l : Int) : ∀ k : Nat, 0 ≤ m_cnt li M l k ∧ m_cnt li M l k ≤ k
  | 0 => by simp [m_cnt]
  | k + 1 => by have := m_cnt_r li M l k; unfold m_cnt; split <;> omega
theorem m_cnt_s (li : Int → Int → Int) (M : x_X) (l : Int) {k : Int} (hk : 0 ≤ k) : m_cnt li M l (k + 1).toNat = m_cnt li M l k.toNat + (if k ≠ l ∧ m_ahd li M k l ≠ 0 then 1 else 0) := by
  rw [show (k + 1).toNat = k.toNat + 1 by omega]
  conv => lhs; unfold m_cnt
  rw [show ((k.toNat : Nat) : Int) = k by omega]
/-- the first l from l0 on with g l = k -/
def m_fp (g : Int → Int) (k : Int) : Nat → Int → Int
  | 0, l => l
  | f + 1, l => if g l = k then l else m_fp g k f (l + 1)
theorem c_M_tr {X : x_X} {mo l g w : Int} (hmo : 3 ≤ mo) (hl : 0 ≤ l ∧ l < X 1 2) (ht : 0 ≤ X mo 1 ∧ X mo 1 < 3) (hJ : X (mo + 1 + 1 + 2 * l) 1 = X mo 2) (h6 : 0 ≤ X mo 2 ∧ X mo 2 ≤ 2) :
    c_M (s_tr (x_up X mo 3 (max (X mo 3) (X (mo + 1 + 1 + 2 * l) 3))) (mo + 1 + 1 + 2 * l) (X mo 1) g w) mo = m_tr (c_M X mo) l g w := by
  have e0 : ∀ f, f ≠ 3 → x_up X mo 3 (max (X mo 3) (X (mo + 1 + 1 + 2 * l) 3)) mo f = X mo f := fun f hf => x_up_n X (Or.inr hf)
  have e1 : x_up X mo 3 (max (X mo 3) (X (mo + 1 + 1 + 2 * l) 3)) (mo + 1 + 1 + 2 * l) = X (mo + 1 + 1 + 2 * l) := x_up_o X (by omega)
  have e2 : x_up X mo 3 (max (X mo 3) (X (mo + 1 + 1 + 2 * l) 3)) (mo + 1 + 1 + 2 * l + 1) = X (mo + 1 + 1 + 2 * l + 1) := x_up_o X (by omega)
  have n1 : ∀ (Z : x_X) (a i z : Int), a ≠ 1 → (x_up Z a i z) 1 2 = Z 1 2 := fun Z a i z h => x_up_n Z (Or.inl (Ne.symm h))
  have g1 : c_M X mo (-1) 1 = X mo 1 := c_M_g (by omega)
  have g2 : c_M X mo (-1) 2 = X mo 2 := c_M_g (by omega)
  have g3 : c_M X mo (-1) 3 = X mo 3 := c_M_g (by omega)
  have s3 : c_M X mo l 3 = X (mo + 1 + 1 + 2 * l) 3 := c_M_s hl (by omega)
  have s2 : c_M X mo l 2 = X (mo + 1 + 1 + 2 * l) 2 := c_M_s hl (by omega)
  have sb : c_M X mo l (10 + X mo 1) = X (mo + 1 + 1 + 2 * l + 1) (X mo 1) := by rw [c_M_b hl (by omega)]; congr 1; omega
  unfold s_tr m_tr
  rw [e1, e2, c_M_us hmo (by rw [n1 _ _ _ _ (by omega), n1 _ _ _ _ (by omega), n1 _ _ _ _ (by omega), n1 _ _ _ _ (by omega), n1 _ _ _ _ (by omega), n1 _ _ _ _ (by omega)]; exact hl) (by omega),
    c_M_us hmo (by rw [n1 _ _ _ _ (by omega), n1 _ _ _ _ (by omega), n1 _ _ _ _ (by omega), n1 _ _ _ _ (by omega), n1 _ _ _ _ (by omega)]; exact hl) (by omega), c_M_u1 hmo hl.1,
    c_M_us hmo (by rw [n1 _ _ _ _ (by omega), n1 _ _ _ _ (by omega), n1 _ _ _ _ (by omega)]; exact hl) (by omega), c_M_us hmo (by rw [n1 _ _ _ _ (by omega), n1 _ _ _ _ (by omega)]; exact hl) (by omega),
    c_M_ub hmo (by rw [n1 _ _ _ _ (by omega)]; exact hl) (by omega), c_M_ug hmo (by omega), g1, g2, g3, s3, s2, sb, hJ]
  congr 1
  unfold m_ask
  have : (X mo 2 + 1 = 3) ↔ (X mo 2 = 2) := by omega
  simp only [this]
theorem m_ek_0 (M : x_X) : M = m_ek M 0 := by funext l f; simp only [m_ek]; rw [if_neg (by omega)]
theorem m_ek_s1 {M : x_X} {k : Int} (hk : 0 ≤ k) (h : M k (10 + M (-1) 1) = 0) : x_up (m_ek M k) k 7 1 = m_ek M (k + 1) := by
  funext l f
  simp only [m_ek, x_up]
  by_cases e : l = k
  · subst e
    by_cases q : f = 7
    · subst q; simp [h, hk]; omega
    · simp [q]
  · have : (0 ≤ l ∧ l < k + 1 ∧ f = 7 ∧ M l (10 + M (-1) 1) = 0) ↔ (0 ≤ l ∧ l < k ∧ f = 7 ∧ M l (10 + M (-1) 1) = 0) := by constructor <;> (intro q; refine ⟨q.1, by omega, q.2.2⟩)
    simp [e, this]
theorem m_ek_s0 {M : x_X} {k : Int} (h : M k (10 + M (-1) 1) ≠ 0) : m_ek M k = m_ek M (k + 1) := by
  funext l f
  simp only [m_ek]
  by_cases e : l = k
  · subst e; simp [h]
  · have : (0 ≤ l ∧ l < k + 1 ∧ f = 7 ∧ M l (10 + M (-1) 1) = 0) ↔ (0 ≤ l ∧ l < k ∧ f = 7 ∧ M l (10 + M (-1) 1) = 0) := by constructor <;> (intro q; refine ⟨q.1, by omega, q.2.2⟩)
    simp only [this]
