/-! ===== the meet begins: whatever was there ===== -/
def m_Z (n : Int) (M : x_X) : Prop := (∀ f, ¬ (1 ≤ f ∧ f ≤ 3) → M (-1) f = 0) ∧ (∀ l f, 0 ≤ l → l < n → ¬ (2 ≤ f ∧ f ≤ 7) → ¬ (10 ≤ f ∧ f ≤ 12) → M l f = 0) ∧ ∀ l f, l ≠ -1 → ¬ (0 ≤ l ∧ l < n) → M l f = 0
theorem t_M_Z (X : x_X) : m_Z (X 64 3) (t_M X) := by
  refine ⟨fun f hf => ?_, fun l f l1 l2 h1 h2 => ?_, fun l f h1 h2 => ?_⟩
  · unfold t_M; rw [if_pos rfl, if_neg hf]
  · have : ti f = -1 := by unfold ti; rw [if_neg (by omega), if_neg (by omega), if_neg (by omega), if_neg (by omega), if_neg (by omega), if_neg (by omega), if_neg (by omega), if_neg (by omega)]
    unfold t_M; rw [if_neg (by omega), if_pos ⟨l1, l2⟩, if_neg (by omega), if_neg (by omega)]
  · unfold t_M; rw [if_neg h1, if_neg h2]
theorem c_M_Z (X : x_X) (mo : Int) : m_Z (X 1 2) (c_M X mo) := by
  refine ⟨fun f hf => ?_, fun l f l1 l2 h1 h2 => ?_, fun l f h1 h2 => ?_⟩
  · unfold c_M; rw [if_pos rfl, if_neg hf]
  · unfold c_M; rw [if_neg (by omega), if_pos ⟨l1, l2⟩, if_neg h1, if_neg h2]
  · unfold c_M; rw [if_neg h1, if_neg h2]
theorem m_beg_i {n : Int} {op : Int → Int → Int} {M N : x_X} (h1 : m_Z n M) (h2 : m_Z n N) : m_beg n op M = m_beg n op N := by
  have z1 : m_ck M n (-1) 1 = 0 := by simp [m_ck]
  have z2 : m_ck N n (-1) 1 = 0 := by simp [m_ck]
  unfold m_beg
  funext l f
  by_cases e : l = -1
  · subst e
    by_cases q1 : f = 1
    · subst q1; rw [m_lift_g.1, m_lift_g.1, z1, z2]
    · by_cases q2 : f = 2
      · subst q2; rw [m_lift_g.2.1, m_lift_g.2.1]
      · by_cases q3 : f = 3
        · subst q3; rw [m_lift_g.2.2, m_lift_g.2.2]
        · unfold m_lift m_rk m_lk m_ck
          rw [if_pos rfl, if_neg q2, if_neg q3, if_neg (by omega), if_pos rfl, if_neg q1, if_pos rfl, if_neg q2, if_neg q3, if_neg (by omega), if_pos rfl, if_neg q1, h1.1 f (by omega), h2.1 f (by omega)]
  · by_cases q : 0 ≤ l ∧ l < n
    · have a7 : m_ck M n l 7 = 0 := by simp [m_ck, e, q]
      have b7 : m_ck N n l 7 = 0 := by simp [m_ck, e, q]
      have A := m_lift_l (op := op) (N := m_ck M n) q.1 q.2
      have B := m_lift_l (op := op) (N := m_ck N n) q.1 q.2
      by_cases f2 : f = 2
      · subst f2; rw [A.1.1, B.1.1]
      · by_cases f3 : f = 3
        · subst f3; rw [A.1.2.1, B.1.2.1, a7, b7, z1, z2]
        · by_cases f4 : f = 4
          · subst f4; rw [A.1.2.2.1, B.1.2.2.1]
          · by_cases f5 : f = 5
            · subst f5; rw [A.1.2.2.2.1, B.1.2.2.2.1, z1, z2]
            · by_cases f6 : f = 6
              · subst f6; rw [A.1.2.2.2.2, B.1.2.2.2.2]
              · by_cases f7 : f = 7
                · subst f7; rw [A.2.1, B.2.1, a7, b7]
                · unfold m_lift m_rk m_lk m_ck
                  rw [if_neg e, if_pos q, if_neg f6, if_neg f5, if_pos q, if_neg f2, if_neg f3, if_neg f4, if_neg e, if_pos q, if_neg f7, if_neg e, if_pos q, if_neg f6, if_neg f5, if_pos q, if_neg f2, if_neg f3, if_neg f4, if_neg e, if_pos q, if_neg f7]
                  by_cases f10 : 10 ≤ f ∧ f ≤ 12
                  · rw [if_pos f10, if_pos f10]
                  · rw [if_neg f10, if_neg f10, h1.2.1 l f q.1 q.2 (by omega) f10, h2.2.1 l f q.1 q.2 (by omega) f10]
    · unfold m_lift m_rk m_lk m_ck
      rw [if_neg e, if_neg q, if_neg q, if_neg e, if_neg q, if_neg e, if_neg q, if_neg q, if_neg e, if_neg q, h1.2.2 l f e q, h2.2.2 l f e q]
/-- rows of a double loop -/
def w_in (P : Int → Bool) : Nat → Int × (Int → Int) → Int × (Int → Int)
  | 0, s => s
  | m + 1, s => if P m = true then ((w_in P m s).1 + 1, fun j => if j = (w_in P m s).1 then m else (w_in P m s).2 j) else w_in P m s
def w_out (P : Int → Int → Bool) (n : Nat) : Nat → Int × (Int → Int)
  | 0 => (0, fun _ => 0)
  | k + 1 => w_in (P k) n (w_out P n k)
theorem w_in_s (P : Int → Bool) {m : Int} (hm : 0 ≤ m) (s : Int × (Int → Int)) : w_in P (m + 1).toNat s = if P m = true then ((w_in P m.toNat s).1 + 1, fun j => if j = (w_in P m.toNat s).1 then m else (w_in P m.toNat s).2 j) else w_in P m.toNat s := by
  rw [show (m + 1).toNat = m.toNat + 1 by omega]
  conv => lhs; unfold w_in
  rw [show ((m.toNat : Nat) : Int) = m by omega]
theorem w_out_s (P : Int → Int → Bool) (n : Nat) {k : Int} (hk : 0 ≤ k) : w_out P n (k + 1).toNat = w_in (P k) n (w_out P n k.toNat) := by
  rw [show (k + 1).toNat = k.toNat + 1 by omega]
  conv => lhs; unfold w_out
  rw [show ((k.toNat : Nat) : Int) = k by omega]
theorem w_in_r (P : Int → Bool) (s : Int × (Int → Int)) : ∀ m : Nat, s.1 ≤ (w_in P m s).1 ∧ (w_in P m s).1 ≤ s.1 + m
  | 0 => by unfold w_in; omega
  | m + 1 => by have := w_in_r P s m; unfold w_in; split <;> (try dsimp only) <;> omega
theorem w_out_r (P : Int → Int → Bool) (n : Nat) (hn : (n : Int) ≤ 6) : ∀ k : Nat, 0 ≤ (w_out P n k).1 ∧ (w_out P n k).1 ≤ 6 * k
  | 0 => by unfold w_out; simp
  | k + 1 => by have := w_out_r P n hn k; have := w_in_r (P k) (w_out P n k) n; unfold w_out; omega
