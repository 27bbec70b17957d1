/-! ===== the meet as a pure picture M: M (-1) 1 lift, 2 round, 3 bar; M l: 2 failed, 3 asked, 4 least, 5 changes, 6 tried, 7 out, 10 + t best of lift t ===== -/
def c_M (X : x_X) (mo : Int) : x_X := fun l f => if l = -1 then (if 1 ≤ f ∧ f ≤ 3 then X mo f else 0) else if 0 ≤ l ∧ l < X 1 2 then (if 2 ≤ f ∧ f ≤ 7 then X (mo + 1 + 1 + 2 * l) f else if 10 ≤ f ∧ f ≤ 12 then X (mo + 1 + 1 + 2 * l + 1) (f - 10) else 0) else 0
/-- nothing but the meet's own cells has moved -/
def c_fr (mo : Int) (X Y : x_X) : Prop := ∀ a, (a < mo ∨ mo + 14 ≤ a) → Y a = X a
theorem c_fr.rf (mo : Int) (X : x_X) : c_fr mo X X := fun _ _ => rfl
theorem c_fr.trans {mo : Int} {X Y Z : x_X} (h : c_fr mo X Y) (h2 : c_fr mo Y Z) : c_fr mo X Z := fun a ha => (h2 a ha).trans (h a ha)
theorem c_fr.up {mo a i z : Int} {X Y : x_X} (h : c_fr mo X Y) (ha : mo ≤ a ∧ a < mo + 14) : c_fr mo X (x_up Y a i z) := fun b hb => by
  rw [x_up_o Y (by omega)]; exact h b hb
/-- the component's frame of things: kinds and the list of lifters -/
def n_I (κ : x_Ka) (X : x_X) : Prop := x_T κ ∧ κ 0 = some (.inl (0, 1)) ∧ (0 ≤ X 1 2 ∧ X 1 2 ≤ 6) ∧ (∀ l, 0 ≤ l → l < X 1 2 → κ (X 2 l) = some (.inl (8, 1))) ∧ ∀ l, 0 ≤ l → l < X 1 2 → 88 ≤ X 2 l
def c_op (X : x_X) (l t : Int) : Int := if 0 ≤ l ∧ l < X 1 2 then X (X 2 l + 11) t else 0
def c_lot (X : x_X) (l : Int) : Int := if 0 ≤ l ∧ l < X 1 2 then X (X 2 l) 1 else 0
/-- tries made, by rounds -/
def c_J (X : x_X) (mo : Int) : Prop := ∀ l, 0 ≤ l → l < X 1 2 → X (mo + 1 + 1 + 2 * l) 3 > 0 → X (mo + 1 + 1 + 2 * l) 1 = X mo 2 + X (mo + 1 + 1 + 2 * l) 6
theorem n_I.fr {κ : x_Ka} {mo : Int} {X Y : x_X} (h : n_I κ X) (hf : c_fr mo X Y) (hmo : 3 ≤ mo) : n_I κ Y := by
  unfold n_I at *
  rw [hf 1 (by omega), hf 2 (by omega)]
  exact h
theorem n_I.op {κ : x_Ka} {mo : Int} {X Y : x_X} (h : n_I κ X) (hf : c_fr mo X Y) (hmo : 3 ≤ mo) (hm2 : mo ≤ 17) : c_op Y = c_op X ∧ c_lot Y = c_lot X := by
  obtain ⟨-, -, hn, -, hla⟩ := h
  constructor
  · funext l t
    unfold c_op
    rw [hf 1 (by omega), hf 2 (by omega)]
    by_cases q : 0 ≤ l ∧ l < X 1 2
    · rw [if_pos q, if_pos q, hf (X 2 l + 11) (by have := hla l q.1 q.2; omega)]
    · rw [if_neg q, if_neg q]
  · funext l
    unfold c_lot
    rw [hf 1 (by omega), hf 2 (by omega)]
    by_cases q : 0 ≤ l ∧ l < X 1 2
    · rw [if_pos q, if_pos q, hf (X 2 l) (by have := hla l q.1 q.2; omega)]
    · rw [if_neg q, if_neg q]
theorem c_M_g {X : x_X} {mo f : Int} (h : 1 ≤ f ∧ f ≤ 3) : c_M X mo (-1) f = X mo f := by unfold c_M; rw [if_pos rfl, if_pos h]
theorem c_M_s {X : x_X} {mo l f : Int} (hl : 0 ≤ l ∧ l < X 1 2) (h : 2 ≤ f ∧ f ≤ 7) : c_M X mo l f = X (mo + 1 + 1 + 2 * l) f := by unfold c_M; rw [if_neg (by omega), if_pos hl, if_pos h]
theorem c_M_b {X : x_X} {mo l f : Int} (hl : 0 ≤ l ∧ l < X 1 2) (h : 10 ≤ f ∧ f ≤ 12) : c_M X mo l f = X (mo + 1 + 1 + 2 * l + 1) (f - 10) := by unfold c_M; rw [if_neg (by omega), if_pos hl, if_neg (by omega), if_pos h]
theorem c_M_ug {X : x_X} {mo f z : Int} (hmo : 3 ≤ mo) (h : 1 ≤ f ∧ f ≤ 3) : c_M (x_up X mo f z) mo = x_up (c_M X mo) (-1) f z := by
  funext l g
  simp only [c_M, x_up]
  grind
theorem c_M_us {X : x_X} {mo l f z : Int} (hmo : 3 ≤ mo) (hl : 0 ≤ l ∧ l < X 1 2) (h : 2 ≤ f ∧ f ≤ 7) : c_M (x_up X (mo + 1 + 1 + 2 * l) f z) mo = x_up (c_M X mo) l f z := by
  funext l' g
  simp only [c_M, x_up]
  grind
theorem c_M_u1 {X : x_X} {mo l z : Int} (hmo : 3 ≤ mo) (hl : 0 ≤ l) : c_M (x_up X (mo + 1 + 1 + 2 * l) 1 z) mo = c_M X mo := by
  funext l' g
  simp only [c_M, x_up]
  grind
theorem c_M_ub {X : x_X} {mo l t z : Int} (hmo : 3 ≤ mo) (hl : 0 ≤ l ∧ l < X 1 2) (h : 0 ≤ t ∧ t ≤ 2) : c_M (x_up X (mo + 1 + 1 + 2 * l + 1) t z) mo = x_up (c_M X mo) l (10 + t) z := by
  funext l' g
  simp only [c_M, x_up]
  grind
/-- a standing beyond the lifters -/
theorem c_M_uo {X : x_X} {mo l f z : Int} (hmo : 3 ≤ mo) (hl : X 1 2 ≤ l) (h0 : 0 ≤ X 1 2) : c_M (x_up X (mo + 1 + 1 + 2 * l) f z) mo = c_M X mo ∧ c_M (x_up X (mo + 1 + 1 + 2 * l + 1) f z) mo = c_M X mo := by
  constructor <;> (funext l' g; simp only [c_M, x_up]; grind)
/-! its moves -/
def m_chg (lift r : Int) : Int := if lift = 3 then 0 else if r = 0 then 1 else if r = 2 ∧ lift = 2 then 2 else 0
/-- a round begins, for the first k -/
def m_rk (M : x_X) (r k : Int) : x_X := fun l f => if l = -1 then (if f = 2 then r else if f = 3 then 0 else M l f) else if 0 ≤ l ∧ l < k then (if f = 6 then 0 else if f = 5 then m_chg (M (-1) 1) r else M l f) else M l f
/-- a lift begins, for the first k: pl l t: what l opens lift t with -/
def m_lk (M : x_X) (op : Int → Int → Int) (k : Int) : x_X := fun l f => if 0 ≤ l ∧ l < k then (if f = 2 then 0 else if f = 3 then (if M l 7 ≠ 0 ∨ M (-1) 1 = 3 then 0 else op l (M (-1) 1)) else if f = 4 then 1 else M l f) else M l f
def m_lift (n : Int) (op : Int → Int → Int) (M : x_X) : x_X := m_rk (m_lk M op n) 0 n
/-- the meet begins: lift 0; nobody out, no best -/
def m_ck (M : x_X) (k : Int) : x_X := fun l f => if l = -1 then (if f = 1 then 0 else M l f) else if 0 ≤ l ∧ l < k then (if f = 7 then 0 else if 10 ≤ f ∧ f ≤ 12 then 0 else M l f) else M l f
def m_beg (n : Int) (op : Int → Int → Int) (M : x_X) : x_X := m_lift n op (m_ck M n)
/-- whom the bar calls among the first k -/
def m_cb (lot : Int → Int) (M : x_X) : Nat → Int
  | 0 => -1
  | k + 1 => if (M k 3 > 0 ∧ M k 6 = 0) ∧ (m_cb lot M k = -1 ∨ M k 3 < M (m_cb lot M k) 3 ∨ (M k 3 = M (m_cb lot M k) 3 ∧ lot k < lot (m_cb lot M k))) then k else m_cb lot M k
def m_cal (n : Int) (lot : Int → Int) (M : x_X) : Int := m_cb lot M n.toNat
/-- a lift ends: who has no best is out -/
def m_ek (M : x_X) (k : Int) : x_X := fun l f => if 0 ≤ l ∧ l < k ∧ f = 7 ∧ M l (10 + M (-1) 1) = 0 then 1 else M l f
def m_next (n : Int) (op : Int → Int → Int) (M : x_X) : x_X := if M (-1) 2 + 1 < 3 then m_rk M (M (-1) 2 + 1) n else m_lift n op (x_up (m_ek M n) (-1) 1 (M (-1) 1 + 1))
def m_go (n : Int) (op : Int → Int → Int) (lot : Int → Int) : Nat → x_X → x_X
  | 0, M => M
  | k + 1, M => if M (-1) 1 ≠ 3 ∧ m_cal n lot M = -1 then m_go n op lot k (m_next n op M) else M
theorem m_cb_r (lot : Int → Int) (M : x_X) : ∀ k : Nat, -1 ≤ m_cb lot M k ∧ m_cb lot M k < k
  | 0 => by simp [m_cb]
  | k + 1 => by
    have h := m_cb_r lot M k
    unfold m_cb
    split <;> omega
theorem m_cb_ok (lot : Int → Int) (M : x_X) : ∀ k : Nat, m_cb lot M k ≠ -1 → M (m_cb lot M k) 3 > 0 ∧ M (m_cb lot M k) 6 = 0
  | 0 => by simp [m_cb]
  | k + 1 => by
    have h := m_cb_ok lot M k
    unfold m_cb
    split
    · rename_i q; intro _; exact q.1
    · exact h
theorem m_cb_none (lot : Int → Int) (M : x_X) : ∀ k : Nat, m_cb lot M k = -1 → ∀ l : Int, 0 ≤ l → l < k → ¬ (M l 3 > 0 ∧ M l 6 = 0)
  | 0 => fun _ l h1 h2 => by omega
  | k + 1 => by
    have h := m_cb_none lot M k
    intro hk l h1 h2
    unfold m_cb at hk
    by_cases hq : (M k 3 > 0 ∧ M k 6 = 0) ∧ (m_cb lot M k = -1 ∨ M k 3 < M (m_cb lot M k) 3 ∨ (M k 3 = M (m_cb lot M k) 3 ∧ lot k < lot (m_cb lot M k)))
    · rw [if_pos hq] at hk; omega
    · rw [if_neg hq] at hk
      by_cases e : l = k
      · subst e
        intro q
        exact hq ⟨q, Or.inl hk⟩
      · exact h hk l h1 (by omega)
theorem m_cb_s (lot : Int → Int) (M : x_X) {k : Int} (hk : 0 ≤ k) : m_cb lot M (k + 1).toNat = if (M k 3 > 0 ∧ M k 6 = 0) ∧ (m_cb lot M k.toNat = -1 ∨ M k 3 < M (m_cb lot M k.toNat) 3 ∨ (M k 3 = M (m_cb lot M k.toNat) 3 ∧ lot k < lot (m_cb lot M k.toNat))) then k else m_cb lot M k.toNat := by
  rw [show (k + 1).toNat = k.toNat + 1 by omega]
  conv => lhs; unfold m_cb
  rw [show ((k.toNat : Nat) : Int) = k by omega]
theorem m_cb_c {lot lot2 : Int → Int} {M : x_X} : ∀ (k : Nat), (∀ l : Int, 0 ≤ l → l < k → lot l = lot2 l) → m_cb lot M k = m_cb lot2 M k
  | 0, _ => rfl
  | k + 1, h => by
    have ih := m_cb_c (M := M) k (fun l h1 h2 => h l h1 (by omega))
    have hr := m_cb_r lot2 M k
    unfold m_cb
    rw [ih]
    by_cases e : m_cb lot2 M k = -1
    · simp [e]
    · rw [h k (by omega) (by omega), h (m_cb lot2 M k) (by omega) (by omega)]
theorem m_go_stop {n : Int} {op : Int → Int → Int} {lot : Int → Int} (k : Nat) {M : x_X} (h : ¬ (M (-1) 1 ≠ 3 ∧ m_cal n lot M = -1)) : m_go n op lot k M = M := by
  cases k with
  | zero => rfl
  | succ k => unfold m_go; rw [if_neg h]
def m_cj (M : x_X) (k j : Int) : x_X := fun l f => if l = k ∧ (f = 7 ∨ (10 ≤ f ∧ f < 10 + j)) then 0 else M l f
