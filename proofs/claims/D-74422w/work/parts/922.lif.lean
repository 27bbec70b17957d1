theorem k_lif_0 (κ : x_Ka) (a : Int) : k_lif κ a a = some (.inl (8, 1)) := by unfold k_lif; exact x_ku_s _ _ _
theorem k_lif_1 (κ : x_Ka) (a : Int) : k_lif κ a (a + 1) = some (.inr (11, 3)) := by unfold k_lif; rw [x_ku_ne (by omega)]; exact x_ku_s _ _ _
theorem k_lif_w (κ : x_Ka) (a : Int) : k_lif κ a (a + 11) = some (.inr (0, 3)) ∧ k_lif κ a (a + 12) = some (.inr (0, 3)) ∧ k_lif κ a (a + 13) = some (.inr (0, 3)) := by
  unfold k_lif
  refine ⟨?_, ?_, ?_⟩
  · repeat (first | rw [x_ku_s] | rw [x_ku_ne (by omega)])
  · repeat (first | rw [x_ku_s] | rw [x_ku_ne (by omega)])
  · repeat (first | rw [x_ku_s] | rw [x_ku_ne (by omega)])
theorem k_lif_t (κ : x_Ka) (a : Int) : k_lif κ a (a + 2) = some (.inl (9, 1)) ∧ k_lif κ a (a + 5) = some (.inl (9, 1)) ∧ k_lif κ a (a + 8) = some (.inl (9, 1)) := by
  unfold k_lif k_tab
  refine ⟨?_, ?_, ?_⟩
  · repeat (first | rw [x_ku_s] | rw [x_ku_ne (by omega)])
  · repeat (first | rw [x_ku_s] | rw [x_ku_ne (by omega)])
  · repeat (first | rw [x_ku_s] | rw [x_ku_ne (by omega)])
theorem k_lif_u (κ : x_Ka) (a : Int) : (k_lif κ a (a + 3) = some (.inr (0, 6)) ∧ k_lif κ a (a + 4) = some (.inr (0, 6))) ∧ (k_lif κ a (a + 6) = some (.inr (0, 6)) ∧ k_lif κ a (a + 7) = some (.inr (0, 6))) ∧ (k_lif κ a (a + 9) = some (.inr (0, 6)) ∧ k_lif κ a (a + 10) = some (.inr (0, 6))) := by
  unfold k_lif k_tab
  refine ⟨⟨?_, ?_⟩, ⟨?_, ?_⟩, ⟨?_, ?_⟩⟩
  · repeat (first | rw [show a + 3 = a + 2 + 1 by omega, x_ku_s] | rw [x_ku_s] | rw [x_ku_ne (by omega)])
  · repeat (first | rw [show a + 4 = a + 2 + 2 by omega, x_ku_s] | rw [x_ku_s] | rw [x_ku_ne (by omega)])
  · repeat (first | rw [show a + 6 = a + 5 + 1 by omega, x_ku_s] | rw [x_ku_s] | rw [x_ku_ne (by omega)])
  · repeat (first | rw [show a + 7 = a + 5 + 2 by omega, x_ku_s] | rw [x_ku_s] | rw [x_ku_ne (by omega)])
  · repeat (first | rw [show a + 9 = a + 8 + 1 by omega, x_ku_s] | rw [x_ku_s] | rw [x_ku_ne (by omega)])
  · repeat (first | rw [show a + 10 = a + 8 + 2 by omega, x_ku_s] | rw [x_ku_s] | rw [x_ku_ne (by omega)])
theorem k_lif_o (κ : x_Ka) {a b : Int} (h : b < a ∨ a + 13 < b) : k_lif κ a b = κ b := by
  unfold k_lif k_tab
  repeat (rw [x_ku_ne (by omega)])
theorem k_lif_T {κ : x_Ka} {a : Int} (hT : x_T κ) (hlow : ∀ b k, κ b = some k → b < a) (kd : x_k) : x_T (k_lif (x_ku κ a kd) a) := by
  obtain ⟨K, hK⟩ : ∃ K, K = k_lif (x_ku κ a kd) a := ⟨_, rfl⟩
  have ho : ∀ b, (b < a ∨ a + 13 < b) → K b = κ b := fun b hb => by rw [hK, k_lif_o _ hb, x_ku_ne (by omega)]
  have h0 : K a = some (.inl (8, 1)) := by rw [hK]; exact k_lif_0 _ _
  have h1 : K (a + 1) = some (.inr (11, 3)) := by rw [hK]; exact k_lif_1 _ _
  have hw : K (a + 11) = some (.inr (0, 3)) ∧ K (a + 12) = some (.inr (0, 3)) ∧ K (a + 13) = some (.inr (0, 3)) := by rw [hK]; exact k_lif_w _ _
  have ht : K (a + 2) = some (.inl (9, 1)) ∧ K (a + 5) = some (.inl (9, 1)) ∧ K (a + 8) = some (.inl (9, 1)) := by rw [hK]; exact k_lif_t _ _
  have hu : (K (a + 3) = some (.inr (0, 6)) ∧ K (a + 4) = some (.inr (0, 6))) ∧ (K (a + 6) = some (.inr (0, 6)) ∧ K (a + 7) = some (.inr (0, 6))) ∧ (K (a + 9) = some (.inr (0, 6)) ∧ K (a + 10) = some (.inr (0, 6))) := by rw [hK]; exact k_lif_u _ _
  rw [← hK]
  clear hK
  have n9 : ∀ (c : Int), K (c + 1) = some (.inr (0, 6)) → K (c + 2) = some (.inr (0, 6)) → ∀ (j : Nat) (q : Nat × Int × x_k), x_fx 9 j = some q → K (x_z q c) = some q.2.2 := by
    intro c c1 c2 j q hq
    match j, hq with
    | 0, hq => cases hq; exact c1
    | 1, hq => cases hq; exact c2
    | 2, hq => cases hq
    | j + 3, hq => cases (show x_fx 9 (j + 3) = none from rfl).symm.trans hq
  constructor
  · intro b ci hb j q hq
    by_cases hr : a ≤ b ∧ b ≤ a + 13
    · rcases (show b = a ∨ b = a + 1 ∨ b = a + 2 ∨ b = a + 3 ∨ b = a + 4 ∨ b = a + 5 ∨ b = a + 6 ∨ b = a + 7 ∨ b = a + 8 ∨ b = a + 9 ∨ b = a + 10 ∨ b = a + 11 ∨ b = a + 12 ∨ b = a + 13 by omega) with e | e | e | e | e | e | e | e | e | e | e | e | e | e <;> rw [e] at hb ⊢
      · cases h0.symm.trans hb
        match j, hq with
        | 0, hq => cases hq
        | 1, hq => cases hq
        | 2, hq => cases hq; exact h1
        | 3, hq => cases hq; exact hw.1
        | 4, hq => cases hq; exact hw.2.1
        | 5, hq => cases hq; exact hw.2.2
        | j + 6, hq => cases (show x_fx 8 (j + 6) = none from rfl).symm.trans hq
      · cases h1.symm.trans hb
      · cases ht.1.symm.trans hb; exact n9 (a + 2) (by rw [show a + 2 + 1 = a + 3 by omega]; exact hu.1.1) (by rw [show a + 2 + 2 = a + 4 by omega]; exact hu.1.2) j q hq
      · cases hu.1.1.symm.trans hb
      · cases hu.1.2.symm.trans hb
      · cases ht.2.1.symm.trans hb; exact n9 (a + 5) (by rw [show a + 5 + 1 = a + 6 by omega]; exact hu.2.1.1) (by rw [show a + 5 + 2 = a + 7 by omega]; exact hu.2.1.2) j q hq
      · cases hu.2.1.1.symm.trans hb
      · cases hu.2.1.2.symm.trans hb
      · cases ht.2.2.symm.trans hb; exact n9 (a + 8) (by rw [show a + 8 + 1 = a + 9 by omega]; exact hu.2.2.1) (by rw [show a + 8 + 2 = a + 10 by omega]; exact hu.2.2.2) j q hq
      · cases hu.2.2.1.symm.trans hb
      · cases hu.2.2.2.symm.trans hb
      · cases hw.1.symm.trans hb
      · cases hw.2.1.symm.trans hb
      · cases hw.2.2.symm.trans hb
    · rw [ho b (by omega)] at hb
      have h2 := hT.1 b ci hb j q hq
      rw [ho _ (Or.inl (hlow _ _ h2))]
      exact h2
  · intro b t n hb q hq j j1 j2
    by_cases hr : a ≤ b ∧ b ≤ a + 13
    · rcases (show b = a ∨ b = a + 1 ∨ b = a + 2 ∨ b = a + 3 ∨ b = a + 4 ∨ b = a + 5 ∨ b = a + 6 ∨ b = a + 7 ∨ b = a + 8 ∨ b = a + 9 ∨ b = a + 10 ∨ b = a + 11 ∨ b = a + 12 ∨ b = a + 13 by omega) with e | e | e | e | e | e | e | e | e | e | e | e | e | e <;> rw [e] at hb ⊢
      · cases h0.symm.trans hb
      · cases h1.symm.trans hb
        cases hq
        rcases (show j = 0 ∨ j = 1 ∨ j = 2 by omega) with e | e | e <;> rw [e]
        · rw [show a + 1 + 1 + 3 * 0 = a + 2 by omega]; exact ht.1
        · rw [show a + 1 + 1 + 3 * 1 = a + 5 by omega]; exact ht.2.1
        · rw [show a + 1 + 1 + 3 * 2 = a + 8 by omega]; exact ht.2.2
      · cases ht.1.symm.trans hb
      · cases hu.1.1.symm.trans hb; cases hq
      · cases hu.1.2.symm.trans hb; cases hq
      · cases ht.2.1.symm.trans hb
      · cases hu.2.1.1.symm.trans hb; cases hq
      · cases hu.2.1.2.symm.trans hb; cases hq
      · cases ht.2.2.symm.trans hb
      · cases hu.2.2.1.symm.trans hb; cases hq
      · cases hu.2.2.2.symm.trans hb; cases hq
      · cases hw.1.symm.trans hb; cases hq
      · cases hw.2.1.symm.trans hb; cases hq
      · cases hw.2.2.symm.trans hb; cases hq
    · rw [ho b (by omega)] at hb
      have h2 := hT.2 b t n hb q hq j j1 j2
      rw [ho _ (Or.inl (hlow _ _ h2))]
      exact h2
/-! what reading a lifter at a moves, and what lies there then -/
def l_f (X Y : x_X) (r a : Int) : Prop := (∀ b, 0 ≤ b → b < a → b ≠ r → Y b = X b) ∧ (∀ k, k ≠ 1 → Y r k = X r k) ∧ Y (-1) 0 = a + 14
theorem l_f.at {X Y : x_X} {r a z : Int} (h : l_f X Y r a) (hr : 0 ≤ r) : l_f X (x_up Y r 1 z) r a := ⟨fun b b1 b2 b3 => (x_up_o _ b3).trans (h.1 b b1 b2 b3), fun k k1 => (x_up_n _ (Or.inr k1)).trans (h.2.1 k k1), (congrFun (x_up_o _ (by omega)) 0).trans h.2.2⟩
theorem l_f.hi {X Y : x_X} {r a c i z : Int} (h : l_f X Y r a) (hc : a ≤ c) (hra : r < a) (ha : 0 ≤ a) : l_f X (x_up Y c i z) r a := ⟨fun b b1 b2 b3 => (x_up_o _ (by omega)).trans (h.1 b b1 b2 b3), fun k k1 => (congrFun (x_up_o _ (by omega)) k).trans (h.2.1 k k1), (congrFun (x_up_o _ (by omega)) 0).trans h.2.2⟩
theorem l_f.pq {X S Y : x_X} {r a c : Int} (h : l_f X S r a) (hq : p_q S Y r c) (hc : a ≤ c) (hr : 0 ≤ r) (ha : 0 ≤ a) : l_f X Y r a := ⟨fun b b1 b2 b3 => (hq.1 b b3 (by omega) (by omega) (by omega)).trans (h.1 b b1 b2 b3), fun k k1 => (hq.2.1 k k1).trans (h.2.1 k k1), (congrFun (hq.1 (-1) (by omega) (by omega) (by omega) (by omega)) 0).trans h.2.2⟩
theorem rd.l {κ κ2 : x_Ka} {X Y : x_X} {r a n q p : Int} (h : rd κ X r n q) (hk2 : x_T κ2 ∧ κ2 0 = some (.inl (0, 1)) ∧ κ2 r = some (.inl (10, 1))) (hf : l_f X Y r a) (e : Y r 1 = p) (hp : 0 ≤ p ∧ p ≤ n) : rd κ2 Y r n p := ⟨hk2, (hf.2.1 0 (by omega)).trans h.2.1, e, hp, h.2.2.2.2⟩
theorem l_f.T {X Y : x_X} {r a : Int} (hf : l_f X Y r a) (h1 : r ≠ 31) (h2 : 88 ≤ a) : c_T Y = c_T X := by funext p; unfold c_T; rw [hf.1 31 (by omega) (by omega) (Ne.symm h1)]
/-- lift u of the store F lies at a -/
def f10 (Y : x_X) (a : Int) (F : x_X) (u : Int) : Prop := Y (a + 2 + 3 * u) 2 = F (10 + u) 0 ∧ (1 ≤ F (10 + u) 0 ∧ F (10 + u) 0 ≤ 6) ∧ (∀ i, 0 ≤ i → i < F (10 + u) 0 → Y (a + 2 + 3 * u + 1) i = F (20 + u) i ∧ Y (a + 2 + 3 * u + 2) i = F (30 + u) i) ∧ Y (a + 11) u = F (40 + u) 0 ∧ Y (a + 12) u = F (40 + u) 1 ∧ Y (a + 13) u = F (40 + u) 2
theorem f10.cg {S Y F : x_X} {a u : Int} (h : f10 S a F u) (e0 : Y (a + 2 + 3 * u) = S (a + 2 + 3 * u)) (e1 : Y (a + 2 + 3 * u + 1) = S (a + 2 + 3 * u + 1)) (e2 : Y (a + 2 + 3 * u + 2) = S (a + 2 + 3 * u + 2)) (e3 : Y (a + 11) u = S (a + 11) u) (e4 : Y (a + 12) u = S (a + 12) u) (e5 : Y (a + 13) u = S (a + 13) u) : f10 Y a F u := by
  unfold f10
  rw [e0, e1, e2, e3, e4, e5]
  exact h
def l_j (X S : x_X) (r a : Int) (F : x_X) (t : Int) : Prop := l_f X S r a ∧ (S a 0 = F 0 0 ∧ S a 1 = F 0 1) ∧ (∀ u, 0 ≤ u → u < t → f10 S a F u) ∧ (∀ u, 0 ≤ u → t < u → u ≤ 2 → S (a + 2 + 3 * u) 2 = 0)
theorem l_j.at {X S F : x_X} {r a t z : Int} (h : l_j X S r a F t) (hr : 0 ≤ r) (hra : r < a) : l_j X (x_up S r 1 z) r a F t := ⟨h.1.at hr, by rw [x_up_o _ (by omega)]; exact h.2.1, fun u u1 u2 => (h.2.2.1 u u1 u2).cg (x_up_o _ (by omega)) (x_up_o _ (by omega)) (x_up_o _ (by omega)) (congrFun (x_up_o _ (by omega)) u) (congrFun (x_up_o _ (by omega)) u) (congrFun (x_up_o _ (by omega)) u), fun u u0 u1 u2 => (congrFun (x_up_o _ (by omega)) 2).trans (h.2.2.2 u u0 u1 u2)⟩
theorem l_j.pl {X S F : x_X} {r a t w z : Int} (h : l_j X S r a F t) (hra : r < a) (ha : 0 ≤ a) (hw : 11 ≤ w ∧ w ≤ 13) (ht : 0 ≤ t ∧ t ≤ 2) : l_j X (x_up S (a + w) t z) r a F t := ⟨h.1.hi (by omega) hra ha, by rw [x_up_o _ (by omega)]; exact h.2.1, fun u u1 u2 => (h.2.2.1 u u1 u2).cg (x_up_o _ (by omega)) (x_up_o _ (by omega)) (x_up_o _ (by omega)) (x_up_n _ (Or.inr (by omega))) (x_up_n _ (Or.inr (by omega))) (x_up_n _ (Or.inr (by omega))), fun u u0 u1 u2 => (congrFun (x_up_o _ (by omega)) 2).trans (h.2.2.2 u u0 u1 u2)⟩
theorem l_j.pt {X S Y F : x_X} {r a t c : Int} (h : l_j X S r a F t) (hq : p_q S Y r c) (hc : c = a + 2 + 3 * t) (hr : 0 ≤ r) (hra : r < a) (ha : 0 ≤ a) (ht : 0 ≤ t ∧ t ≤ 2) : l_j X Y r a F t := by
  have o : ∀ b, a ≤ b → b ≠ c → b ≠ c + 1 → b ≠ c + 2 → Y b = S b := fun b b1 b2 b3 b4 => hq.1 b (by omega) b2 b3 b4
  exact ⟨h.1.pq hq (by omega) hr ha, by rw [o a (by omega) (by omega) (by omega) (by omega)]; exact h.2.1, fun u u1 u2 => (h.2.2.1 u u1 u2).cg (o _ (by omega) (by omega) (by omega) (by omega)) (o _ (by omega) (by omega) (by omega) (by omega)) (o _ (by omega) (by omega) (by omega) (by omega)) (congrFun (o _ (by omega) (by omega) (by omega) (by omega)) u) (congrFun (o _ (by omega) (by omega) (by omega) (by omega)) u) (congrFun (o _ (by omega) (by omega) (by omega) (by omega)) u), fun u u0 u1 u2 => (congrFun (o _ (by omega) (by omega) (by omega) (by omega)) 2).trans (h.2.2.2 u u0 u1 u2)⟩
/-- a table's contents at c -/
def tbc (S : x_X) (c : Int) (TB : Int × Int × Int × (Int → Int) × (Int → Int)) : Prop := S c 2 = TB.2.2.1 ∧ (1 ≤ TB.2.2.1 ∧ TB.2.2.1 ≤ 6) ∧ ∀ i, 0 ≤ i → i < TB.2.2.1 → S (c + 1) i = TB.2.2.2.1 i ∧ S (c + 2) i = TB.2.2.2.2 i
theorem tbc.up {S : x_X} {c b i z : Int} {TB : Int × Int × Int × (Int → Int) × (Int → Int)} (h : tbc S c TB) (hb : b < c ∨ c + 2 < b) : tbc (x_up S b i z) c TB := by
  unfold tbc
  rw [x_up_o _ (by omega), x_up_o _ (by omega), x_up_o _ (by omega)]
  exact h
theorem l_j.nx {X S F : x_X} {r a t : Int} {TB : Int × Int × Int × (Int → Int) × (Int → Int)} {W : Int → Int} (h : l_j X S r a F t) (ht : 0 ≤ t ∧ t ≤ 2) (hb : tbc S (a + 2 + 3 * t) TB) (h1 : S (a + 11) t = W 0) (h2 : S (a + 12) t = W 1) (h3 : S (a + 13) t = W 2) : l_j X S r a (r_put F t TB.2.2.1 TB.2.2.2.1 TB.2.2.2.2 W) (t + 1) := by
  refine ⟨h.1, by rw [r_put_0 ht]; exact h.2.1, fun u u1 u2 => ?_, fun u u0 u1 u2 => h.2.2.2 u u0 (by omega) u2⟩
  by_cases e : u = t
  · subst e
    have ps := r_put_s (F := F) (t := u) (m := TB.2.2.1) (L := TB.2.2.2.1) (D := TB.2.2.2.2) (W := W) ht
    unfold f10
    rw [ps.1, ps.2.1, ps.2.2.1, ps.2.2.2]
    exact ⟨hb.1, hb.2.1, hb.2.2, h1, h2, h3⟩
  · have hf := h.2.2.1 u u1 (by omega)
    unfold f10 at hf ⊢
    rw [r_put_o ht ⟨u1, by omega⟩ e (Or.inl rfl), r_put_o ht ⟨u1, by omega⟩ e (Or.inr (Or.inl rfl)), r_put_o ht ⟨u1, by omega⟩ e (Or.inr (Or.inr (Or.inl rfl))), r_put_o ht ⟨u1, by omega⟩ e (Or.inr (Or.inr (Or.inr rfl)))]
    exact hf
