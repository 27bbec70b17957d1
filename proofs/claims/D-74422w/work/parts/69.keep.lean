/-! ===== the meet's invariant is kept by its moves ===== -/
theorem m_tr_v {M : x_X} {l g w : Int} (hl : 0 ≤ l) : (m_tr M l g w (-1) 1 = M (-1) 1 ∧ m_tr M l g w (-1) 2 = M (-1) 2 ∧ m_tr M l g w (-1) 3 = max (M (-1) 3) (M l 3)) ∧ (m_tr M l g w l 3 = (if M (-1) 2 = 2 then 0 else if M l 3 + w > 40 then 0 else M l 3 + w) ∧ (0 ≤ M (-1) 1 → m_tr M l g w l 4 = M l 3 + g) ∧ (0 ≤ M (-1) 1 → m_tr M l g w l 2 = M l 2 + (1 - g)) ∧ m_tr M l g w l 6 = 1 ∧ (0 ≤ M (-1) 1 → m_tr M l g w l 5 = M l 5) ∧ (0 ≤ M (-1) 1 → m_tr M l g w l 7 = M l 7)) := by
  refine ⟨⟨?_, ?_, ?_⟩, ?_, ?_, ?_, ?_, ?_, ?_⟩
  · unfold m_tr; rw [x_up_n _ (Or.inl (by omega)), x_up_n _ (Or.inl (by omega)), x_up_n _ (Or.inl (by omega)), x_up_n _ (Or.inl (by omega)), x_up_n _ (Or.inl (by omega)), x_up_n _ (Or.inr (by omega))]
  · unfold m_tr; rw [x_up_n _ (Or.inl (by omega)), x_up_n _ (Or.inl (by omega)), x_up_n _ (Or.inl (by omega)), x_up_n _ (Or.inl (by omega)), x_up_n _ (Or.inl (by omega)), x_up_n _ (Or.inr (by omega))]
  · unfold m_tr; rw [x_up_n _ (Or.inl (by omega)), x_up_n _ (Or.inl (by omega)), x_up_n _ (Or.inl (by omega)), x_up_n _ (Or.inl (by omega)), x_up_n _ (Or.inl (by omega)), x_up_s]
  · unfold m_tr; rw [x_up_s]
  · intro _; unfold m_tr; rw [x_up_n _ (Or.inr (by omega)), x_up_n _ (Or.inr (by omega)), x_up_n _ (Or.inr (by omega)), x_up_s]
  · intro _; unfold m_tr; rw [x_up_n _ (Or.inr (by omega)), x_up_n _ (Or.inr (by omega)), x_up_s]
  · unfold m_tr; rw [x_up_n _ (Or.inr (by omega)), x_up_s]
  · intro _; unfold m_tr; rw [x_up_n _ (Or.inr (by omega)), x_up_n _ (Or.inr (by omega)), x_up_n _ (Or.inr (by omega)), x_up_n _ (Or.inr (by omega)), x_up_n _ (Or.inr (by omega)), x_up_n _ (Or.inl (by omega))]
  · intro _; unfold m_tr; rw [x_up_n _ (Or.inr (by omega)), x_up_n _ (Or.inr (by omega)), x_up_n _ (Or.inr (by omega)), x_up_n _ (Or.inr (by omega)), x_up_n _ (Or.inr (by omega)), x_up_n _ (Or.inl (by omega))]
theorem m_tr_b {M : x_X} {l g w k : Int} (hl : 0 ≤ l) (hk : 10 ≤ k) : m_tr M l g w l k = if k = 10 + M (-1) 1 then (if g = 1 then M l 3 else M l k) else M l k := by
  unfold m_tr
  rw [x_up_n _ (Or.inr (by omega)), x_up_n _ (Or.inr (by omega)), x_up_n _ (Or.inr (by omega)), x_up_n _ (Or.inr (by omega))]
  by_cases e : k = 10 + M (-1) 1
  · rw [if_pos e, e, x_up_s]
  · rw [if_neg e, x_up_n _ (Or.inr e), x_up_n _ (Or.inl (by omega))]
theorem m_tr_o {M : x_X} {l g w a f : Int} (h1 : a ≠ -1) (h2 : a ≠ l) : m_tr M l g w a f = M a f := by
  unfold m_tr
  rw [x_up_n _ (Or.inl h2), x_up_n _ (Or.inl h2), x_up_n _ (Or.inl h2), x_up_n _ (Or.inl h2), x_up_n _ (Or.inl h2), x_up_n _ (Or.inl h1)]
theorem m_lift_g {n : Int} {op : Int → Int → Int} {N : x_X} : m_lift n op N (-1) 1 = N (-1) 1 ∧ m_lift n op N (-1) 2 = 0 ∧ m_lift n op N (-1) 3 = 0 := by
  refine ⟨?_, ?_, ?_⟩ <;> simp [m_lift, m_rk, m_lk]
theorem m_lift_l {n : Int} {op : Int → Int → Int} {N : x_X} {l : Int} (h1 : 0 ≤ l) (h2 : l < n) : (m_lift n op N l 2 = 0 ∧ m_lift n op N l 3 = (if N l 7 ≠ 0 ∨ N (-1) 1 = 3 then 0 else op l (N (-1) 1)) ∧ m_lift n op N l 4 = 1 ∧ m_lift n op N l 5 = m_chg (N (-1) 1) 0 ∧ m_lift n op N l 6 = 0) ∧ m_lift n op N l 7 = N l 7 ∧ ∀ k, 10 ≤ k → m_lift n op N l k = N l k := by
  have e : ¬ l = -1 := by omega
  have e1 : ¬ ((0 : Int) ≤ -1 ∧ (-1 : Int) < n) := by omega
  refine ⟨⟨?_, ?_, ?_, ?_, ?_⟩, ?_, ?_⟩
  · simp [m_lift, m_rk, m_lk, e, h1, h2]
  · simp [m_lift, m_rk, m_lk, e, h1, h2]
  · simp [m_lift, m_rk, m_lk, e, h1, h2]
  · simp [m_lift, m_rk, m_lk, e, h1, h2]
  · simp [m_lift, m_rk, m_lk, e, h1, h2]
  · simp [m_lift, m_rk, m_lk, e, h1, h2]
  · intro k hk
    unfold m_lift m_rk m_lk
    rw [if_neg e, if_pos ⟨h1, h2⟩, if_neg (by omega), if_neg (by omega), if_pos ⟨h1, h2⟩, if_neg (by omega), if_neg (by omega), if_neg (by omega)]
theorem m_chg_r (t r : Int) : 0 ≤ m_chg t r ∧ m_chg t r ≤ 2 := by unfold m_chg; repeat' split <;> omega
/-- what is asked of the plans -/
def m_P (n : Int) (op : Int → Int → Int) : Prop := ∀ l, 0 ≤ l → l < n → ∀ t, 0 ≤ t → t < 3 → 1 ≤ op l t ∧ op l t ≤ 40
theorem m_W_tr {n : Int} {M : x_X} {l g w : Int} (h : m_W n M) (hl : 0 ≤ l ∧ l < n) (hg : 0 ≤ g ∧ g ≤ 1) (hc : M l 3 > 0 ∧ M l 6 = 0) (hw : 0 ≤ w ∧ w ≤ 9) (hw1 : g = 1 → 1 ≤ w) : m_W n (m_tr M l g w) := by
  obtain ⟨hG, hR, hS⟩ := h
  have hr := hR l hl.1 hl.2
  have hs := hS l hl.1 hl.2
  have hlt : M (-1) 1 < 3 := by rcases Int.lt_or_le (M (-1) 1) 3 with q | q; exact q; exfalso; have := hs.2.1 (by omega); omega
  have v := m_tr_v (M := M) (l := l) (g := g) (w := w) hl.1
  have vb : ∀ k, 10 ≤ k → m_tr M l g w l k = if k = 10 + M (-1) 1 then (if g = 1 then M l 3 else M l k) else M l k := fun k hk => m_tr_b hl.1 hk
  have vo : ∀ a f, a ≠ -1 → a ≠ l → m_tr M l g w a f = M a f := fun a f h1 h2 => m_tr_o h1 h2
  obtain ⟨⟨v1, v2, v3⟩, w3, w4, w2, w6, w5, w7⟩ := v
  have w4 := w4 hG.1.1
  have w2 := w2 hG.1.1
  have w5 := w5 hG.1.1
  have w7 := w7 hG.1.1
  have b0 := vb 10 (by omega)
  have b1 := vb 11 (by omega)
  have b2 := vb 12 (by omega)
  have bl := vb (10 + M (-1) 1) (by omega)
  rw [if_pos rfl] at bl
  have hq := hs.2.2.2.2 hc.1
  have hbr : 0 ≤ M l (10 + M (-1) 1) ∧ M l (10 + M (-1) 1) ≤ 40 := by
    rcases (show M (-1) 1 = 0 ∨ M (-1) 1 = 1 ∨ M (-1) 1 = 2 by omega) with e | e | e <;> rw [e] <;> simp <;> omega
  refine ⟨by rw [v1, v2, v3]; refine ⟨hG.1, hG.2.1, ?_⟩; omega, fun a h1 h2 => ?_, fun a h1 h2 => ?_⟩
  · by_cases e : a = l
    · subst e
      rw [w2, w3, w4, w5, w6, w7, b0, b1, b2]
      refine ⟨by omega, ?_, by omega, by omega, by omega, by omega, ?_, ?_, ?_⟩
      · repeat' split <;> omega
      · repeat' split <;> omega
      · repeat' split <;> omega
      · repeat' split <;> omega
    · rw [vo a 2 (by omega) e, vo a 3 (by omega) e, vo a 4 (by omega) e, vo a 5 (by omega) e, vo a 6 (by omega) e, vo a 7 (by omega) e, vo a 10 (by omega) e, vo a 11 (by omega) e, vo a 12 (by omega) e]
      exact hR a h1 h2
  · by_cases e : a = l
    · subst e
      rw [v1, v2, w2, w3, w4, w6, w7, b1, b2, bl]
      refine ⟨fun q => ?_, fun q => ?_, fun q => ?_, fun q => ?_, fun q => ?_⟩
      · exfalso; have := hs.1 q; omega
      · omega
      · rw [if_neg (by omega)]; exact hs.2.2.1 q
      · rw [if_neg (by omega)]; exact hs.2.2.2.1 q
      · have hr2 : M (-1) 2 ≠ 2 := by intro q2; rw [if_pos q2] at q; omega
        rw [if_neg hr2] at q ⊢
        have h40 : ¬ M a 3 + w > 40 := by intro q2; rw [if_pos q2] at q; omega
        rw [if_neg h40]
        rcases (show g = 0 ∨ g = 1 by omega) with e | e
        · subst e
          rw [if_neg (by omega)]
          exact ⟨by omega, by omega, by omega, fun q2 => hq.2.2.2 (by omega)⟩
        · subst e
          rw [if_pos rfl]
          have := hw1 rfl
          exact ⟨by omega, by omega, by omega, fun q2 => by omega⟩
    · rw [v1, v2, vo a 2 (by omega) e, vo a 3 (by omega) e, vo a 4 (by omega) e, vo a 6 (by omega) e, vo a 7 (by omega) e, vo a 11 (by omega) e, vo a 12 (by omega) e, vo a (10 + M (-1) 1) (by omega) e]
      exact hS a h1 h2
theorem m_W_rk {n : Int} {M : x_X} (h : m_W n M) (hr : M (-1) 2 + 1 ≤ 2) (hc : ∀ l, 0 ≤ l → l < n → ¬ (M l 3 > 0 ∧ M l 6 = 0)) : m_W n (m_rk M (M (-1) 2 + 1) n) := by
  obtain ⟨hG, hR, hS⟩ := h
  have v1 : m_rk M (M (-1) 2 + 1) n (-1) 1 = M (-1) 1 := by simp [m_rk]
  have v2 : m_rk M (M (-1) 2 + 1) n (-1) 2 = M (-1) 2 + 1 := by simp [m_rk]
  have v3 : m_rk M (M (-1) 2 + 1) n (-1) 3 = 0 := by simp [m_rk]
  have vl : ∀ a, 0 ≤ a → a < n → (∀ f, f ≠ 5 → f ≠ 6 → m_rk M (M (-1) 2 + 1) n a f = M a f) ∧ m_rk M (M (-1) 2 + 1) n a 5 = m_chg (M (-1) 1) (M (-1) 2 + 1) ∧ m_rk M (M (-1) 2 + 1) n a 6 = 0 := fun a h1 h2 => by
    have e : ¬ a = -1 := by omega
    refine ⟨fun f f5 f6 => ?_, ?_, ?_⟩
    · unfold m_rk; rw [if_neg e, if_pos ⟨h1, h2⟩, if_neg f6, if_neg f5]
    · simp [m_rk, e, h1, h2]
    · simp [m_rk, e, h1, h2]
  refine ⟨by rw [v1, v2, v3]; refine ⟨hG.1, by omega, by omega⟩, fun a h1 h2 => ?_, fun a h1 h2 => ?_⟩
  · obtain ⟨q, q5, q6⟩ := vl a h1 h2
    have hr := hR a h1 h2
    have hch := m_chg_r (M (-1) 1) (M (-1) 2 + 1)
    rw [q 2 (by omega) (by omega), q 3 (by omega) (by omega), q 4 (by omega) (by omega), q5, q6, q 7 (by omega) (by omega), q 10 (by omega) (by omega), q 11 (by omega) (by omega), q 12 (by omega) (by omega)]
    exact ⟨hr.1, hr.2.1, hr.2.2.1, hch, by omega, hr.2.2.2.2.2.1, hr.2.2.2.2.2.2⟩
  · obtain ⟨q, q5, q6⟩ := vl a h1 h2
    have hs := hS a h1 h2
    have hr := hR a h1 h2
    have hca := hc a h1 h2
    rw [v1, v2, q6, q 2 (by omega) (by omega), q 3 (by omega) (by omega), q 4 (by omega) (by omega), q 7 (by omega) (by omega), q 11 (by omega) (by omega), q 12 (by omega) (by omega), q (10 + M (-1) 1) (by omega) (by omega)]
    refine ⟨hs.1, hs.2.1, hs.2.2.1, hs.2.2.2.1, fun z => ?_⟩
    have z2 := hs.2.2.2.2 z
    have e6 : M a 6 = 1 := by omega
    rw [e6] at z2
    exact ⟨z2.1, z2.2.1, by omega, fun q => z2.2.2.2 (by omega)⟩
theorem m_ek_g {M : x_X} {n f : Int} : m_ek M n (-1) f = M (-1) f := by unfold m_ek; rw [if_neg (by omega)]
theorem m_ek_l {M : x_X} {n l f : Int} (hf : f ≠ 7) : m_ek M n l f = M l f := by unfold m_ek; rw [if_neg (fun q => hf q.2.2.1)]
theorem m_ek_7 {M : x_X} {n l : Int} (h : 0 ≤ M l 7 ∧ M l 7 ≤ 1) : 0 ≤ m_ek M n l 7 ∧ m_ek M n l 7 ≤ 1 := by unfold m_ek; split <;> omega
/-- a lift begins behind N -/
theorem m_W_lift {n : Int} {op : Int → Int → Int} {N : x_X} (hp : m_P n op) (hL : 0 ≤ N (-1) 1 ∧ N (-1) 1 ≤ 3) (hR : ∀ l, 0 ≤ l → l < n → (0 ≤ N l 7 ∧ N l 7 ≤ 1) ∧ (0 ≤ N l 10 ∧ N l 10 ≤ 40) ∧ (0 ≤ N l 11 ∧ N l 11 ≤ 40) ∧ (0 ≤ N l 12 ∧ N l 12 ≤ 40)) (hS : ∀ l, 0 ≤ l → l < n → (N (-1) 1 < 1 → N l 10 = 0) ∧ (N (-1) 1 < 2 → N l 11 = 0) ∧ (N (-1) 1 < 3 → N l 12 = 0)) : m_W n (m_lift n op N) := by
  obtain ⟨g1, g2, g3⟩ := m_lift_g (n := n) (op := op) (N := N)
  refine ⟨by rw [g1, g2, g3]; omega, fun l h1 h2 => ?_, fun l h1 h2 => ?_⟩
  · obtain ⟨⟨l2, l3, l4, l5, l6⟩, l7, lk⟩ := m_lift_l (op := op) (N := N) h1 h2
    have hr := hR l h1 h2
    have hch := m_chg_r (N (-1) 1) 0
    rw [l2, l3, l4, l5, l6, l7, lk 10 (by omega), lk 11 (by omega), lk 12 (by omega)]
    refine ⟨by omega, ?_, by omega, hch, by omega, hr.1, hr.2⟩
    split
    · omega
    · rename_i q; have := hp l h1 h2 (N (-1) 1) (by omega) (by omega); omega
  · obtain ⟨⟨l2, l3, l4, l5, l6⟩, l7, lk⟩ := m_lift_l (op := op) (N := N) h1 h2
    have hs := hS l h1 h2
    rw [g1, g2, l2, l3, l4, l6, l7, lk 11 (by omega), lk 12 (by omega), lk (10 + N (-1) 1) (by omega)]
    refine ⟨fun q => by rw [if_pos (by omega)], fun q => by rw [if_pos (by omega)], fun q => hs.2.1 (by omega), fun q => hs.2.2 (by omega), fun q => ?_⟩
    have hno : ¬ (N l 7 ≠ 0 ∨ N (-1) 1 = 3) := by intro z; rw [if_pos z] at q; omega
    rw [if_neg hno] at q ⊢
    have hb : N l (10 + N (-1) 1) = 0 := by
      rcases (show N (-1) 1 = 0 ∨ N (-1) 1 = 1 ∨ N (-1) 1 = 2 by omega) with e | e | e <;> rw [e]
      · exact hs.1 (by omega)
      · exact hs.2.1 (by omega)
      · exact hs.2.2 (by omega)
    exact ⟨by omega, by omega, by omega, fun _ => hb⟩
theorem m_W_beg {n : Int} {op : Int → Int → Int} {M : x_X} (hp : m_P n op) : m_W n (m_beg n op M) := by
  unfold m_beg
  have g1 : m_ck M n (-1) 1 = 0 := by simp [m_ck]
  have vl : ∀ l, 0 ≤ l → l < n → m_ck M n l 7 = 0 ∧ m_ck M n l 10 = 0 ∧ m_ck M n l 11 = 0 ∧ m_ck M n l 12 = 0 := fun l h1 h2 => by
    have e : ¬ l = -1 := by omega
    simp [m_ck, e, h1, h2]
  refine m_W_lift hp (by omega) (fun l h1 h2 => ?_) (fun l h1 h2 => ?_)
  · have := vl l h1 h2; omega
  · have := vl l h1 h2; omega
/-- the lift behind this one begins -/
theorem m_W_nl {n : Int} {op : Int → Int → Int} {M : x_X} (hp : m_P n op) (h : m_W n M) (hL : M (-1) 1 ≠ 3) : m_W n (m_lift n op (x_up (m_ek M n) (-1) 1 (M (-1) 1 + 1))) := by
  obtain ⟨hG, hR, hS⟩ := h
  have g1 : x_up (m_ek M n) (-1) 1 (M (-1) 1 + 1) (-1) 1 = M (-1) 1 + 1 := x_up_s _ _ _ _
  have vl : ∀ l f, 0 ≤ l → f ≠ 7 → x_up (m_ek M n) (-1) 1 (M (-1) 1 + 1) l f = M l f := fun l f h1 hf => by rw [x_up_n _ (Or.inl (by omega))]; exact m_ek_l hf
  refine m_W_lift hp (by omega) (fun l h1 h2 => ?_) (fun l h1 h2 => ?_)
  · have hr := hR l h1 h2
    rw [vl l 10 h1 (by omega), vl l 11 h1 (by omega), vl l 12 h1 (by omega), x_up_n _ (Or.inl (by omega))]
    exact ⟨m_ek_7 (by omega), by omega, by omega, by omega⟩
  · have hs := hS l h1 h2
    rw [vl l 10 h1 (by omega), vl l 11 h1 (by omega), vl l 12 h1 (by omega), g1]
    refine ⟨fun q => by omega, fun q => hs.2.2.1 (by omega), fun q => hs.2.2.2.1 (by omega)⟩
theorem m_W_go {n : Int} {op : Int → Int → Int} {lot : Int → Int} (hn : 0 ≤ n) (hp : m_P n op) : ∀ (k : Nat) (M : x_X), m_W n M → m_W n (m_go n op lot k M)
  | 0, M, h => h
  | k + 1, M, h => by
    unfold m_go
    split
    · rename_i q
      refine m_W_go hn hp k _ ?_
      have hcb := m_cb_none lot M n.toNat q.2
      unfold m_next
      split
      · exact m_W_rk h (by omega) (fun l h1 h2 => hcb l h1 (by omega))
      · exact m_W_nl hp h q.1
    · exact h
/-! how many tries there can have been -/
def m_T (n : Int) (M : x_X) : Int := n * (3 * M (-1) 1 + M (-1) 2) + g_sm (fun l => M l 6) n.toNat
theorem g_sm_up {M N : x_X} {l : Int} (hl : 0 ≤ l) (h0 : M l 6 = 0) (h1 : N l 6 = 1) (ho : ∀ a, 0 ≤ a → a ≠ l → N a 6 = M a 6) : ∀ k : Nat, g_sm (fun l => N l 6) k = g_sm (fun l => M l 6) k + (if l < k then 1 else 0)
  | 0 => by simp [g_sm]; omega
  | k + 1 => by
    have ih := g_sm_up hl h0 h1 ho k
    unfold g_sm
    rw [ih]
    by_cases e : (k : Int) = l
    · rw [e, h0, h1, if_neg (by omega), if_pos (by omega)]
    · rw [ho k (by omega) e]
      by_cases q : l < k
      · rw [if_pos q, if_pos (by omega)]; omega
      · rw [if_neg q, if_neg (by omega)]; omega
theorem m_T_tr {n : Int} {M : x_X} {l g w : Int} (hl : 0 ≤ l ∧ l < n) (h6 : M l 6 = 0) : m_T n (m_tr M l g w) = m_T n M + 1 := by
  obtain ⟨⟨v1, v2, -⟩, -, -, -, w6, -⟩ := m_tr_v (M := M) (l := l) (g := g) (w := w) hl.1
  unfold m_T
  rw [v1, v2, g_sm_up (M := M) (N := m_tr M l g w) hl.1 h6 w6 (fun a a1 a2 => m_tr_o (by omega) a2), if_pos (by omega)]
  omega
theorem g_sm_0 {f : Int → Int} (h : ∀ k, 0 ≤ k → f k = 0) : ∀ n : Nat, g_sm f n = 0
  | 0 => rfl
  | n + 1 => by unfold g_sm; rw [g_sm_0 h n, h n (by omega)]; rfl
theorem g_sm_z {f : Int → Int} : ∀ n : Nat, (∀ k : Int, 0 ≤ k → k < n → f k = 0) → g_sm f n = 0
  | 0, _ => rfl
  | n + 1, h => by unfold g_sm; rw [g_sm_z n (fun k k1 k2 => h k k1 (by omega)), h n (by omega) (by omega)]; rfl
theorem m_T_next {n : Int} {op : Int → Int → Int} {M : x_X} (hn : 0 ≤ n) (h : m_W n M) (hL : M (-1) 1 ≠ 3) : m_T n M ≤ m_T n (m_next n op M) := by
  obtain ⟨hG, hR, hS⟩ := h
  have hb := g_sm_b (f := fun l => M l 6) n.toNat (fun k k1 k2 => (hR k k1 (by omega)).2.2.2.2.1)
  unfold m_T m_next
  split
  · have e : g_sm (fun l => m_rk M (M (-1) 2 + 1) n l 6) n.toNat = 0 := g_sm_z _ (fun k k1 k2 => by simp only [m_rk]; rw [if_neg (by omega), if_pos (by omega)]; simp)
    rw [e]
    have v1 : m_rk M (M (-1) 2 + 1) n (-1) 1 = M (-1) 1 := by simp [m_rk]
    have v2 : m_rk M (M (-1) 2 + 1) n (-1) 2 = M (-1) 2 + 1 := by simp [m_rk]
    rw [v1, v2, show 3 * M (-1) 1 + (M (-1) 2 + 1) = (3 * M (-1) 1 + M (-1) 2) + 1 by omega]
    generalize 3 * M (-1) 1 + M (-1) 2 = q
    have := Int.mul_add n q 1
    omega
  · obtain ⟨g1, g2, -⟩ := m_lift_g (n := n) (op := op) (N := x_up (m_ek M n) (-1) 1 (M (-1) 1 + 1))
    have e : g_sm (fun l => m_lift n op (x_up (m_ek M n) (-1) 1 (M (-1) 1 + 1)) l 6) n.toNat = 0 := g_sm_z _ (fun k k1 k2 => (m_lift_l (op := op) k1 (by omega)).1.2.2.2.2)
    rw [e, g1, g2, x_up_s, show 3 * (M (-1) 1 + 1) + 0 = (3 * M (-1) 1 + M (-1) 2) + (3 - M (-1) 2) by omega]
    have e9 := Int.mul_add n (3 * M (-1) 1 + M (-1) 2) (3 - M (-1) 2)
    have : n * 1 ≤ n * (3 - M (-1) 2) := Int.mul_le_mul_of_nonneg_left (by omega) hn
    omega
theorem m_T_go {n : Int} {op : Int → Int → Int} {lot : Int → Int} (hn : 0 ≤ n) (hp : m_P n op) : ∀ (k : Nat) (M : x_X), m_W n M → m_T n M ≤ m_T n (m_go n op lot k M)
  | 0, M, h => Int.le_refl _
  | k + 1, M, h => by
    unfold m_go
    split
    · rename_i q
      have hcb := m_cb_none lot M n.toNat q.2
      have hW2 : m_W n (m_next n op M) := by
        unfold m_next
        split
        · exact m_W_rk h (by omega) (fun l h1 h2 => hcb l h1 (by omega))
        · exact m_W_nl hp h q.1
      exact Int.le_trans (m_T_next hn h q.1) (m_T_go hn hp k _ hW2)
    · exact Int.le_refl _
theorem g_sm_one {f : Int → Int} {l : Int} : ∀ n : Nat, (∀ k : Int, 0 ≤ k → k < n → f k ≤ 1) → 0 ≤ l → l < n → f l = 0 → g_sm f n ≤ n - 1
  | 0, _, h1, h2, _ => by omega
  | n + 1, h, h1, h2, h3 => by
    unfold g_sm
    by_cases e : l = n
    · subst e
      have : ∀ m : Nat, (∀ k : Int, 0 ≤ k → k < m → f k ≤ 1) → g_sm f m ≤ m := by
        intro m
        induction m with
        | zero => intro _; simp [g_sm]
        | succ m ih => intro hm; have := ih (fun k k1 k2 => hm k k1 (by omega)); have := hm m (by omega) (by omega); unfold g_sm; omega
      have := this n (fun k k1 k2 => h k k1 (by omega))
      omega
    · have := g_sm_one n (fun k k1 k2 => h k k1 (by omega)) h1 (by omega) h3
      have := h n (by omega) (by omega)
      omega
/-- somebody is called: at most 53 tries have been made -/
theorem m_T_53 {n : Int} {lot : Int → Int} {M : x_X} (hn : 0 ≤ n ∧ n ≤ 6) (h : m_W n M) (hc : m_cal n lot M ≠ -1) : m_T n M ≤ 53 := by
  obtain ⟨hG, hR, hS⟩ := h
  have hr := m_cb_r lot M n.toNat
  have ho := m_cb_ok lot M n.toNat hc
  unfold m_cal at hc
  generalize m_cb lot M n.toNat = l0 at *
  have hs := hS l0 (by omega) (by omega)
  have hlt : M (-1) 1 < 3 := by rcases Int.lt_or_le (M (-1) 1) 3 with q | q; exact q; exfalso; have := hs.2.1 (by omega); omega
  have hb := g_sm_one (f := fun l => M l 6) n.toNat (fun k k1 k2 => (hR k k1 (by omega)).2.2.2.2.1.2) (l := l0) (by omega) (by omega) ho.2
  unfold m_T
  have : n * (3 * M (-1) 1 + M (-1) 2) ≤ n * 8 := Int.mul_le_mul_of_nonneg_left (by omega) hn.1
  omega
theorem m_T_0 {n : Int} {op : Int → Int → Int} {M : x_X} (hn : 0 ≤ n) : 0 ≤ m_T n (m_beg n op M) := by
  obtain ⟨g1, g2, -⟩ := m_lift_g (n := n) (op := op) (N := m_ck M n)
  have e : g_sm (fun l => m_beg n op M l 6) n.toNat = 0 := g_sm_z _ (fun k k1 k2 => (m_lift_l (op := op) k1 (by omega)).1.2.2.2.2)
  have z : m_ck M n (-1) 1 = 0 := by simp [m_ck]
  unfold m_T
  rw [e]
  unfold m_beg
  rw [g1, g2, z]
  omega
/-- a try and what follows -/
theorem y_M_W {n : Int} {lot : Int → Int} {pl : Int → Int → Int → Int} {M : x_X} {g : Int} (hn : 0 ≤ n) (hpl : ∀ l, 0 ≤ l → l < n → ∀ t, 0 ≤ t → t < 3 → (1 ≤ pl l t 0 ∧ pl l t 0 ≤ 40) ∧ (1 ≤ pl l t 1 ∧ pl l t 1 ≤ 9) ∧ (0 ≤ pl l t 2 ∧ pl l t 2 ≤ 9)) (h : m_W n M) (hg : 0 ≤ g ∧ g ≤ 1) (hc : m_cal n lot M ≠ -1) : (m_W n (y_M n lot pl M g) ∧ m_T n M + 1 ≤ m_T n (y_M n lot pl M g)) ∧ 0 ≤ y_v n lot pl M g ∧ y_v n lot pl M g ≤ 40 := by
  have hp : m_P n (fun l t => pl l t 0) := fun l l1 l2 t t1 t2 => (hpl l l1 l2 t t1 t2).1
  have hr := m_cb_r lot M n.toNat
  have ho := m_cb_ok lot M n.toNat hc
  have hl : 0 ≤ m_cal n lot M ∧ m_cal n lot M < n := by unfold m_cal at hc ⊢; omega
  have hs := h.2.2 _ hl.1 hl.2
  have ho2 : M (m_cal n lot M) 3 > 0 ∧ M (m_cal n lot M) 6 = 0 := ho
  have hG := h.1
  have hlt : M (-1) 1 < 3 := by rcases Int.lt_or_le (M (-1) 1) 3 with q | q; exact q; exfalso; have := hs.2.1 (by omega); omega
  have hq := hpl _ hl.1 hl.2 (M (-1) 1) (by omega) hlt
  have hw : (0 ≤ pl (m_cal n lot M) (M (-1) 1) (if g = 1 then 1 else 2) ∧ pl (m_cal n lot M) (M (-1) 1) (if g = 1 then 1 else 2) ≤ 9) ∧ (g = 1 → 1 ≤ pl (m_cal n lot M) (M (-1) 1) (if g = 1 then 1 else 2)) := by
    by_cases e : g = 1
    · rw [if_pos e]; omega
    · rw [if_neg e]; omega
  have h1 := m_W_tr (w := pl (m_cal n lot M) (M (-1) 1) (if g = 1 then 1 else 2)) h hl hg ho2 hw.1 hw.2
  refine ⟨⟨m_W_go hn hp 20 _ h1, ?_⟩, (h1.2.1 _ hl.1 hl.2).2.1⟩
  have h2 := m_T_go (lot := lot) hn hp 20 _ h1
  rw [m_T_tr hl ho2.2] at h2
  exact h2
/-! the plans' view, inside its bounds; what hangs on the lifters alone -/
def c_p3 (X : x_X) (l t w : Int) : Int := if 0 ≤ l ∧ l < X 1 2 ∧ 0 ≤ t ∧ t < 3 ∧ 0 ≤ w ∧ w < 3 then X (X 2 l + 11 + w) t else 0
def l_eq (X Y : x_X) : Prop := Y 1 = X 1 ∧ Y 2 = X 2 ∧ (∀ l, 0 ≤ l → l < X 1 2 → ∀ j, 0 ≤ j → j < 14 → Y (X 2 l + j) = X (X 2 l + j)) ∧ Y 0 1 = X 0 1
theorem l_eq.rf (X : x_X) : l_eq X X := ⟨rfl, rfl, fun _ _ _ _ _ _ => rfl, rfl⟩
theorem v_eq.l {X Y : x_X} (h : v_eq X Y) : l_eq X Y := ⟨h.1 1 (by omega) (by omega), h.1 2 (by omega) (by omega), h.2.1, h.2.2⟩
theorem l_eq.trans {X Y Z : x_X} (h : l_eq X Y) (h2 : l_eq Y Z) : l_eq X Z := by
  refine ⟨h2.1.trans h.1, h2.2.1.trans h.2.1, fun l l1 l2 j j1 j2 => ?_, h2.2.2.2.trans h.2.2.2⟩
  have := h2.2.2.1 l l1 (by rw [h.1]; exact l2) j j1 j2
  rw [h.2.1] at this
  exact this.trans (h.2.2.1 l l1 l2 j j1 j2)
theorem l_eq.O {X Y : x_X} (h : l_eq X Y) : c_O Y = c_O X := by
  funext l t x f
  unfold c_O
  rw [h.1, h.2.1]
  by_cases q : 0 ≤ l ∧ l < X 1 2 ∧ 0 ≤ t ∧ t < 3
  · rw [if_pos q, if_pos q]
    exact l_odds_c (h.2.2.1 l q.1 q.2.1) h.2.2.2 ⟨q.2.2.1, q.2.2.2⟩
  · rw [if_neg q, if_neg q]
theorem l_eq.p3 {X Y : x_X} (h : l_eq X Y) : c_p3 Y = c_p3 X := by
  funext l t w
  unfold c_p3
  rw [h.1, h.2.1]
  by_cases q : 0 ≤ l ∧ l < X 1 2 ∧ 0 ≤ t ∧ t < 3 ∧ 0 ≤ w ∧ w < 3
  · rw [if_pos q, if_pos q, show X 2 l + 11 + w = X 2 l + (11 + w) by omega, h.2.2.1 l q.1 q.2.1 (11 + w) (by omega) (by omega)]
  · rw [if_neg q, if_neg q]
theorem l_eq.bl {X Y : x_X} (h : l_eq X Y) : c_body Y = c_body X ∧ c_lot Y = c_lot X := by
  have e : ∀ l, 0 ≤ l → l < X 1 2 → Y (X 2 l) = X (X 2 l) := fun l l1 l2 => by have := h.2.2.1 l l1 l2 0 (by omega) (by omega); rwa [Int.add_zero] at this
  constructor
  · funext l
    unfold c_body
    rw [h.1, h.2.1]
    by_cases q : 0 ≤ l ∧ l < X 1 2
    · rw [if_pos q, if_pos q, e l q.1 q.2]
    · rw [if_neg q, if_neg q]
  · funext l
    unfold c_lot
    rw [h.1, h.2.1]
    by_cases q : 0 ≤ l ∧ l < X 1 2
    · rw [if_pos q, if_pos q, e l q.1 q.2]
    · rw [if_neg q, if_neg q]
theorem l_eq.li {X Y : x_X} (h : l_eq X Y) : c_li Y = c_li X := by unfold c_li; rw [h.bl.1, h.bl.2]
theorem l_eq.n {κ : x_Ka} {X Y : x_X} (h : l_eq X Y) (hI : n_I κ X) (hP : n_P X) (hO : n_O X) : n_I κ Y ∧ n_P Y ∧ n_O Y := by
  refine ⟨?_, ?_, ?_⟩
  · unfold n_I at *; rw [h.1, h.2.1]; exact hI
  · intro l l1 l2 t t1 t2
    rw [h.1] at l2
    rw [h.2.1, h.2.2.1 l l1 l2 11 (by omega) (by omega), h.2.2.1 l l1 l2 12 (by omega) (by omega), h.2.2.1 l l1 l2 13 (by omega) (by omega)]
    exact hP l l1 l2 t t1 t2
  · refine ⟨fun l l1 l2 t t1 t2 => ?_, by rw [h.2.2.2]; exact hO.2⟩
    rw [h.1] at l2
    rw [h.2.1]
    have c := hO.1 l l1 l2 t t1 t2
    have e1 := h.2.2.1 l l1 l2 (1 + 1 + 3 * t + 1) (by omega) (by omega)
    have e2 := h.2.2.1 l l1 l2 (1 + 1 + 3 * t + 2) (by omega) (by omega)
    have e3 := h.2.2.1 l l1 l2 (1 + 1 + 3 * t) (by omega) (by omega)
    rw [show X 2 l + (1 + 1 + 3 * t + 1) = X 2 l + 1 + 1 + 3 * t + 1 by omega] at e1
    rw [show X 2 l + (1 + 1 + 3 * t + 2) = X 2 l + 1 + 1 + 3 * t + 2 by omega] at e2
    rw [show X 2 l + (1 + 1 + 3 * t) = X 2 l + 1 + 1 + 3 * t by omega] at e3
    rw [e1, e2, e3]
    exact c
theorem c_p3_r {X : x_X} (hP : n_P X) : ∀ l, 0 ≤ l → l < X 1 2 → ∀ t, 0 ≤ t → t < 3 → (1 ≤ c_p3 X l t 0 ∧ c_p3 X l t 0 ≤ 40) ∧ (1 ≤ c_p3 X l t 1 ∧ c_p3 X l t 1 ≤ 9) ∧ (0 ≤ c_p3 X l t 2 ∧ c_p3 X l t 2 ≤ 9) := fun l l1 l2 t t1 t2 => by
  have h := hP l l1 l2 t t1 t2
  unfold c_p3
  rw [if_pos ⟨l1, l2, t1, t2, by omega, by omega⟩, if_pos ⟨l1, l2, t1, t2, by omega, by omega⟩, if_pos ⟨l1, l2, t1, t2, by omega, by omega⟩, show X 2 l + 11 + 0 = X 2 l + 11 by omega, show X 2 l + 11 + 1 = X 2 l + 12 by omega, show X 2 l + 11 + 2 = X 2 l + 13 by omega]
  exact h
theorem c_p3_pl {X : x_X} {l t w : Int} (ht : 0 ≤ t ∧ t < 3) (hw : 0 ≤ w ∧ w < 3) : c_pl X l t w = c_p3 X l t w := by
  unfold c_pl c_p3
  by_cases q : 0 ≤ l ∧ l < X 1 2
  · rw [if_pos q, if_pos ⟨q.1, q.2, ht.1, ht.2, hw.1, hw.2⟩]
  · rw [if_neg q, if_neg (fun z => q ⟨z.1, z.2.1⟩)]
theorem c_p3_op {X : x_X} {l t : Int} (ht : 0 ≤ t ∧ t < 3) : c_op X l t = c_p3 X l t 0 := by
  rw [← c_p3_pl ht (by omega)]
  unfold c_op c_pl
  rw [Int.add_zero]
/-- the moves look at the plans inside their bounds -/
theorem m_lift_c {n : Int} {op op2 : Int → Int → Int} {M : x_X} (h : M (-1) 1 ≠ 3 → ∀ l, 0 ≤ l → l < n → op l (M (-1) 1) = op2 l (M (-1) 1)) : m_lift n op M = m_lift n op2 M := by
  unfold m_lift
  congr 1
  funext l f
  unfold m_lk
  by_cases q : 0 ≤ l ∧ l < n
  · rw [if_pos q, if_pos q]
    by_cases f2 : f = 2
    · rw [if_pos f2, if_pos f2]
    · rw [if_neg f2, if_neg f2]
      by_cases f3 : f = 3
      · rw [if_pos f3, if_pos f3]
        by_cases z : M l 7 ≠ 0 ∨ M (-1) 1 = 3
        · rw [if_pos z, if_pos z]
        · rw [if_neg z, if_neg z]
          exact h (fun e => z (Or.inr e)) l q.1 q.2
      · rw [if_neg f3, if_neg f3]
  · rw [if_neg q, if_neg q]
theorem m_go_c {n : Int} {op op2 : Int → Int → Int} {lot : Int → Int} (h : ∀ l t, 0 ≤ l → l < n → 0 ≤ t → t < 3 → op l t = op2 l t) : ∀ (k : Nat) (M : x_X), 0 ≤ M (-1) 1 ∧ M (-1) 1 ≤ 3 → m_go n op lot k M = m_go n op2 lot k M
  | 0, M, _ => rfl
  | k + 1, M, hL => by
    unfold m_go
    split
    · rename_i q
      have e : m_next n op M = m_next n op2 M := by
        unfold m_next
        split
        · rfl
        · exact m_lift_c (fun z l l1 l2 => h l _ l1 l2 (by rw [x_up_s]; omega) (by rw [x_up_s] at z ⊢; omega))
      rw [e]
      refine m_go_c h k _ ?_
      unfold m_next
      split
      · have : m_rk M (M (-1) 2 + 1) n (-1) 1 = M (-1) 1 := by simp [m_rk]
        omega
      · rw [m_lift_g.1, x_up_s]; omega
    · rfl
theorem m_beg_c {n : Int} {op op2 : Int → Int → Int} {M : x_X} (h : ∀ l, 0 ≤ l → l < n → op l 0 = op2 l 0) : m_beg n op M = m_beg n op2 M := by
  unfold m_beg
  have z : m_ck M n (-1) 1 = 0 := by simp [m_ck]
  exact m_lift_c (fun _ l l1 l2 => by rw [z]; exact h l l1 l2)
theorem l_eq.op3 {X Y : x_X} (h : l_eq X Y) : c_op Y = c_op X := by
  funext l t
  unfold c_op
  rw [h.1, h.2.1]
  by_cases q : 0 ≤ l ∧ l < X 1 2
  · rw [if_pos q, if_pos q, h.2.2.1 l q.1 q.2 11 (by omega) (by omega)]
  · rw [if_neg q, if_neg q]
theorem m_T_r {n : Int} {M : x_X} (hn : 0 ≤ n) (h : m_W n M) : 0 ≤ m_T n M := by
  have hb := g_sm_b (f := fun l => M l 6) n.toNat (fun k k1 k2 => (h.2.1 k k1 (by omega)).2.2.2.2.1)
  have hG := h.1
  have := Int.mul_nonneg hn (show 0 ≤ 3 * M (-1) 1 + M (-1) 2 by omega)
  unfold m_T
  omega
