/-! ===== the twin's views ===== -/
def ti (f : Int) : Int := if f = 2 then 4 else if f = 3 then 0 else if f = 5 then 5 else if f = 6 then 1 else if f = 7 then 6 else if f = 10 then 7 else if f = 11 then 8 else if f = 12 then 9 else -1
theorem ti_r (f : Int) : (-1 ≤ ti f ∧ ti f ≤ 9) ∧ ti f ≠ 2 ∧ ti f ≠ 3 := by unfold ti; repeat' split <;> omega
theorem ti_i {f g : Int} (h : 0 ≤ ti f) (e : ti f = ti g) : f = g := by
  unfold ti at h e
  repeat' split at h <;> repeat' split at e <;> omega
def t_M (X : x_X) : x_X := fun l f => if l = -1 then (if 1 ≤ f ∧ f ≤ 3 then X 72 (f - 1) else 0) else if 0 ≤ l ∧ l < X 64 3 then (if f = 4 then (if X 72 (3 + 10 * l + 2) = 0 then 1 else X 72 (3 + 10 * l + 2) + X 72 (3 + 10 * l + 3)) else if 0 ≤ ti f then X 72 (3 + 10 * l + ti f) else 0) else 0
theorem t_M_g {X : x_X} {f : Int} (h : 1 ≤ f ∧ f ≤ 3) : t_M X (-1) f = X 72 (f - 1) := by unfold t_M; rw [if_pos rfl, if_pos h]
theorem t_M_s {X : x_X} {l f w : Int} (hl : 0 ≤ l ∧ l < X 64 3) (hw : ti f = w) (h : 0 ≤ w) (h4 : f ≠ 4) : t_M X l f = X 72 (3 + 10 * l + w) := by unfold t_M; rw [if_neg (by omega), if_pos hl, if_neg h4, if_pos (by omega), hw]
theorem t_M_4 {X : x_X} {l : Int} (hl : 0 ≤ l ∧ l < X 64 3) : t_M X l 4 = (if X 72 (3 + 10 * l + 2) = 0 then 1 else X 72 (3 + 10 * l + 2) + X 72 (3 + 10 * l + 3)) := by unfold t_M; rw [if_neg (by omega), if_pos hl, if_pos rfl]
/-- the meet's own cell alone has moved -/
def tw (X Y : x_X) : Prop := ∀ a, a ≠ 72 → Y a = X a
theorem tw.rf (X : x_X) : tw X X := fun _ _ => rfl
theorem tw.trans {X Y Z : x_X} (h : tw X Y) (h2 : tw Y Z) : tw X Z := fun a ha => (h2 a ha).trans (h a ha)
theorem tw.up {X Y : x_X} (h : tw X Y) {i z : Int} : tw X (x_up Y 72 i z) := fun a ha => by rw [x_up_o Y ha]; exact h a ha
theorem t_M_us {X : x_X} {l f w z : Int} (hl : 0 ≤ l ∧ l < X 64 3) (hw : ti f = w) (h : 0 ≤ w) : t_M (x_up X 72 (3 + 10 * l + w) z) = x_up (t_M X) l f z := by
  have hr := ti_r f
  have h4 : f ≠ 4 := by intro e; rw [e] at hw; have : ti 4 = -1 := by decide
                        omega
  have en : x_up X 72 (3 + 10 * l + w) z 64 = X 64 := x_up_o X (by omega)
  funext a g
  have hg := ti_r g
  by_cases ea : a = -1
  · rw [ea, x_up_n _ (Or.inl (by omega))]
    by_cases q : 1 ≤ g ∧ g ≤ 3
    · rw [t_M_g q, t_M_g q, x_up_n X (Or.inr (by omega))]
    · unfold t_M; rw [if_pos rfl, if_neg q, if_pos rfl, if_neg q]
  · by_cases q : 0 ≤ a ∧ a < X 64 3
    · by_cases e : a = l
      · subst e
        by_cases e2 : g = f
        · subst e2
          rw [x_up_s, t_M_s (by rw [en]; exact q) hw h h4, x_up_s]
        · rw [x_up_n _ (Or.inr e2)]
          by_cases e4 : g = 4
          · subst e4
            rw [t_M_4 (by rw [en]; exact q), t_M_4 q, x_up_n X (Or.inr (by omega)), x_up_n X (Or.inr (by omega))]
          · by_cases e0 : 0 ≤ ti g
            · have hne : ti g ≠ w := fun z => e2 (ti_i e0 (z.trans hw.symm))
              rw [t_M_s (by rw [en]; exact q) rfl e0 e4, t_M_s q rfl e0 e4, x_up_n X (Or.inr (by omega))]
            · unfold t_M; rw [if_neg ea, if_pos (by rw [en]; exact q), if_neg e4, if_neg e0, if_neg ea, if_pos q, if_neg e4, if_neg e0]
      · rw [x_up_n _ (Or.inl e)]
        by_cases e4 : g = 4
        · subst e4
          rw [t_M_4 (by rw [en]; exact q), t_M_4 q, x_up_n X (Or.inr (by omega)), x_up_n X (Or.inr (by omega))]
        · by_cases e0 : 0 ≤ ti g
          · rw [t_M_s (by rw [en]; exact q) rfl e0 e4, t_M_s q rfl e0 e4, x_up_n X (Or.inr (by omega))]
          · unfold t_M; rw [if_neg ea, if_pos (by rw [en]; exact q), if_neg e4, if_neg e0, if_neg ea, if_pos q, if_neg e4, if_neg e0]
    · rw [x_up_n _ (Or.inl (by omega))]
      unfold t_M; rw [if_neg ea, if_neg (by rw [en]; exact q), if_neg ea, if_neg q]
theorem t_M_ug {X : x_X} {f z : Int} (h : 1 ≤ f ∧ f ≤ 3) : t_M (x_up X 72 (f - 1) z) = x_up (t_M X) (-1) f z := by
  have en : x_up X 72 (f - 1) z 64 = X 64 := x_up_o X (by omega)
  funext a g
  have hg := ti_r g
  by_cases ea : a = -1
  · subst ea
    by_cases e2 : g = f
    · subst e2; rw [x_up_s, t_M_g h, x_up_s]
    · rw [x_up_n _ (Or.inr e2)]
      by_cases q : 1 ≤ g ∧ g ≤ 3
      · rw [t_M_g q, t_M_g q, x_up_n X (Or.inr (by omega))]
      · unfold t_M; rw [if_pos rfl, if_neg q, if_pos rfl, if_neg q]
  · rw [x_up_n _ (Or.inl ea)]
    by_cases q : 0 ≤ a ∧ a < X 64 3
    · by_cases e4 : g = 4
      · subst e4
        rw [t_M_4 (by rw [en]; exact q), t_M_4 q, x_up_n X (Or.inr (by omega)), x_up_n X (Or.inr (by omega))]
      · by_cases e0 : 0 ≤ ti g
        · rw [t_M_s (by rw [en]; exact q) rfl e0 e4, t_M_s q rfl e0 e4, x_up_n X (Or.inr (by omega))]
        · unfold t_M; rw [if_neg ea, if_pos (by rw [en]; exact q), if_neg e4, if_neg e0, if_neg ea, if_pos q, if_neg e4, if_neg e0]
    · unfold t_M; rw [if_neg ea, if_neg (by rw [en]; exact q), if_neg ea, if_neg q]
/-- the last load and whether it was good -/
theorem t_M_ul {X : x_X} {l y z : Int} (hl : 0 ≤ l ∧ l < X 64 3) : t_M (x_up (x_up X 72 (3 + 10 * l + 2) y) 72 (3 + 10 * l + 3) z) = x_up (t_M X) l 4 (if y = 0 then 1 else y + z) := by
  have en : x_up (x_up X 72 (3 + 10 * l + 2) y) 72 (3 + 10 * l + 3) z 64 = X 64 := by rw [x_up_o _ (by omega), x_up_o _ (by omega)]
  funext a g
  have hg := ti_r g
  by_cases ea : a = -1
  · rw [ea, x_up_n _ (Or.inl (by omega))]
    by_cases q : 1 ≤ g ∧ g ≤ 3
    · rw [t_M_g q, t_M_g q, x_up_n _ (Or.inr (by omega)), x_up_n _ (Or.inr (by omega))]
    · unfold t_M; rw [if_pos rfl, if_neg q, if_pos rfl, if_neg q]
  · by_cases q : 0 ≤ a ∧ a < X 64 3
    · by_cases e4 : g = 4
      · subst e4
        by_cases e : a = l
        · subst e
          rw [x_up_s, t_M_4 (by rw [en]; exact q), x_up_s, x_up_n _ (Or.inr (by omega)), x_up_s]
        · rw [x_up_n _ (Or.inl e), t_M_4 (by rw [en]; exact q), t_M_4 q, x_up_n _ (Or.inr (by omega)), x_up_n _ (Or.inr (by omega)), x_up_n _ (Or.inr (by omega)), x_up_n _ (Or.inr (by omega))]
      · rw [x_up_n (t_M X) (Or.inr e4)]
        by_cases e0 : 0 ≤ ti g
        · rw [t_M_s (by rw [en]; exact q) rfl e0 e4, t_M_s q rfl e0 e4, x_up_n _ (Or.inr (by omega)), x_up_n _ (Or.inr (by omega))]
        · unfold t_M; rw [if_neg ea, if_pos (by rw [en]; exact q), if_neg e4, if_neg e0, if_neg ea, if_pos q, if_neg e4, if_neg e0]
    · rw [x_up_n _ (Or.inl (by omega))]
      unfold t_M; rw [if_neg ea, if_neg (by rw [en]; exact q), if_neg ea, if_neg q]
def t_lot (X : x_X) (l : Int) : Int := if 0 ≤ l ∧ l < X 64 3 then X 67 l else 0
def t_body (X : x_X) (l : Int) : Int := if 0 ≤ l ∧ l < X 64 3 then X 66 l else 0
def t_li (X : x_X) : Int → Int → Int := m_li (t_body X) (t_lot X)
def t_p3 (X : x_X) (l t w : Int) : Int := if 0 ≤ l ∧ l < X 64 3 ∧ 0 ≤ t ∧ t < 3 ∧ 0 ≤ w ∧ w < 3 then X 71 (3 * (3 * l + t) + w) else 0
def t_tb (X : x_X) (l t x : Int) : Int := t_of (fun k => X 69 (6 * (3 * l + t) + k)) (fun k => X 70 (6 * (3 * l + t) + k)) (X 68 (3 * l + t)) x
def t_O (X : x_X) (l t x f : Int) : Int := if 0 ≤ l ∧ l < X 64 3 ∧ 0 ≤ t ∧ t < 3 then max 0 (t_tb X l t x - X 64 10 * f) else 0
def t_G (X : x_X) : x_X := fun k w => if 0 ≤ k ∧ k < X 64 13 then (if 0 ≤ w ∧ w < 4 then X 74 (4 * k + w) else 0) else 0
/-- the twin's frame of things -/
def t_K (κ : x_Ka) (X : x_X) : Prop := x_T κ ∧ κ 64 = some (.inl (7, 1)) ∧ (0 ≤ X 64 3 ∧ X 64 3 ≤ 6)
def t_P (X : x_X) : Prop := ∀ l, 0 ≤ l → l < X 64 3 → ∀ t, 0 ≤ t → t < 3 → (1 ≤ t_p3 X l t 0 ∧ t_p3 X l t 0 ≤ 40) ∧ (1 ≤ t_p3 X l t 1 ∧ t_p3 X l t 1 ≤ 9) ∧ (0 ≤ t_p3 X l t 2 ∧ t_p3 X l t 2 ≤ 9)
def t_Ow (X : x_X) : Prop := (∀ l, 0 ≤ l → l < X 64 3 → ∀ t, 0 ≤ t → t < 3 → t_wf (fun k => X 69 (6 * (3 * l + t) + k)) (fun k => X 70 (6 * (3 * l + t) + k)) (X 68 (3 * l + t))) ∧ 0 ≤ X 64 10 ∧ X 64 10 ≤ 300
/-- the raw cells of a last load -/
def t_La (X : x_X) : Prop := ∀ l, 0 ≤ l → l < X 64 3 → (0 ≤ X 72 (3 + 10 * l + 2) ∧ X 72 (3 + 10 * l + 2) ≤ 40) ∧ (0 ≤ X 72 (3 + 10 * l + 3) ∧ X 72 (3 + 10 * l + 3) ≤ 1)
def t_C (κ : x_Ka) (X : x_X) : Prop := t_K κ X ∧ t_P X ∧ t_Ow X ∧ m_W (X 64 3) (t_M X) ∧ t_La X
theorem t_O_r {κ : x_Ka} {X : x_X} {i t x f : Int} (hO : t_Ow X) (hi : 0 ≤ i ∧ i < X 64 3) (ht : 0 ≤ t ∧ t < 3) (hf : 0 ≤ f) : 0 ≤ t_O X i t x f ∧ t_O X i t x f ≤ 1000 := by
  have h := t_of_r (x := x) (hO.1 i hi.1 hi.2 t ht.1 ht.2)
  have := Int.mul_nonneg hO.2.1 hf
  unfold t_O t_tb
  rw [if_pos ⟨hi.1, hi.2, ht.1, ht.2⟩]
  omega
