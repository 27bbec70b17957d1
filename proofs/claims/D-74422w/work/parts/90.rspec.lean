/-! ===== a lifter's text: what is read, or where it fails ===== -/
abbrev r_dg (T : Int → Int) (n p : Int) : Prop := p < n ∧ 48 ≤ T p ∧ T p ≤ 57
def r_run (T : Int → Int) (n : Int) : Nat → Int → Int → Int × Int
  | 0, p, v => (p, v)
  | k + 1, p, v => if (k = 3 ∨ v > 0) ∧ r_dg T n p then r_run T n k (p + 1) (10 * v + T p - 48) else (p, v)
def r_num (T : Int → Int) (n lo hi p : Int) : Int × Int × Int :=
  if r_dg T n p then (if lo ≤ (r_run T n 4 p 0).2 ∧ (r_run T n 4 p 0).2 ≤ hi then (1, (r_run T n 4 p 0).1, (r_run T n 4 p 0).2) else (0, (r_run T n 4 p 0).1 - 1, 0)) else (0, p, 0)
/-- with no digit behind it -/
def r8_num (T : Int → Int) (n lo hi p : Int) : Int × Int × Int := if (r_num T n lo hi p).1 = 1 ∧ r_dg T n (r_num T n lo hi p).2.1 then (0, (r_num T n lo hi p).2.1, 0) else r_num T n lo hi p
def r_u (L : Int → Int) (j z : Int) : Int → Int := fun k => if k = j then z else L k
def r_tab (N : Int → Int → Int → Int × Int × Int) (T : Int → Int) (n : Int) : Nat → Int → Int → (Int → Int) → (Int → Int) → Int × Int × Int × (Int → Int) × (Int → Int)
  | 0, _, p, _, _ => (0, p, 0, fun _ => 0, fun _ => 0)
  | k + 1, j, p, L, D =>
    if (N (if j = 0 then 1 else L (j - 1) + 1) 40 p).1 = 0 then (0, (N (if j = 0 then 1 else L (j - 1) + 1) 40 p).2.1, 0, fun _ => 0, fun _ => 0)
    else if ¬ ((N (if j = 0 then 1 else L (j - 1) + 1) 40 p).2.1 < n ∧ T (N (if j = 0 then 1 else L (j - 1) + 1) 40 p).2.1 = 61) then (0, (N (if j = 0 then 1 else L (j - 1) + 1) 40 p).2.1, 0, fun _ => 0, fun _ => 0)
    else if (N 0 (if j = 0 then 1000 else D (j - 1)) ((N (if j = 0 then 1 else L (j - 1) + 1) 40 p).2.1 + 1)).1 = 0 then (0, (N 0 (if j = 0 then 1000 else D (j - 1)) ((N (if j = 0 then 1 else L (j - 1) + 1) 40 p).2.1 + 1)).2.1, 0, fun _ => 0, fun _ => 0)
    else if j + 1 < 6 ∧ (N 0 (if j = 0 then 1000 else D (j - 1)) ((N (if j = 0 then 1 else L (j - 1) + 1) 40 p).2.1 + 1)).2.1 < n ∧ T (N 0 (if j = 0 then 1000 else D (j - 1)) ((N (if j = 0 then 1 else L (j - 1) + 1) 40 p).2.1 + 1)).2.1 = 44
    then r_tab N T n k (j + 1) ((N 0 (if j = 0 then 1000 else D (j - 1)) ((N (if j = 0 then 1 else L (j - 1) + 1) 40 p).2.1 + 1)).2.1 + 1) (r_u L j (N (if j = 0 then 1 else L (j - 1) + 1) 40 p).2.2) (r_u D j (N 0 (if j = 0 then 1000 else D (j - 1)) ((N (if j = 0 then 1 else L (j - 1) + 1) 40 p).2.1 + 1)).2.2)
    else (1, (N 0 (if j = 0 then 1000 else D (j - 1)) ((N (if j = 0 then 1 else L (j - 1) + 1) 40 p).2.1 + 1)).2.1, j + 1, r_u L j (N (if j = 0 then 1 else L (j - 1) + 1) 40 p).2.2, r_u D j (N 0 (if j = 0 then 1000 else D (j - 1)) ((N (if j = 0 then 1 else L (j - 1) + 1) 40 p).2.1 + 1)).2.2)
/-- a sign, then a number -/
def r_sn (N : Int → Int → Int → Int × Int × Int) (T : Int → Int) (n c lo hi p : Int) : Int × Int × Int := if p < n ∧ T p = c then N lo hi (p + 1) else (0, p, 0)
def r_pln (N : Int → Int → Int → Int × Int × Int) (T : Int → Int) (n p : Int) : Int × Int × (Int → Int) :=
  if (r_sn N T n 47 1 40 p).1 = 0 then (0, (r_sn N T n 47 1 40 p).2.1, fun _ => 0)
  else if (r_sn N T n 43 1 9 (r_sn N T n 47 1 40 p).2.1).1 = 0 then (0, (r_sn N T n 43 1 9 (r_sn N T n 47 1 40 p).2.1).2.1, fun _ => 0)
  else if (r_sn N T n 43 0 9 (r_sn N T n 43 1 9 (r_sn N T n 47 1 40 p).2.1).2.1).1 = 0 then (0, (r_sn N T n 43 0 9 (r_sn N T n 43 1 9 (r_sn N T n 47 1 40 p).2.1).2.1).2.1, fun _ => 0)
  else (1, (r_sn N T n 43 0 9 (r_sn N T n 43 1 9 (r_sn N T n 47 1 40 p).2.1).2.1).2.1, fun w => if w = 0 then (r_sn N T n 47 1 40 p).2.2 else if w = 1 then (r_sn N T n 43 1 9 (r_sn N T n 47 1 40 p).2.1).2.2 else (r_sn N T n 43 0 9 (r_sn N T n 43 1 9 (r_sn N T n 47 1 40 p).2.1).2.1).2.2)
/-- lift t of the lifter's store -/
def r_put (F : x_X) (t many : Int) (L D W : Int → Int) : x_X := fun a i => if a = 10 + t then many else if a = 20 + t then L i else if a = 30 + t then D i else if a = 40 + t then W i else F a i
def r_lft (N : Int → Int → Int → Int × Int × Int) (T : Int → Int) (n : Int) : Nat → Int → Int → x_X → Int × Int × x_X
  | 0, _, p, F => (1, p, F)
  | k + 1, t, p, F =>
    if ¬ (p < n ∧ T p = 59) then (0, p, fun _ _ => 0)
    else if (r_tab N T n 6 0 (p + 1) (fun _ => 0) (fun _ => 0)).1 = 0 then (0, (r_tab N T n 6 0 (p + 1) (fun _ => 0) (fun _ => 0)).2.1, fun _ _ => 0)
    else if (r_pln N T n (r_tab N T n 6 0 (p + 1) (fun _ => 0) (fun _ => 0)).2.1).1 = 0 then (0, (r_pln N T n (r_tab N T n 6 0 (p + 1) (fun _ => 0) (fun _ => 0)).2.1).2.1, fun _ _ => 0)
    else r_lft N T n k (t + 1) (r_pln N T n (r_tab N T n 6 0 (p + 1) (fun _ => 0) (fun _ => 0)).2.1).2.1 (r_put F t (r_tab N T n 6 0 (p + 1) (fun _ => 0) (fun _ => 0)).2.2.1 (r_tab N T n 6 0 (p + 1) (fun _ => 0) (fun _ => 0)).2.2.2.1 (r_tab N T n 6 0 (p + 1) (fun _ => 0) (fun _ => 0)).2.2.2.2 (r_pln N T n (r_tab N T n 6 0 (p + 1) (fun _ => 0) (fun _ => 0)).2.1).2.2)
/-- has one of the first k this lot? -/
def r_has (lot : Int → Int) : Nat → Int → Int
  | 0, _ => 0
  | k + 1, v => if lot k = v then 1 else r_has lot k v
theorem r_has_0 {lot : Int → Int} {v : Int} : ∀ k : Nat, (∀ j : Int, 0 ≤ j → j < k → lot j ≠ v) → r_has lot k v = 0
  | 0, _ => rfl
  | k + 1, h => by unfold r_has; rw [if_neg (h k (by omega) (by omega))]; exact r_has_0 k (fun j j1 j2 => h j j1 (by omega))
theorem r_has_1 {lot : Int → Int} {v j : Int} (hj : 0 ≤ j) (e : lot j = v) : ∀ k : Nat, j < k → r_has lot k v = 1
  | 0, h => by omega
  | k + 1, h => by
    unfold r_has
    by_cases q : lot k = v
    · rw [if_pos q]
    · rw [if_neg q]
      refine r_has_1 hj e k ?_
      by_cases q2 : j = k
      · exact absurd (q2 ▸ e) q
      · omega
theorem r_has_n {lot : Int → Int} {v : Int} : ∀ k : Nat, r_has lot k v = 0 → ∀ j : Int, 0 ≤ j → j < k → lot j ≠ v := fun k h j j1 j2 e => by rw [r_has_1 j1 e k j2] at h; omega
def r_F0 (b l : Int) : x_X := fun a i => if a = 0 then (if i = 0 then b else l) else 0
def r_lif (N : Int → Int → Int → Int × Int × Int) (T : Int → Int) (n : Int) (lot : Int → Int) (m : Int) : Int × Int × x_X :=
  if (N 1 200 0).1 = 0 then (0, (N 1 200 0).2.1, fun _ _ => 0)
  else if (r_sn (r_num T n) T n 44 0 99 (N 1 200 0).2.1).1 = 0 then (0, (r_sn (r_num T n) T n 44 0 99 (N 1 200 0).2.1).2.1, fun _ _ => 0)
  else if r_has lot m.toNat (r_sn (r_num T n) T n 44 0 99 (N 1 200 0).2.1).2.2 = 1 then (0, (r_sn (r_num T n) T n 44 0 99 (N 1 200 0).2.1).2.1 - 1, fun _ _ => 0)
  else if (r_lft N T n 3 0 (r_sn (r_num T n) T n 44 0 99 (N 1 200 0).2.1).2.1 (r_F0 (N 1 200 0).2.2 (r_sn (r_num T n) T n 44 0 99 (N 1 200 0).2.1).2.2)).1 = 0 then (0, (r_lft N T n 3 0 (r_sn (r_num T n) T n 44 0 99 (N 1 200 0).2.1).2.1 (r_F0 (N 1 200 0).2.2 (r_sn (r_num T n) T n 44 0 99 (N 1 200 0).2.1).2.2)).2.1, fun _ _ => 0)
  else if (r_lft N T n 3 0 (r_sn (r_num T n) T n 44 0 99 (N 1 200 0).2.1).2.1 (r_F0 (N 1 200 0).2.2 (r_sn (r_num T n) T n 44 0 99 (N 1 200 0).2.1).2.2)).2.1 < n then (0, (r_lft N T n 3 0 (r_sn (r_num T n) T n 44 0 99 (N 1 200 0).2.1).2.1 (r_F0 (N 1 200 0).2.2 (r_sn (r_num T n) T n 44 0 99 (N 1 200 0).2.1).2.2)).2.1, fun _ _ => 0)
  else r_lft N T n 3 0 (r_sn (r_num T n) T n 44 0 99 (N 1 200 0).2.1).2.1 (r_F0 (N 1 200 0).2.2 (r_sn (r_num T n) T n 44 0 99 (N 1 200 0).2.1).2.2)
theorem r_run_r {T : Int → Int} {n : Int} : ∀ (k : Nat) (p v : Int), (0 ≤ p ∧ p ≤ n) → 0 ≤ v → p ≤ (r_run T n k p v).1 ∧ (r_run T n k p v).1 ≤ n ∧ 0 ≤ (r_run T n k p v).2
  | 0, p, v, h, hv => ⟨Int.le_refl _, h.2, hv⟩
  | k + 1, p, v, h, hv => by
    unfold r_run
    by_cases q : (k = 3 ∨ v > 0) ∧ r_dg T n p
    · rw [if_pos q]
      have hq := q.2
      unfold r_dg at hq
      have := r_run_r (T := T) (n := n) k (p + 1) (10 * v + T p - 48) (by omega) (by omega)
      omega
    · rw [if_neg q]; exact ⟨Int.le_refl _, h.2, hv⟩
/-- what a number reader keeps to -/
def r_N (N : Int → Int → Int → Int × Int × Int) (n : Int) : Prop := ∀ lo hi p, (0 ≤ p ∧ p ≤ n) → ((N lo hi p).1 = 0 ∨ (N lo hi p).1 = 1) ∧ (p ≤ (N lo hi p).2.1 ∧ (N lo hi p).2.1 ≤ n) ∧ ((N lo hi p).1 = 1 → lo ≤ (N lo hi p).2.2 ∧ (N lo hi p).2.2 ≤ hi)
theorem r_num_r (T : Int → Int) (n : Int) : r_N (r_num T n) n := by
  intro lo hi p hp
  unfold r_num
  by_cases q : r_dg T n p
  · rw [if_pos q]
    have q' := q
    unfold r_dg at q'
    have hs : r_run T n 4 p 0 = r_run T n 3 (p + 1) (10 * 0 + T p - 48) := by
      conv => lhs; unfold r_run
      rw [if_pos ⟨Or.inl rfl, q⟩]
    have := r_run_r (T := T) (n := n) 3 (p + 1) (10 * 0 + T p - 48) (by omega) (by omega)
    rw [← hs] at this
    by_cases q2 : lo ≤ (r_run T n 4 p 0).2 ∧ (r_run T n 4 p 0).2 ≤ hi
    · rw [if_pos q2]; exact ⟨Or.inr rfl, ⟨by dsimp only; omega, this.2.1⟩, fun _ => q2⟩
    · rw [if_neg q2]; exact ⟨Or.inl rfl, ⟨by dsimp only; omega, by dsimp only; omega⟩, fun h => by dsimp only at h; omega⟩
  · rw [if_neg q]; exact ⟨Or.inl rfl, ⟨Int.le_refl _, hp.2⟩, fun h => by dsimp only at h; omega⟩
theorem r8_num_r (T : Int → Int) (n : Int) : r_N (r8_num T n) n := by
  intro lo hi p hp
  have := r_num_r T n lo hi p hp
  unfold r8_num
  by_cases q : (r_num T n lo hi p).1 = 1 ∧ r_dg T n (r_num T n lo hi p).2.1
  · rw [if_pos q]; exact ⟨Or.inl rfl, this.2.1, fun h => by dsimp only at h; omega⟩
  · rw [if_neg q]; exact this
/-- a digit behind it: both ways of reading fail there -/
theorem r_sn_dg {N : Int → Int → Int → Int × Int × Int} {T : Int → Int} {n c lo hi p : Int} (hc : ¬ (48 ≤ c ∧ c ≤ 57)) (h : r_dg T n p) : r_sn N T n c lo hi p = (0, p, 0) := by
  unfold r_dg at h
  unfold r_sn
  rw [if_neg (by omega)]
