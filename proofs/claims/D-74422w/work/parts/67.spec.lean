/-! ===== plain operations, as pure functions of the views ===== -/
def u_lfr (n : Int) (body lot : Int → Int) (pl : Int → Int → Int → Int) (M : x_X) (i t w : Int) : Int :=
  if x_in i 0 (n - 1) = 1 ∧ x_in t 0 2 = 1 then
    (if w = 0 then body i else if w = 1 then lot i else if w = 2 then pl i t 0 else if w = 3 then pl i t 1 else if w = 4 then pl i t 2 else if w = 5 then M i (10 + t) else if w = 6 then M i 3 else if w = 7 then m_least M i else if w = 8 then M i 5 else if w = 9 then (if M i 3 > 0 ∧ M i 6 = 0 then 1 else 0) else if w = 10 then M i 7 else if w = 11 then m_sum M i else -1)
  else -1
def u_asks (n : Int) (M : x_X) (i w : Int) : Int :=
  if x_in i 0 (n - 1) = 1 ∧ x_in w 1 40 = 1 then
    (if M i 3 > 0 ∧ M i 6 = 0 then (if M i 5 = 0 then -3 else if w < m_least M i ∨ w = M i 3 then -4 else M i 5 - 1) else -2)
  else -1
/-- sums over the first k -/
def g_sm (f : Int → Int) : Nat → Int
  | 0 => 0
  | k + 1 => g_sm f k + f k
theorem g_sm_s (f : Int → Int) {k : Int} (hk : 0 ≤ k) : g_sm f (k + 1).toNat = g_sm f k.toNat + f k := by
  rw [show (k + 1).toNat = k.toNat + 1 by omega]
  conv => lhs; unfold g_sm
  rw [show ((k.toNat : Nat) : Int) = k by omega]
theorem g_sm_r {f : Int → Int} (h : ∀ k, 0 ≤ k → 0 ≤ f k ∧ f k ≤ 1) : ∀ n : Nat, 0 ≤ g_sm f n ∧ g_sm f n ≤ n
  | 0 => by simp [g_sm]
  | n + 1 => by have := g_sm_r h n; have := h n (by omega); unfold g_sm; omega
theorem g_sm_c {f g : Int → Int} : ∀ n : Nat, (∀ k : Int, 0 ≤ k → k < n → f k = g k) → g_sm f n = g_sm g n
  | 0, _ => rfl
  | n + 1, h => by
    unfold g_sm
    rw [g_sm_c n (fun k h1 h2 => h k h1 (by omega)), h n (by omega) (by omega)]
/-- who is out, as a set of bits -/
def g_or (M : x_X) : Nat → Int
  | 0 => 0
  | k + 1 => i_or (g_or M k) (if M k 7 = 0 then 0 else i_shl 1 k)
theorem g_or_s (M : x_X) {k : Int} (hk : 0 ≤ k) : g_or M (k + 1).toNat = i_or (g_or M k.toNat) (if M k 7 = 0 then 0 else i_shl 1 k) := by
  rw [show (k + 1).toNat = k.toNat + 1 by omega]
  conv => lhs; unfold g_or
  rw [show ((k.toNat : Nat) : Int) = k by omega]
theorem i_or_R (a b : Int) : xR (i_or a b) := xI_rng _
theorem i_shl_R (a b : Int) : xR (i_shl a b) := xI_rng _
theorem i_shr_R (a b : Int) : xR (i_shr a b) := xI_rng _
theorem i_and_R (a b : Int) : xR (i_and a b) := xI_rng _
theorem i_ushr_R (a b : Int) : xR (i_ushr a b) := xI_rng _
theorem g_or_R (M : x_X) (n : Nat) : xR (g_or M n) := by
  cases n with
  | zero => exact x_r0
  | succ n => exact i_or_R _ _
/-! texts: four bytes are signed -/
def g_sg (X : x_X) (z j : Int) : x_X := fun a i => if a = 31 ∧ X 0 5 ≤ i ∧ i < X 0 5 + j then i_i2b (i_shr z (24 - 8 * (i - X 0 5))) else if a = 0 ∧ i = 5 then X 0 5 + j else X a i
theorem g_sg_0 (X : x_X) (z : Int) : X = g_sg X z 0 := by
  funext a i
  unfold g_sg
  rw [if_neg (by omega)]
  split
  · rename_i h; obtain ⟨rfl, rfl⟩ := h; omega
  · rfl
theorem g_sg_s {X : x_X} {z j : Int} (hj : 0 ≤ j) : x_up (x_up (g_sg X z j) 31 (X 0 5 + j) (i_i2b (i_shr z (24 - 8 * j)))) 0 5 (X 0 5 + j + 1) = g_sg X z (j + 1) := by
  funext a i
  simp only [g_sg, x_up]
  by_cases e : a = 31
  · subst e
    by_cases e2 : i = X 0 5 + j
    · subst e2; simp [hj, show X 0 5 + j - X 0 5 = j by omega]; omega
    · by_cases q : X 0 5 ≤ i ∧ i < X 0 5 + j
      · rw [if_neg (by omega), if_neg (fun h => e2 h.2), if_pos ⟨rfl, q⟩, if_pos ⟨rfl, by omega, by omega⟩]
      · rw [if_neg (by omega), if_neg (fun h => e2 h.2), if_neg (fun h => q h.2), if_neg (by omega), if_neg (by omega), if_neg (by omega)]
  · by_cases e2 : a = 0 ∧ i = 5
    · rw [if_pos e2, if_neg (by omega), if_pos e2]; omega
    · rw [if_neg e2, if_neg (by omega), if_neg (by omega), if_neg e2, if_neg (by omega), if_neg e2]
/-! draws -/
def d_nx (z : Int) : Int := (xI (z * 1103515245 + 12345)).toInt
def d_rl (z : Int) : Int := (i_ushr z 16).tmod 1000
theorem d_nx_v (z : Int) : vi (z * 1103515245 + 12345) = vi (d_nx z) := congrArg Value.int (xI_of _).symm
theorem d_nx_R (z : Int) : xR (d_nx z) := xI_rng _
theorem x_tm {a : Int} : -1000 < a.tmod 1000 ∧ a.tmod 1000 < 1000 := by
  refine ⟨?_, Int.tmod_lt_of_pos a (by omega)⟩
  have h := Int.tmod_lt_of_pos (-a) (show (0 : Int) < 1000 by omega)
  rw [Int.neg_tmod] at h
  omega
theorem d_rl_r (z : Int) : -1000 < d_rl z ∧ d_rl z < 1000 := x_tm
/-! a try and what is kept of it: M the meet, c how many were made, G k w: of the k-th 0 who, 1 the lift, 2 the load, 3 whether good -/
def y_log (G : x_X) (c l t x g : Int) : x_X := fun k w => if k = c then (if w = 0 then l else if w = 1 then t else if w = 2 then x else if w = 3 then g else 0) else G k w
def y_M (n : Int) (lot : Int → Int) (pl : Int → Int → Int → Int) (M : x_X) (g : Int) : x_X := m_go n (fun l t => pl l t 0) lot 20 (m_tr M (m_cal n lot M) g (pl (m_cal n lot M) (M (-1) 1) (if g = 1 then 1 else 2)))
/-- what is asked behind it -/
def y_v (n : Int) (lot : Int → Int) (pl : Int → Int → Int → Int) (M : x_X) (g : Int) : Int := (m_tr M (m_cal n lot M) g (pl (m_cal n lot M) (M (-1) 1) (if g = 1 then 1 else 2))) (m_cal n lot M) 3
def y_G (n : Int) (lot : Int → Int) (M : x_X) (c : Int) (G : x_X) (g : Int) : x_X := y_log G c (m_cal n lot M) (M (-1) 1) (M (m_cal n lot M) 3) g
def y_g (n : Int) (lot : Int → Int) (O : Int → Int → Int → Int → Int) (d : Int) (M : x_X) : Int := if d_rl (d_nx d) < O (m_cal n lot M) (M (-1) 1) (M (m_cal n lot M) 3) (M (m_cal n lot M) 2) then 1 else 0
/-- drawn on till nobody is called -/
def y_run (n : Int) (lot : Int → Int) (pl : Int → Int → Int → Int) (O : Int → Int → Int → Int → Int) : Nat → Int → x_X → Int → x_X → Int × x_X × Int × x_X
  | 0, d, M, c, G => (d, M, c, G)
  | f + 1, d, M, c, G => if m_cal n lot M = -1 then (d, M, c, G) else y_run n lot pl O f (d_nx d) (y_M n lot pl M (y_g n lot O d M)) (c + 1) (y_G n lot M c G (y_g n lot O d M))
theorem y_run_e {n : Int} {lot : Int → Int} {pl : Int → Int → Int → Int} {O : Int → Int → Int → Int → Int} {f : Nat} {d : Int} {M : x_X} {c : Int} {G : x_X} (h : m_cal n lot M = -1) : y_run n lot pl O f d M c G = (d, M, c, G) := by
  cases f with
  | zero => rfl
  | succ f => unfold y_run; rw [if_pos h]
theorem y_run_s {n : Int} {lot : Int → Int} {pl : Int → Int → Int → Int} {O : Int → Int → Int → Int → Int} {f : Nat} {d : Int} {M : x_X} {c : Int} {G : x_X} (h : m_cal n lot M ≠ -1) : y_run n lot pl O (f + 1) d M c G = y_run n lot pl O f (d_nx d) (y_M n lot pl M (y_g n lot O d M)) (c + 1) (y_G n lot M c G (y_g n lot O d M)) := by
  conv => lhs; unfold y_run
  rw [if_neg h]
/-- the draws and the meet don't hang on what is kept -/
theorem y_run_i {n : Int} {lot : Int → Int} {pl : Int → Int → Int → Int} {O : Int → Int → Int → Int → Int} : ∀ (f : Nat) (d : Int) (M : x_X) (c c2 : Int) (G G2 : x_X), (y_run n lot pl O f d M c G).1 = (y_run n lot pl O f d M c2 G2).1 ∧ (y_run n lot pl O f d M c G).2.1 = (y_run n lot pl O f d M c2 G2).2.1
  | 0, d, M, c, c2, G, G2 => ⟨rfl, rfl⟩
  | f + 1, d, M, c, c2, G, G2 => by
    unfold y_run
    split
    · exact ⟨rfl, rfl⟩
    · exact y_run_i f _ _ _ _ _ _
def c_G (X : x_X) : x_X := fun k w => if 0 ≤ k ∧ k < X 0 12 then (if w = 0 then X 33 k else if w = 1 then X 34 k else if w = 2 then X 35 k else if w = 3 then X 36 k else 0) else 0
/-- meets drawn k times: draws, first, out, sum -/
def y_oft (run : Int → Int × x_X) (cnt : x_X → Int) (i : Int) : Nat → Int → Int × Int × Int × Int
  | 0, d => (d, 0, 0, 0)
  | k + 1, d => let r := y_oft run cnt i k d; let q := run r.1; (q.1, r.2.1 + (if q.2 i 7 = 0 ∧ cnt q.2 = 0 then 1 else 0), r.2.2.1 + q.2 i 7, r.2.2.2 + m_sum q.2 i)
theorem y_oft_s (run : Int → Int × x_X) (cnt : x_X → Int) (i : Int) {k : Int} (hk : 0 ≤ k) (d : Int) : y_oft run cnt i (k + 1).toNat d = ((run (y_oft run cnt i k.toNat d).1).1, (y_oft run cnt i k.toNat d).2.1 + (if (run (y_oft run cnt i k.toNat d).1).2 i 7 = 0 ∧ cnt (run (y_oft run cnt i k.toNat d).1).2 = 0 then 1 else 0), (y_oft run cnt i k.toNat d).2.2.1 + (run (y_oft run cnt i k.toNat d).1).2 i 7, (y_oft run cnt i k.toNat d).2.2.2 + m_sum (run (y_oft run cnt i k.toNat d).1).2 i) := by
  rw [show (k + 1).toNat = k.toNat + 1 by omega]
  rfl
/-! the order in which they are called -/
def m_oc (n : Int) (lot : Int → Int) : Nat → x_X → Int → (Int → Int) → Int × (Int → Int)
  | 0, _, k, R => (k, R)
  | f + 1, M, k, R => if m_cal n lot M = -1 then (k, R) else m_oc n lot f (x_up M (m_cal n lot M) 6 1) (k + 1) (fun j => if j = k then m_cal n lot M else R j)
theorem m_oc_e {n : Int} {lot : Int → Int} {f : Nat} {M : x_X} {k : Int} {R : Int → Int} (h : m_cal n lot M = -1) : m_oc n lot f M k R = (k, R) := by
  cases f with
  | zero => rfl
  | succ f => unfold m_oc; rw [if_pos h]
theorem m_oc_s {n : Int} {lot : Int → Int} {f : Nat} {M : x_X} {k : Int} {R : Int → Int} (h : m_cal n lot M ≠ -1) : m_oc n lot (f + 1) M k R = m_oc n lot f (x_up M (m_cal n lot M) 6 1) (k + 1) (fun j => if j = k then m_cal n lot M else R j) := by
  conv => lhs; unfold m_oc
  rw [if_neg h]
/-- who among the first k would be called ahead of i, were it to ask for x -/
def m_sc (lot : Int → Int) (M : x_X) (i x : Int) : Nat → Int
  | 0 => 0
  | k + 1 => m_sc lot M i x k + (if (k : Int) ≠ i ∧ (M k 3 > 0 ∧ M k 6 = 0) ∧ (M k 3 < x ∨ (M k 3 = x ∧ lot k < lot i)) then 1 else 0)
theorem m_sc_s (lot : Int → Int) (M : x_X) (i x : Int) {k : Int} (hk : 0 ≤ k) : m_sc lot M i x (k + 1).toNat = m_sc lot M i x k.toNat + (if k ≠ i ∧ (M k 3 > 0 ∧ M k 6 = 0) ∧ (M k 3 < x ∨ (M k 3 = x ∧ lot k < lot i)) then 1 else 0) := by
  rw [show (k + 1).toNat = k.toNat + 1 by omega]
  conv => lhs; unfold m_sc
  rw [show ((k.toNat : Nat) : Int) = k by omega]
theorem m_sc_r (lot : Int → Int) (M : x_X) (i x : Int) : ∀ k : Nat, 0 ≤ m_sc lot M i x k ∧ m_sc lot M i x k ≤ k
  | 0 => by simp [m_sc]
  | k + 1 => by have := m_sc_r lot M i x k; unfold m_sc; split <;> omega
/-- the least load from x on, up to 40, with P; else -3 -/
def m_fl (P : Int → Bool) : Nat → Int → Int
  | 0, _ => -3
  | f + 1, x => if P x = true then x else m_fl P f (x + 1)
theorem m_fl_e {P : Int → Bool} {f : Nat} {x : Int} (h : P x = true) : m_fl P (f + 1) x = x := by unfold m_fl; rw [if_pos h]
theorem m_fl_s {P : Int → Bool} {f : Nat} {x : Int} (h : ¬ P x = true) : m_fl P (f + 1) x = m_fl P f (x + 1) := by
  conv => lhs; unfold m_fl
  rw [if_neg h]
def u_slot (n : Int) (lot : Int → Int) (M : x_X) (i k : Int) : Int :=
  if x_in i 0 (n - 1) = 1 ∧ 0 ≤ k then (if M i 3 > 0 ∧ M i 6 = 0 then m_fl (fun x => decide (m_sc lot M i x n.toNat = k)) (41 - m_least M i).toNat (m_least M i) else -2) else -1
def u_needs (n : Int) (li : Int → Int → Int) (M : x_X) (i j : Int) : Int :=
  if x_in i 0 (n - 1) = 1 ∧ x_in j 0 (n - 1) = 1 ∧ i ≠ j then
    (if m_ahd li M i j ≠ 0 then 0 else if M i 3 = 0 then -2 else m_fl (fun x => decide (m_ah (li i j) (m_sum M i - M i (10 + M (-1) 1) + x) 0 (m_sum M j) (M j 7) ≠ 0)) (41 - m_least M i).toNat (m_least M i))
  else -1
def u_count (n tm gm ti rm ty : Int) (M : x_X) (w : Int) : Int :=
  if w = 0 then n else if w = 1 then M (-1) 1 else if w = 2 then M (-1) 2 else if w = 3 then M (-1) 3 else if w = 4 then tm else if w = 5 then gm else if w = 6 then ti else if w = 7 then rm else if w = 8 then ty else if w = 9 then g_or M n.toNat else -1
def u_tried (tm : Int) (G : x_X) (k w : Int) : Int := if x_in k 0 (tm - 1) = 1 ∧ x_in w 0 3 = 1 then G k w else -1
