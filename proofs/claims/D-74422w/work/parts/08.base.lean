/-! ===== the layer of this proof: ints as Int, ONE store X : cell → place → Int, kinds of cells, the walk's judgement x_G ===== -/
def xI (z : Int) : Int32 := Int32.ofInt z
def xJ (z : Int) : Int64 := Int64.ofInt z
abbrev vi (z : Int) : Value := .int (xI z)
abbrev vl (z : Int) : Value := .long (xJ z)
abbrev xR (z : Int) : Prop := -2147483648 ≤ z ∧ z ≤ 2147483647
abbrev xRl (z : Int) : Prop := -9223372036854775808 ≤ z ∧ z ≤ 9223372036854775807
theorem xI_toInt {z : Int} (h : xR z) : (xI z).toInt = z := Int32.toInt_ofInt_of_le (by omega) (by omega)
theorem xJ_toInt {z : Int} (h : xRl z) : (xJ z).toInt = z := Int64.toInt_ofInt_of_le (by omega) (by omega)
theorem xI_add (a b : Int) : xI a + xI b = xI (a + b) := (Int32.ofInt_add a b).symm
theorem xI_sub (a b : Int) : xI a - xI b = xI (a - b) := (Int32.ofInt_sub a b).symm
theorem xI_mul (a b : Int) : xI a * xI b = xI (a * b) := (Int32.ofInt_mul a b).symm
theorem xI_neg (a : Int) : -xI a = xI (-a) := (Int32.ofInt_neg a).symm
theorem xJ_add (a b : Int) : xJ a + xJ b = xJ (a + b) := (Int64.ofInt_add a b).symm
theorem xJ_sub (a b : Int) : xJ a - xJ b = xJ (a - b) := (Int64.ofInt_sub a b).symm
theorem xJ_mul (a b : Int) : xJ a * xJ b = xJ (a * b) := (Int64.ofInt_mul a b).symm
theorem xI_lt {a b : Int} (ha : xR a) (hb : xR b) : xI a < xI b ↔ a < b := by rw [Int32.lt_iff_toInt_lt, xI_toInt ha, xI_toInt hb]
theorem xI_le {a b : Int} (ha : xR a) (hb : xR b) : xI a ≤ xI b ↔ a ≤ b := by rw [Int32.le_iff_toInt_le, xI_toInt ha, xI_toInt hb]
theorem xI_eq {a b : Int} (ha : xR a) (hb : xR b) : xI a = xI b ↔ a = b := by rw [← Int32.toInt_inj, xI_toInt ha, xI_toInt hb]
theorem xI_of (x : Int32) : xI x.toInt = x := Int32.ofInt_toInt x
theorem xJ_of (x : Int64) : xJ x.toInt = x := Int64.ofInt_toInt x
theorem xI_rng (x : Int32) : xR x.toInt := by
  have h1 := Int32.le_toInt x
  have h2 := Int32.toInt_lt x
  exact ⟨by omega, by omega⟩
theorem xI_i2l {a : Int} (ha : xR a) : (xI a).toInt64 = xJ a := by rw [← Int64.ofInt_int32ToInt, xI_toInt ha]; rfl
theorem xJ_l2i (a : Int) : (xJ a).toInt32 = xI a := Int64.toInt32_ofInt
theorem xI_clamp {a : Int} (h : xR a) : (xI a).toNatClampNeg = a.toNat := by rw [← Int32.toNat_toInt, xI_toInt h]
theorem xI_div {a b : Int} (ha : xR a) (hb : xR b) (h : b ≠ -1) : xI a / xI b = xI (a.tdiv b) := by
  rw [← Int32.toInt_inj, Int32.toInt_div_of_ne_right _ _ (fun e => h ((xI_eq hb (by decide)).mp (e.trans (by decide)))), xI_toInt ha, xI_toInt hb]
  have h1 : a.tdiv b ≤ a.natAbs := by
    have := Int.natAbs_tdiv_le_natAbs a b
    omega
  have h2 : -(a.natAbs : Int) ≤ a.tdiv b := by
    have := Int.natAbs_tdiv_le_natAbs a b
    omega
  by_cases hm : a = -2147483648
  · subst hm
    by_cases hb1 : b = 1 ∨ b = 0
    · rcases hb1 with rfl | rfl <;> decide
    · have h3 : (Int.tdiv (-2147483648) b).natAbs ≤ 1073741824 := by
        rw [Int.natAbs_tdiv]
        have : 2 ≤ b.natAbs := by omega
        exact Nat.div_le_of_le_mul (by show 2147483648 ≤ _; omega)
      rw [xI_toInt ⟨by omega, by omega⟩]
  · rw [xI_toInt ⟨by omega, by omega⟩]
theorem xI_rem {a b : Int} (ha : xR a) (hb : xR b) : xI a % xI b = xI (a.tmod b) := by
  rw [← Int32.toInt_inj, Int32.toInt_mod, xI_toInt ha, xI_toInt hb]
  by_cases h0 : b = 0
  · subst h0; rw [Int.tmod_zero, xI_toInt ha]
  · have h1 : (a.tmod b).natAbs ≤ a.natAbs := by rw [Int.natAbs_tmod]; exact Nat.mod_le _ _
    rw [xI_toInt]
    refine ⟨?_, ?_⟩
    · by_cases hm : 0 ≤ a
      · have := Int.tmod_nonneg b hm; omega
      · omega
    · by_cases hm : 0 ≤ a
      · omega
      · have h2 := Int.tmod_nonneg b (show 0 ≤ -a by omega); rw [Int.neg_tmod] at h2; omega
/-- the environment: the first own address, addresses of constant objects, class numbers and slots, array classes -/
abbrev x_E : Type := Nat × (Nat → Nat) × va_G × (Nat → ClassId)
abbrev x_X : Type := Int → Int → Int
abbrev x_k : Type := (Nat × Nat) ⊕ (Nat × Int)
abbrev x_Ka : Type := Int → Option x_k
def x_rf (E : x_E) (z : Int) : Value := if 0 ≤ z then .ref (E.1 + z.toNat) else if z = -1 then .null else .ref (E.2.1 (-2 - z).toNat)
theorem x_rf_pos (E : x_E) {z : Int} (h : 0 ≤ z) : x_rf E z = .ref (E.1 + z.toNat) := if_pos h
theorem x_rf_nul (E : x_E) : x_rf E (-1) = .null := rfl
theorem x_cr (E : x_E) (z : Int) : (x_rf E z).category = 1 := by
  unfold x_rf
  split
  · rfl
  · split <;> rfl
/-- kinds of values: 0 int, 1 long, 2 reference, 3 boolean, 4 byte -/
def x_sv (E : x_E) (t : Nat) (z : Int) : Value := if t = 1 then .long (xJ z) else if t = 2 then x_rf E z else .int (xI z)
def x_rg (t : Nat) (z : Int) : Prop := if t = 2 then True else if t = 3 then (0 ≤ z ∧ z ≤ 1) else if t = 4 then (-128 ≤ z ∧ z ≤ 127) else xR z
def x_up (X : x_X) (a i z : Int) : x_X := fun a' i' => if a' = a ∧ i' = i then z else X a' i'
theorem x_up_s (X : x_X) (a i z : Int) : x_up X a i z a i = z := if_pos ⟨rfl, rfl⟩
theorem x_up_n (X : x_X) {a i z a' i' : Int} (h : a' ≠ a ∨ i' ≠ i) : x_up X a i z a' i' = X a' i' := if_neg (fun q => h.elim (fun k => k q.1) (fun k => k q.2))
