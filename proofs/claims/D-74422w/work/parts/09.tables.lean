/-! tables by gen/tables.py: classes by number, kinds of their fields, what fixed references point at -/
def TX14 : u_T := fun _ => ("", "", "", false)
def tyX14 : Nat → FieldType := fun _ => .int
def x_cl : List vw_C := [(RX1, TX1, 18), (RJ2, TJ2, 3), (RX2, TX2, 5), (RX3, TX3, 8), (RX5, TX5, 4), (RX6, TX6, 10), (RX7, TX7, 6), (RX8, TX8, 40), (RX10, TX10, 6), (RX11, TX11, 3), (RX9, TX9, 3), (RX12, TX12, 7), (RX14, TX14, 0), (RX15, TX15, 1), (RX16, TX16, 2), (RX17, TX17, 2), (RJ13, TJ13, 6)]
def x_tgs : List (List Nat) := [[2, 0, 2, 2, 2, 0, 2, 0, 2, 2, 2, 2, 0, 2, 2, 2, 2, 0], [0, 2, 0], [2, 0, 0, 0, 2], [2, 0, 0, 0, 0, 0, 3, 3], [2, 2, 2, 2], [2, 2, 2, 2, 2, 2, 2, 2, 0, 2], [2, 2, 2, 0, 0, 2], [0, 0, 2, 0, 2, 2, 2, 2, 2, 2, 0, 2, 2, 0, 0, 2, 0, 2, 0, 0, 0, 0, 0, 0, 2, 2, 2, 2, 2, 2, 2, 2, 2, 0, 0, 0, 0, 2, 2, 0], [0, 0, 2, 2, 2, 2], [2, 2, 0], [0, 0, 2], [2, 2, 2, 2, 2, 0, 0], [], [0], [2, 3], [2, 0], [2, 2, 2, 2, 2, 0]]
def x_tg (ci k : Nat) : Nat := (x_tgs.getD ci []).getD k 2
def x_fxs : List (List (Option (Nat × Int × x_k))) := [
  [some (0, 1, .inl (1, 1)), none, some (0, 3, .inl (2, 1)), some (0, 17, .inl (2, 1)), some (0, 31, .inr (3, 240)), none, some (0, 32, .inr (1, 64)), none, some (0, 33, .inr (0, 54)), some (0, 34, .inr (0, 54)), some (0, 35, .inr (0, 54)), some (0, 36, .inr (2, 54)), none, some (0, 37, .inl (4, 1)), some (0, 38, .inl (5, 1)), some (0, 53, .inr (14, 6)), some (0, 60, .inl (6, 1)), none],
  [none, some (0, 2, .inr (4, 6)), none],
  [some (1, 1, .inr (10, 6)), none, none, none, some (0, 0, .inl (0, 1))],
  [some (1, 1, .inr (0, 3)), none, none, none, none, none, none, none],
  [none, none, some (0, 0, .inl (0, 1)), some (0, 0, .inl (0, 1))],
  [none, none, some (0, 0, .inl (0, 1)), some (1, 1, .inr (1, 363)), some (1, 2, .inr (2, 363)), some (1, 3, .inr (12, 3)), some (1, 7, .inr (13, 3)), some (1, 11, .inr (13, 3)), none, some (0, 0, .inl (0, 1))],
  [some (1, 1, .inr (0, 15129)), some (1, 2, .inr (0, 15129)), some (1, 3, .inr (2, 15129)), none, none, some (0, 0, .inl (0, 1))],
  [none, none, some (0, 65, .inr (1, 64)), none, some (0, 66, .inr (0, 6)), some (0, 67, .inr (0, 6)), some (0, 68, .inr (0, 18)), some (0, 69, .inr (0, 108)), some (0, 70, .inr (0, 108)), some (0, 71, .inr (0, 54)), none, some (0, 72, .inr (0, 63)), some (0, 73, .inr (0, 63)), none, none, some (0, 74, .inr (0, 240)), none, some (0, 75, .inr (0, 240)), none, none, none, none, none, none, some (0, 76, .inr (0, 3)), some (0, 77, .inr (0, 18)), some (0, 78, .inr (0, 18)), some (0, 79, .inr (0, 9)), some (0, 80, .inr (0, 122)), some (0, 81, .inr (0, 122)), some (0, 82, .inr (0, 121)), some (0, 83, .inr (0, 484)), some (0, 84, .inr (0, 28224)), none, none, none, none, some (0, 85, .inr (0, 15129)), some (0, 86, .inr (0, 15129)), none],
  [none, none, some (1, 1, .inr (11, 3)), some (1, 11, .inr (0, 3)), some (1, 12, .inr (0, 3)), some (1, 13, .inr (0, 3))],
  [some (1, 1, .inr (0, 6)), some (1, 2, .inr (0, 6)), none],
  [none, none, some (0, 0, .inl (0, 1))],
  [none, none, none, none, none, none, none],
  [],
  [none],
  [none, none],
  [none, none],
  [none, none, none, none, none, none]]
def x_fx (ci k : Nat) : Option (Nat × Int × x_k) := (x_fxs.getD ci []).getD k none
def x_ac (t : Nat) : Nat := ([0, 1, 2, 3, 4, 5, 6, 7, 8, 9, 5, 6, 8, 9, 8] : List Nat).getD t 0
def x_at (t : Nat) : Nat := ([0, 1, 3, 4, 2, 2, 2, 2, 2, 2, 2, 2, 2, 2, 2] : List Nat).getD t 2
def x_af (t : Nat) : Option (Int × Int × x_k) := ([none, none, none, none, none, none, none, none, none, none, some (1, 2, .inl (3, 1)), some (1, 3, .inl (9, 1)), some (1, 1, .inr (1, 15498)), some (1, 1, .inr (0, 15498)), some (1, 1, .inr (1, 122))] : List (Option (Int × Int × x_k))).getD t none
def x_atyl : List FieldType := [.int, .long, .boolean, .byte, .object "java/lang/Object", .object "NextLoad$Standing", .object "NextLoad$Table", .object "NextLoad$Beat", .array .long, .array .int]
def x_tyl (E : x_E) : List (ClassId × FieldType) := [(E.2.2.2 0, .int), (E.2.2.2 1, .long), (E.2.2.2 2, .boolean), (E.2.2.2 3, .byte), (E.2.2.2 4, .object "java/lang/Object"), (E.2.2.2 5, .object "NextLoad$Standing"), (E.2.2.2 6, .object "NextLoad$Table"), (E.2.2.2 7, .object "NextLoad$Beat"), (E.2.2.2 8, .array .long), (E.2.2.2 9, .array .int)]
/-- what rows need of class number ci -/
def x_ci (ci : Nat) (C : String) (T : u_T) (N : Nat) (ty : Nat → FieldType) : Prop := x_cl[ci]? = some (C, T, N) ∧ (∀ w ∈ u_ws C T N, w ∈ lw_all) ∧ (∀ k, k < N → parseFieldDescriptor (T k).2.2.1 = some (ty k))
theorem xc_0 : x_ci 0 RX1 TX1 18 tyX1 := ⟨rfl, in_X1, tyX1_ok⟩
theorem xc_1 : x_ci 1 RJ2 TJ2 3 tyJ2 := ⟨rfl, in_J2, tyJ2_ok⟩
theorem xc_2 : x_ci 2 RX2 TX2 5 tyX2 := ⟨rfl, in_X2, tyX2_ok⟩
theorem xc_3 : x_ci 3 RX3 TX3 8 tyX3 := ⟨rfl, in_X3, tyX3_ok⟩
theorem xc_4 : x_ci 4 RX5 TX5 4 tyX5 := ⟨rfl, in_X5, tyX5_ok⟩
theorem xc_5 : x_ci 5 RX6 TX6 10 tyX6 := ⟨rfl, in_X6, tyX6_ok⟩
theorem xc_6 : x_ci 6 RX7 TX7 6 tyX7 := ⟨rfl, in_X7, tyX7_ok⟩
theorem xc_7 : x_ci 7 RX8 TX8 40 tyX8 := ⟨rfl, in_X8, tyX8_ok⟩
theorem xc_8 : x_ci 8 RX10 TX10 6 tyX10 := ⟨rfl, in_X10, tyX10_ok⟩
theorem xc_9 : x_ci 9 RX11 TX11 3 tyX11 := ⟨rfl, in_X11, tyX11_ok⟩
theorem xc_10 : x_ci 10 RX9 TX9 3 tyX9 := ⟨rfl, in_X9, tyX9_ok⟩
theorem xc_11 : x_ci 11 RX12 TX12 7 tyX12 := ⟨rfl, in_X12, tyX12_ok⟩
theorem xc_12 : x_ci 12 RX14 TX14 0 tyX14 := ⟨rfl, fun w h => by simp [u_ws] at h, fun k h => absurd h (Nat.not_lt_zero k)⟩
theorem xc_13 : x_ci 13 RX15 TX15 1 tyX15 := ⟨rfl, in_X15, tyX15_ok⟩
theorem xc_14 : x_ci 14 RX16 TX16 2 tyX16 := ⟨rfl, in_X16, tyX16_ok⟩
theorem xc_15 : x_ci 15 RX17 TX17 2 tyX17 := ⟨rfl, in_X17, tyX17_ok⟩
theorem xc_16 : x_ci 16 RJ13 TJ13 6 tyJ13 := ⟨rfl, in_J13, tyJ13_ok⟩
