/-! ===== aims: a cell m answers A v for totals v of 0 .. 120 ===== -/
def a_beat (X : x_X) (m v : Int) : Int := if v = 0 then 0 else 1000000 - X (X m 0) (v + X m 1)
def a_bok (κ : x_Ka) (X : x_X) (m : Int) : Prop := κ m = some (.inl (14, 0)) ∧ κ (X m 0) = some (.inr (1, 122)) ∧ (0 ≤ X m 1 ∧ X m 1 ≤ 1) ∧ ∀ w, 0 ≤ w → w ≤ 121 → 0 ≤ X (X m 0) w ∧ X (X m 0) w ≤ 1000000
def a_win (X : x_X) (o v : Int) : Nat → Int
  | 0 => 1000000
  | k + 1 => (a_win X o v k * a_beat X (X o k) v).tdiv 1000000
def x_Aim (κ : x_Ka) (X : x_X) (m : Int) (A : Int → Int) : Prop :=
  (κ m = some (.inl (12, 0)) ∧ ∀ v, 0 ≤ v → v ≤ 120 → A v = 1000 * v) ∨ (κ m = some (.inl (13, 0)) ∧ ∀ v, 0 ≤ v → v ≤ 120 → A v = if X m 0 ≤ v then 1000000 else 0) ∨ (a_bok κ X m ∧ ∀ v, 0 ≤ v → v ≤ 120 → A v = a_beat X m v) ∨
  (κ m = some (.inl (15, 0)) ∧ κ (X m 0) = some (.inr (7, 6)) ∧ (0 ≤ X m 1 ∧ X m 1 ≤ 6) ∧ (∀ k, 0 ≤ k → k < X m 1 → a_bok κ X (X (X m 0) k)) ∧ ∀ v, 0 ≤ v → v ≤ 120 → A v = if v = 0 then 0 else a_win X (X m 0) v (X m 1).toNat)
theorem a_beat_r {κ : x_Ka} {X : x_X} {m v : Int} (h : a_bok κ X m) (hv : 0 ≤ v ∧ v ≤ 120) : 0 ≤ a_beat X m v ∧ a_beat X m v ≤ 1000000 := by
  unfold a_beat
  split
  · omega
  · have := h.2.2.2 (v + X m 1) (by have := h.2.2.1; omega) (by have := h.2.2.1; omega)
    omega
theorem a_dv {p q : Int} (hp : 0 ≤ p ∧ p ≤ 1000000) (hq : 0 ≤ q ∧ q ≤ 1000000) : (0 ≤ p * q ∧ p * q ≤ 1000000000000) ∧ 0 ≤ (p * q).tdiv 1000000 ∧ (p * q).tdiv 1000000 ≤ 1000000 := by
  have h1 := x_mb hp hq
  refine ⟨⟨h1.1, by omega⟩, Int.tdiv_nonneg h1.1 (by omega), ?_⟩
  have h2 := Int.tdiv_le_tdiv (show (0 : Int) < 1000000 by omega) h1.2
  exact Int.le_trans h2 (by decide)
theorem a_win_r {κ : x_Ka} {X : x_X} {o v : Int} (hv : 0 ≤ v ∧ v ≤ 120) : ∀ (n : Nat), (∀ k : Int, 0 ≤ k → k < n → a_bok κ X (X o k)) → 0 ≤ a_win X o v n ∧ a_win X o v n ≤ 1000000
  | 0, _ => by simp [a_win]
  | n + 1, h => by
    unfold a_win
    exact (a_dv (a_win_r hv n (fun k h1 h2 => h k h1 (by omega))) (a_beat_r (h n (by omega) (by omega)) hv)).2
theorem x_Aim.rng {κ : x_Ka} {X : x_X} {m : Int} {A : Int → Int} (h : x_Aim κ X m A) {v : Int} (h1 : 0 ≤ v) (h2 : v ≤ 120) : 0 ≤ A v ∧ A v ≤ 1000000 := by
  rcases h with h | h | h | h
  · rw [h.2 v h1 h2]; omega
  · rw [h.2 v h1 h2]; split <;> omega
  · rw [h.2 v h1 h2]; exact a_beat_r h.1 ⟨h1, h2⟩
  · rw [h.2.2.2.2 v h1 h2]
    split
    · omega
    · exact a_win_r ⟨h1, h2⟩ _ (fun k q1 q2 => h.2.2.2.1 k q1 (by have := h.2.2.1; omega))
theorem a_win_s (X : x_X) (o v : Int) {k : Int} (hk : 0 ≤ k) : a_win X o v (k + 1).toNat = (a_win X o v k.toNat * a_beat X (X o k) v).tdiv 1000000 := by
  rw [show (k + 1).toNat = k.toNat + 1 by omega]
  conv => lhs; unfold a_win
  rw [show ((k.toNat : Nat) : Int) = k by omega]
theorem c_X14_of {l : Launch} {E : x_E} {κ : x_Ka} {X : x_X} {a v : Int} (hk : κ a = some (.inl (12, 0))) (hv : 0 ≤ v ∧ v ≤ 120) : x_Pu l yX14_of cX14_of 2 (some .long) 0 E κ X [x_rf E a, vi v] (vl (1000 * v)) := by
  refine x_Met.of [(false, x_rf E a), (false, vi v)] [some (x_rf E a), some (vi v)] 0 (by decide) rfl rfl ⟨x_cr E (a), rfl, trivial⟩ rfl rfl ?_
  intro p e s m args below meth c hargs hin B
  refine x_ldc2 B (1000) q990 (by decide) dX14_of_0 ?_
  refine x_iload_n B dX14_of_3 rfl ?_
  refine x_i2l B dX14_of_4 ⟨by omega, by omega⟩ ?_
  refine x_lmul B dX14_of_5 ?_
  refine x_lret B (fun _ _ h => h) ?_ dX14_of_6
  exact ⟨rfl, rfl⟩
theorem c_X15_of {l : Launch} {E : x_E} {κ : x_Ka} {X : x_X} {a v : Int} (hk : κ a = some (.inl (13, 0))) (hv : 0 ≤ v ∧ v ≤ 120) : x_Pu l yX15_of cX15_of 2 (some .long) 0 E κ X [x_rf E a, vi v] (vl (if X a 0 ≤ v then 1000000 else 0)) := by
  refine x_Met.of [(false, x_rf E a), (false, vi v)] [some (x_rf E a), some (vi v)] 0 (by decide) rfl rfl ⟨x_cr E (a), rfl, trivial⟩ rfl rfl ?_
  intro p e s m args below meth c hargs hin B
  refine x_iload_n B dX15_of_0 rfl ?_
  refine x_aload_n B dX15_of_1 rfl ?_
  refine x_getI B (k := 0) 0 rfl rfl xc_13 (by decide) hk (Or.inl q1081) (fun _ h => h) dX15_of_2 (fun r_2 => ?_)
  refine x_icmp_lt B (tgt := 14) dX15_of_5 (by decide) ⟨by omega, by omega⟩ ⟨by omega, by omega⟩ (fun h_5 => ?_) (fun h_5 => ?_)
  · refine x_lconst B 0 dX15_of_14 (by decide) ?_
    refine x_lret B (fun _ _ h => h) ?_ dX15_of_15
    exact ⟨congrArg (fun z => some (vl z)) (by split <;> omega), rfl⟩
  · refine x_ldc2 B (1000000) q997 (by decide) dX15_of_8 ?_
    refine x_goto B (tgt := 15) dX15_of_11 (by decide) ?_
    refine x_lret B (fun _ _ h => h) ?_ dX15_of_15
    exact ⟨congrArg (fun z => some (vl z)) (by split <;> omega), rfl⟩
theorem c_X16_of {l : Launch} {E : x_E} {κ : x_Ka} {X : x_X} {a v : Int} (hk : a_bok κ X a) (hv : 0 ≤ v ∧ v ≤ 120) : x_Pu l yX16_of cX16_of 2 (some .long) 0 E κ X [x_rf E a, vi v] (vl (a_beat X a v)) := by
  refine x_Met.of [(false, x_rf E a), (false, vi v)] [some (x_rf E a), some (vi v)] 0 (by decide) rfl rfl ⟨x_cr E (a), rfl, trivial⟩ rfl rfl ?_
  intro p e s m args below meth c hargs hin B
  have hb := hk.2.2.1
  refine x_iload_n B dX16_of_0 rfl ?_
  refine x_if_ne B (tgt := 8) dX16_of_1 (by decide) ⟨by omega, by omega⟩ (fun h_1 => ?_) (fun h_1 => ?_)
  · refine x_ldc2 B (1000000) q983 (by decide) dX16_of_8 ?_
    refine x_aload_n B dX16_of_11 rfl ?_
    refine x_getR B (k := 0) 0 rfl rfl xc_14 (by decide) hk.1 (Or.inl q1112) (fun _ h => h) dX16_of_12 (?_)
    refine x_aload_n B dX16_of_15 rfl ?_
    refine x_getZ B (k := 1) 1 rfl rfl xc_14 (by decide) hk.1 (Or.inl q1113) (fun _ h => h) dX16_of_16 (fun r_16 => ?_)
    refine x_if_eq B (tgt := 28) dX16_of_19 (by decide) ⟨by omega, by omega⟩ (fun h_19 => ?_) (fun h_19 => ?_)
    · refine x_iload_n B dX16_of_28 rfl ?_
      refine x_lald B hk.2.1 ⟨by omega, by omega⟩ dX16_of_29 (fun r_29 => ?_)
      refine x_lsub B dX16_of_30 ?_
      refine x_lret B (fun _ _ h => h) ?_ dX16_of_31
      exact ⟨congrArg (fun z => some (vl z)) (by unfold a_beat; first | rw [if_pos (by omega)] | (rw [if_neg (by omega), show X a 1 = 1 by omega]) | (rw [if_neg (by omega), show X a 1 = 0 by omega, Int.add_zero])), rfl⟩
    · refine x_iload_n B dX16_of_22 rfl ?_
      refine x_iconst B dX16_of_23 ?_
      refine x_iadd B dX16_of_24 ?_
      refine x_goto B (tgt := 29) dX16_of_25 (by decide) ?_
      refine x_lald B hk.2.1 ⟨by omega, by omega⟩ dX16_of_29 (fun r_29 => ?_)
      refine x_lsub B dX16_of_30 ?_
      refine x_lret B (fun _ _ h => h) ?_ dX16_of_31
      exact ⟨congrArg (fun z => some (vl z)) (by unfold a_beat; first | rw [if_pos (by omega)] | (rw [if_neg (by omega), show X a 1 = 1 by omega]) | (rw [if_neg (by omega), show X a 1 = 0 by omega, Int.add_zero])), rfl⟩
  · refine x_lconst B 0 dX16_of_4 (by decide) ?_
    refine x_goto B (tgt := 31) dX16_of_5 (by decide) ?_
    refine x_lret B (fun _ _ h => h) ?_ dX16_of_31
    exact ⟨congrArg (fun z => some (vl z)) (by unfold a_beat; first | rw [if_pos (by omega)] | (rw [if_neg (by omega), show X a 1 = 1 by omega]) | (rw [if_neg (by omega), show X a 1 = 0 by omega, Int.add_zero])), rfl⟩
theorem c_X17_of {l : Launch} {E : x_E} {κ : x_Ka} {X : x_X} {a v : Int} (hk : κ a = some (.inl (15, 0))) (ho : κ (X a 0) = some (.inr (7, 6))) (hm : 0 ≤ X a 1 ∧ X a 1 ≤ 6) (hb : ∀ k, 0 ≤ k → k < X a 1 → a_bok κ X (X (X a 0) k)) (hv : 0 ≤ v ∧ v ≤ 120) : x_Pu l yX17_of cX17_of 5 (some .long) 1 E κ X [x_rf E a, vi v] (vl (if v = 0 then 0 else a_win X (X a 0) v (X a 1).toNat)) := by
  refine x_Met.of [(false, x_rf E a), (false, vi v)] [some (x_rf E a), some (vi v), none, none, none] 3 (by decide) rfl rfl ⟨x_cr E (a), rfl, trivial⟩ rfl rfl ?_
  intro p e s m args below meth c hargs hin B
  have lp_13 : ∀ (n : Nat) (k : Int), ((0 ≤ k ∧ k ≤ X a 1) ∧ v ≠ 0) → ((7 - k).toNat < n) → x_G p l e (x_rm 1 0 0) s m args below meth c 5 E 0 0 (MQ below (x_Q E κ (fun v_ X_ => v_ = some (vl (if v = 0 then 0 else a_win X (X a 0) v (X a 1).toNat)) ∧ X_ = X)) args s 0 0 (fun q => E.1 ≤ q)) κ 13 [some (x_rf E a), some (vi v), some (vl (a_win X (X a 0) v k.toNat)), none, some (vi k)] [] X := by
    intro n
    induction n with
    | zero => intro k hi hme; exfalso; omega
    | succ n ih =>
      intro k hi hme
      obtain ⟨hi, hv0⟩ := hi
      have hws := a_win_s X (X a 0) v hi.1
      have hwr := a_win_r (κ := κ) (X := X) (o := X a 0) hv k.toNat (fun j q1 q2 => hb j q1 (by omega))
      refine x_iload B dX17_of_13 rfl ?_
      refine x_aload_n B dX17_of_15 rfl ?_
      refine x_getI B (k := 1) 1 rfl rfl xc_15 (by decide) hk (Or.inl q1135) (fun _ h => h) dX17_of_16 (fun r_16 => ?_)
      refine x_icmp_ge B (tgt := 46) dX17_of_19 (by decide) ⟨by omega, by omega⟩ ⟨by omega, by omega⟩ (fun h_19 => ?_) (fun h_19 => ?_)
      · obtain rfl : k = X a 1 := by omega
        refine x_lload_n B dX17_of_46 rfl ?_
        refine x_lret B (fun _ _ h => h) ?_ dX17_of_47
        exact ⟨congrArg (fun z => some (vl z)) (by rw [if_neg hv0]), rfl⟩
      · refine x_lload_n B dX17_of_22 rfl ?_
        refine x_aload_n B dX17_of_23 rfl ?_
        refine x_getR B (k := 0) 0 rfl rfl xc_15 (by decide) hk (Or.inl q1134) (fun _ h => h) dX17_of_24 (?_)
        refine x_iload B dX17_of_27 rfl ?_
        refine x_aald B (t := 7) ho rfl rfl rfl ⟨by omega, by omega⟩ dX17_of_29 ?_
        refine x_iload_n B dX17_of_30 rfl ?_
        refine x_goP (x_rV B (hb _ (by omega) (by omega)).1 (show x_cl[14]? = some _ from rfl) (c_X16_of (hb _ (by omega) (by omega)) hv) (lw_V q1005 q980 q1926 q138 q982) hv_X16_of ⟨by decide, by decide⟩ ⟨by decide, by decide⟩ rfl rfl (by simp [x_cr, x_c1, x_c2]) dX17_of_31) ?_
        have hdv := a_dv hwr (a_beat_r (hb k hi.1 h_19) hv)
        refine x_lmul B dX17_of_34 ?_
        refine x_ldc2 B (1000000) q1004 (by decide) dX17_of_35 ?_
        refine x_ldiv B dX17_of_38 ⟨by omega, by omega⟩ ⟨by omega, by omega⟩ ?_
        refine x_lst_2 B dX17_of_39 (by first | rfl | exact x_cr _ _) ?_
        refine x_iinc_4 B dX17_of_40 (by first | rfl | exact x_cr _ _) ?_
        refine x_goto B (tgt := 13) dX17_of_43 (by decide) ?_
        rw [← hws]
        exact ih _ ⟨⟨by omega, by omega⟩, hv0⟩ (by omega)
  refine x_iload_n B dX17_of_0 rfl ?_
  refine x_if_ne B (tgt := 6) dX17_of_1 (by decide) ⟨by omega, by omega⟩ (fun h_1 => ?_) (fun h_1 => ?_)
  · refine x_ldc2 B (1000000) q1004 (by decide) dX17_of_6 ?_
    refine x_lst_2 B dX17_of_9 (by first | rfl | exact x_cr _ _) ?_
    refine x_iconst B dX17_of_10 ?_
    refine x_istw_4 B dX17_of_11 (by first | rfl | exact x_cr _ _) ?_
    exact lp_13 _ _ ⟨⟨by omega, by omega⟩, by omega⟩ (Nat.lt_succ_self _)
  · refine x_lconst B 0 dX17_of_4 (by decide) ?_
    refine x_lret B (fun _ _ h => h) ?_ dX17_of_5
    exact ⟨congrArg (fun z => some (vl z)) (by rw [if_pos (by omega)]), rfl⟩
section XA
variable {p : Program} {l : Launch} {e : Env} {R : Room} {s : State} {m : MethodId} {args : Array Value} {below : List Frame} {meth : Method} {c : Code} {nL : Nat} {E : x_E} {cells slots : Nat} {Q : State → Prop} {κ : x_Ka}
variable {cc : ByteArray} {own : String} {ret : Option FieldType} {pc : Nat} {L : List (Option Value)} {st : List Value} {X : x_X}
theorem lw_F {own : String} {idx : Nat} {C : String} {x y : MethodName} {b : ByteArray} {L : Nat} {r : Option FieldType} (h1 : Cond.methodLink own idx x ∈ lw_all) (h3 : Cond.selects C x y ∈ lw_all) (h4 : Cond.instanceMethod y ∈ lw_all) (h5 : Cond.initialized y.cls ∈ lw_all) (h6 : Cond.code y b L r ∈ lw_all) : GoodIn lw_all (va_wsF own idx C x y (ws_ y b L r)) := by
  refine lw_app ?_ (lw_meth h6)
  intro w hw
  simp only [List.mem_cons, List.not_mem_nil, or_false] at hw
  rcases hw with rfl | rfl | rfl | rfl <;> assumption
/-- a call by the interface: its answer r, nothing changed -/
theorem x_rF (B : x_B p s m args meth c cc own nL ret E) {y x : MethodName} {idx cnt lv maxL ci b : Nat} {bytes : ByteArray} {a v r : Int} {rC : vw_C} (hκ : κ a = some (.inl (ci, b))) (hcl : x_cl[ci]? = some rC) (hM : x_Pu l y bytes maxL (some .long) lv E κ X [x_rf E a, vi v] (vl r)) (hw : GoodIn lw_all (va_wsF own idx rC.1 x y (ws_ y bytes maxL (some .long)))) (hF : va_Fw rC.1 x y s) (hd : x.cls ≠ "java/lang/invoke/MethodHandle" ∧ x.cls ≠ "java/lang/invoke/VarHandle" ∧ (parseMethodDescriptor x.desc).map (fun d => d.parameters.length) = some 1) (hR : lv + 1 + 1 ≤ R.frames ∧ 8 + (maxL + 11) + 64 * (lv + 1) ≤ R.locals) (hf : cells + 0 ≤ R.cells ∧ slots + 0 ≤ R.slots) (hW : (st.map fun v => v.category).sum ≤ 8) (d : decode cc pc = .ok (.invokeinterface idx cnt, 5)) (k : x_G p l e R s m args below meth c nL E cells slots Q κ (pc + 5) L (vl r :: st) X) : x_G p l e R s m args below meth c nL E cells slots Q κ pc L (vi v :: x_rf E a :: st) X := by
  intro H locs ls hH hS hL T hT XX
  have ha := (hH.2 a _ hκ).1
  obtain ⟨v', st₀, t, T', L', h0, XX', hLc, e1, e2, ⟨⟨v2, X', hv, ⟨rfl, rfl⟩, hb⟩, hz, hk⟩, stp⟩ := va_runF (As := [vi v]) (rest := st) (b := E.1 + a.toNat) (B.2.2.2.1.1.1 ci _ hcl).2 B.1 hM (va_cwF 1 B.1.2.2.2.2 hw rfl rfl rfl hF hd hR) ⟨x_blind _ _ _ _, x_recv B hκ hcl hH, fun U hU hW => ⟨by rw [x_rf_pos E ha], by rw [hU]; exact hH, B.2.2.2.1.at hS hU hW, by rw [hU]; exact Nat.le_trans B.2.2.2.2 hS.1⟩⟩ (g := F0 m pc ls (vi v :: x_rf E a :: st)) rfl rfl hL.1 (by rw [x_rf_pos E ha]; rfl) (lv_room hW) d hf T hT XX
  cases hv
  rw [h0] at hz hk
  have hS' : va_S (fun q => E.1 ≤ q) s.heap T'.heap (locs ++ L') := by
    refine ⟨Nat.le_trans hS.1 (by rw [e1]; exact hz), fun q h1 h2 => ?_, fun q hq => ?_⟩
    · rw [e1, hk q (Nat.lt_of_lt_of_le h1 hS.1) h2]
      exact hS.2.1 q h1 h2
    · rcases List.mem_append.mp hq with h | h
      · exact hS.2.2 q h
      · exact hLc q h
  obtain ⟨t2, a1, b1⟩ := k T'.heap (locs ++ L') ls (by rw [e1]; exact hb) hS' hL T' rfl XX'
  exact ⟨t2, stp t2 a1, b1⟩
theorem x_aim (B : x_B p s m args meth c cc RX4 nL ret E) {a v : Int} {A : Int → Int} {cnt idx : Nat} (hl : Cond.methodLink RX4 idx ({ cls := "NextLoad$Aim", name := "of", desc := "(I)J" } : Jvm.MethodName) ∈ lw_all) (h : x_Aim κ X a A) (h1 : 0 ≤ v) (h2 : v ≤ 120) (hR : 3 ≤ R.frames ∧ 8 + 16 + 128 ≤ R.locals) (hf : cells + 0 ≤ R.cells ∧ slots + 0 ≤ R.slots) (hW : (st.map fun v => v.category).sum ≤ 8) (d : decode cc pc = .ok (.invokeinterface idx cnt, 5)) (k : x_G p l e R s m args below meth c nL E cells slots Q κ (pc + 5) L (vl (A v) :: st) X) : x_G p l e R s m args below meth c nL E cells slots Q κ pc L (vi v :: x_rf E a :: st) X := by
  have hN := B.2.2.2.1.2.1
  rcases h with h | h | h | h
  · rw [h.2 v h1 h2] at k
    exact x_rF B h.1 (show x_cl[12]? = some _ from rfl) (c_X14_of h.1 ⟨h1, h2⟩) (lw_F hl q985 q987 q136 q989) ⟨hN _ q976 rfl, hN _ q975 rfl, hN _ q988 rfl, hN _ q986 rfl, hN _ q984 rfl⟩ (by decide +kernel) ⟨by have := hR.1; omega, by have := hR.2; omega⟩ hf hW d k
  · rw [h.2 v h1 h2] at k
    exact x_rF B h.1 (show x_cl[13]? = some _ from rfl) (c_X15_of h.1 ⟨h1, h2⟩) (lw_F hl q992 q994 q137 q996) ⟨hN _ q976 rfl, hN _ q975 rfl, hN _ q995 rfl, hN _ q993 rfl, hN _ q991 rfl⟩ (by decide +kernel) ⟨by have := hR.1; omega, by have := hR.2; omega⟩ hf hW d k
  · rw [h.2 v h1 h2] at k
    exact x_rF B h.1.1 (show x_cl[14]? = some _ from rfl) (c_X16_of h.1 ⟨h1, h2⟩) (lw_F hl q978 q980 q138 q982) ⟨hN _ q976 rfl, hN _ q975 rfl, hN _ q981 rfl, hN _ q979 rfl, hN _ q977 rfl⟩ (by decide +kernel) ⟨by have := hR.1; omega, by have := hR.2; omega⟩ hf hW d k
  · rw [h.2.2.2.2 v h1 h2] at k
    exact x_rF B h.1 (show x_cl[15]? = some _ from rfl) (c_X17_of h.1 h.2.1 h.2.2.1 h.2.2.2.1 ⟨h1, h2⟩) (lw_F hl q999 q1001 q139 q1003) ⟨hN _ q976 rfl, hN _ q975 rfl, hN _ q1002 rfl, hN _ q1000 rfl, hN _ q998 rfl⟩ (by decide +kernel) ⟨by have := hR.1; omega, by have := hR.2; omega⟩ hf hW d k
end XA
