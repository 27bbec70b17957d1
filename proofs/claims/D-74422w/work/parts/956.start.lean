theorem Rel_0 {κ : x_Ka} {X : x_X} (hT : x_T κ) (h0 : κ 0 = some (.inl (0, 1))) (h8 : κ 64 = some (.inl (7, 1))) (h87 : κ 87 = some (.inr (1, 1))) (m1 : X (-1) 0 = 88) (e0 : X 0 1 = 0 ∧ X 0 5 = 0 ∧ X 0 7 = 0 ∧ X 0 12 = 0) (e1 : X 1 0 = 0 ∧ X 1 2 = 0) (e31 : ∀ k, X 31 k = 0) (e38 : X 38 8 = 0) (e50 : ∀ u, 0 ≤ u → u ≤ 2 → ∀ k, X (50 + u) k = 0) (e3 : X 3 1 = 0 ∧ X 3 2 = 0 ∧ X 3 3 = 0) (e64 : X 64 0 = 0 ∧ X 64 1 = 0 ∧ X 64 3 = 0 ∧ X 64 10 = 0 ∧ X 64 13 = 0 ∧ X 64 14 = 0 ∧ X 64 18 = 0) (e72 : ∀ k, X 72 k = 0 ∧ X 75 k = 0) : Rel κ X ((0 : Nat) : Int) := by
  obtain ⟨z01, z05, z07, z012⟩ := e0
  obtain ⟨z10, z12⟩ := e1
  obtain ⟨z31, z32, z33⟩ := e3
  obtain ⟨-, y1, y3, y10, y13, y14, y18⟩ := e64
  have hW : m_W (X 1 2) (c_M X 3) := by
    refine ⟨?_, fun l l1 l2 => by omega, fun l l1 l2 => by omega⟩
    rw [c_M_g (by omega), c_M_g (by omega), c_M_g (by omega), z31, z32, z33]; omega
  have hM : t_M X = c_M X 3 := by
    funext l f
    unfold t_M c_M
    rw [y3, z12]
    by_cases q : l = -1
    · rw [if_pos q, if_pos q]
      by_cases q2 : 1 ≤ f ∧ f ≤ 3
      · rw [if_pos q2, if_pos q2, (e72 _).1]
        rcases (show f = 1 ∨ f = 2 ∨ f = 3 by omega) with e | e | e <;> rw [e]
        · exact z31.symm
        · exact z32.symm
        · exact z33.symm
      · rw [if_neg q2, if_neg q2]
    · rw [if_neg q, if_neg q, if_neg (by omega), if_neg (by omega)]
  refine ⟨⟨⟨⟨⟨hT, h0, by omega, fun l l1 l2 => by omega, fun l l1 l2 => by omega⟩, fun l l1 l2 => by omega, ⟨fun l l1 l2 => by omega, by omega⟩, hW, fun l l1 l2 => by omega⟩, ⟨by omega, fun l l1 l2 => by omega⟩, h87⟩, fun l k l1 l2 k2 => by omega, ⟨by omega, fun t t1 t2 k k1 k2 => ?_⟩, by omega, by omega, by omega, ⟨by omega, by omega, ?_⟩, fun a b ha => by omega, fun l l1 l2 => by omega⟩, ⟨⟨⟨hT, h8, by omega⟩, fun l l1 l2 => by omega, ⟨fun l l1 l2 => by omega, by omega⟩, ?_, fun l l1 l2 => by omega⟩, ?_, fun k k1 k2 => by omega⟩, ⟨by omega, hM, ?_, ?_, ?_, ?_⟩, ⟨?_, by omega⟩, ⟨by omega, by omega, fun p hp => ?_⟩, ⟨by omega, fun k k1 k2 => by omega⟩⟩
  · rw [show (38 : Int) + 11 + 1 + 1 * t = 50 + t by omega, e50 t t1 t2 k]; omega
  · have := m_T_r (n := X 1 2) (by omega) hW; omega
  · rw [hM, show X 64 3 = X 1 2 by omega]; exact hW
  · rw [y13, y14]; rfl
  · funext l; unfold t_body c_body; rw [if_neg (by omega), if_neg (by omega)]
  · funext l; unfold t_lot c_lot; rw [if_neg (by omega), if_neg (by omega)]
  · funext l t w; unfold t_p3 c_p3; rw [if_neg (by omega), if_neg (by omega)]
  · funext l t x f; unfold t_O c_O; rw [if_neg (by omega), if_neg (by omega)]
  · funext k w; unfold t_G c_G; rw [if_neg (by omega), if_neg (by omega)]
  · rw [(e72 p).2, e31 p]; rfl
theorem x_OFof {args : Array Value} {s : State} {t : Term} {a : Nat} {o n d : String} {v : Int32} {A : Nat → Prop} (ht : t.eval args s none [] s = some (.ref a)) (hf : (Cond.eq (.field t o n d) (.int v)).before args s = true) (hA : ∀ a : Nat, a < s.heap.size → ¬ A a) : va_OF o n d (.int v) a A s s.heap := by
  have hv := va_eqt hf
  cases hfo : s.fieldFound? o n d with
  | none => rw [va_fe ht] at hv; simp [State.fieldOf?, State.fieldNamed?, hfo] at hv
  | some x =>
    obtain ⟨cf, k, fi, f⟩ := x
    obtain ⟨g1, cell, g2, g3, -, -, g6⟩ := Term.field_spec hfo ht hv
    exact ⟨cf, k, fi, f, cell, hfo, g1, g2, g3, g6, hA _ (Array.getElem?_eq_some_iff.mp g2).1⟩
theorem x_Zor {C n d : String} {A : Nat → Prop} {s : State} {H : Heap} (h : va_Zq C n d A s H) : ∃ t : Nat, va_Z C n d .null A s H ∨ va_Z C n d (.ref t) A s H := by
  rcases h with h | ⟨t, h⟩
  · exact ⟨0, Or.inl h⟩
  · exact ⟨t, Or.inr h⟩
theorem x_start {s : State} {b : Nat} (hts : ∀ w ∈ lw_tbl, w.before #[Value.ref b] s = true) (hgv : (Jvm.Cond.and given_1 narrow_1).before #[Value.ref b] s = true) : ∃ E : x_E, E.1 = s.heap.size ∧ x_Kn E s ∧ x_AO s := by
  have htA : ∀ w ∈ lw_all, w.before #[Value.ref b] s = true := fun w h => hts w (lw_all_tbl h)
  have hs := flat_of_before _ hgv
  have hA : ∀ a : Nat, a < s.heap.size → ¬ s.heap.size ≤ a := fun a h => Nat.not_le.mpr h
  obtain ⟨c0, i0, k0⟩ := u_known htA xc_0.2.1 (htA _ q143)
  obtain ⟨c1, i1, k1⟩ := u_known htA xc_1.2.1 (htA _ q151)
  obtain ⟨c2, i2, k2⟩ := u_known htA xc_2.2.1 (htA _ q179)
  obtain ⟨c3, i3, k3⟩ := u_known htA xc_3.2.1 (htA _ q186)
  obtain ⟨c4, i4, k4⟩ := u_known htA xc_4.2.1 (htA _ q267)
  obtain ⟨c5, i5, k5⟩ := u_known htA xc_5.2.1 (htA _ q294)
  obtain ⟨c6, i6, k6⟩ := u_known htA xc_6.2.1 (htA _ q330)
  obtain ⟨c7, i7, k7⟩ := u_known htA xc_7.2.1 (htA _ q1330)
  obtain ⟨c8, i8, k8⟩ := u_known htA xc_8.2.1 (htA _ q493)
  obtain ⟨c9, i9, k9⟩ := u_known htA xc_9.2.1 (htA _ q500)
  obtain ⟨c10, i10, k10⟩ := u_known htA xc_10.2.1 (htA _ q473)
  obtain ⟨c11, i11, k11⟩ := u_known htA xc_11.2.1 (htA _ q562)
  obtain ⟨c12, i12, k12⟩ := u_known htA xc_12.2.1 (htA _ q948)
  obtain ⟨c13, i13, k13⟩ := u_known htA xc_13.2.1 (htA _ q1076)
  obtain ⟨c14, i14, k14⟩ := u_known htA xc_14.2.1 (htA _ q1107)
  obtain ⟨c15, i15, k15⟩ := u_known htA xc_15.2.1 (htA _ q1129)
  obtain ⟨c16, i16, k16⟩ := u_known htA xc_16.2.1 (htA _ q1307)
  obtain ⟨a0, ka0, cm0, fa0, fb0, fc0⟩ := Cond.arrayClass_spec (htA _ q241)
  obtain ⟨a1, ka1, cm1, fa1, fb1, fc1⟩ := Cond.arrayClass_spec (htA _ q291)
  obtain ⟨a2, ka2, cm2, fa2, fb2, fc2⟩ := Cond.arrayClass_spec (htA _ q292)
  obtain ⟨a3, ka3, cm3, fa3, fb3, fc3⟩ := Cond.arrayClass_spec (htA _ q290)
  obtain ⟨cm4, a4, ka4, fd4, -, fb4, fc4, fa4⟩ := Cond.arrayOver_spec (hts _ q163)
  obtain ⟨cm5, a5, ka5, fd5, -, fb5, fc5, fa5⟩ := Cond.arrayOver_spec (hts _ q185)
  obtain ⟨cm6, a6, ka6, fd6, -, fb6, fc6, fa6⟩ := Cond.arrayOver_spec (hts _ q499)
  obtain ⟨cm7, a7, ka7, fd7, -, fb7, fc7, fa7⟩ := Cond.arrayOver_spec (hts _ q1127)
  obtain ⟨cm8, a8, ka8, -, fb8, fc8, fa8⟩ := Cond.arrayOver_specA (hts _ q300)
  obtain ⟨cm9, a9, ka9, -, fb9, fc9, fa9⟩ := Cond.arrayOver_specA (hts _ q302)
  have xg : (Cond.exactly (.static "NextLoad$Result" "GOOD" "LNextLoad$Result;") "NextLoad$Result$1").before #[Value.ref b] s = true := hs _ (by decide +kernel)
  have og : (Cond.eq (.field (.static "NextLoad$Result" "GOOD" "LNextLoad$Result;") "java/lang/Enum" "ordinal" "I") (.int 0)).before #[Value.ref b] s = true := hs _ (by decide +kernel)
  obtain ⟨g, gk, gc, -, g1, g2, g3, -, g5, g6, -⟩ := Cond.exactly_spec xg
  have xf : (Cond.exactly (.static "NextLoad$Result" "FAILED" "LNextLoad$Result;") "NextLoad$Result$2").before #[Value.ref b] s = true := hs _ (by decide +kernel)
  have of : (Cond.eq (.field (.static "NextLoad$Result" "FAILED" "LNextLoad$Result;") "java/lang/Enum" "ordinal" "I") (.int 1)).before #[Value.ref b] s = true := hs _ (by decide +kernel)
  obtain ⟨f, fk, fc, -, f1, f2, f3, -, f5, f6, -⟩ := Cond.exactly_spec xf
  have ru : (Cond.isRef (.static "java/lang/Throwable" "UNASSIGNED_STACK" "[Ljava/lang/StackTraceElement;")).before #[Value.ref b] s = true := hs _ (by decide +kernel)
  obtain ⟨qu, lu⟩ := vx_Zqof (A := fun q => s.heap.size ≤ q) (hts _ q586) (htA _ q126) ru hA
  obtain ⟨tu, zu⟩ := x_Zor qu
  have rw : (Cond.isRef (.static "java/lang/Throwable" "SUPPRESSED_SENTINEL" "Ljava/util/List;")).before #[Value.ref b] s = true := hs _ (by decide +kernel)
  obtain ⟨qw, lw⟩ := vx_Zqof (A := fun q => s.heap.size ≤ q) (hts _ q588) (htA _ q126) rw hA
  obtain ⟨tw, zw⟩ := x_Zor qw
  refine ⟨(s.heap.size, fun k => if k = 0 then g else if k = 1 then f else if k = 2 then tu else tw, (fun k => [c0, c1, c2, c3, c4, c5, c6, c7, c8, c9, c10, c11, c12, c13, c14, c15, c16].getD k c0, fun k => [i0, i1, i2, i3, i4, i5, i6, i7, i8, i9, i10, i11, i12, i13, i14, i15, i16].getD k i0), fun k => [a0, a1, a2, a3, a4, a5, a6, a7, a8, a9].getD k a0), rfl, ⟨⟨?_, ?_⟩, ?_, ⟨?_, ?_, ?_, ?_, lu, lw⟩⟩, ⟨hts _ q300, hts _ q302⟩⟩
  · intro k q hq
    match k, hq with
    | 0, hq => cases hq; exact k0
    | 1, hq => cases hq; exact k1
    | 2, hq => cases hq; exact k2
    | 3, hq => cases hq; exact k3
    | 4, hq => cases hq; exact k4
    | 5, hq => cases hq; exact k5
    | 6, hq => cases hq; exact k6
    | 7, hq => cases hq; exact k7
    | 8, hq => cases hq; exact k8
    | 9, hq => cases hq; exact k9
    | 10, hq => cases hq; exact k10
    | 11, hq => cases hq; exact k11
    | 12, hq => cases hq; exact k12
    | 13, hq => cases hq; exact k13
    | 14, hq => cases hq; exact k14
    | 15, hq => cases hq; exact k15
    | 16, hq => cases hq; exact k16
    | k + 17, hq => simp [x_cl] at hq
  · intro k q hq
    match k, hq with
    | 0, hq => cases hq; exact ⟨fun N z => ⟨(fun k h => by cases h), ka0, fb0, cm0, fc0⟩, fa0⟩
    | 1, hq => cases hq; exact ⟨fun N z => ⟨(fun k h => by cases h), ka1, fb1, cm1, fc1⟩, fa1⟩
    | 2, hq => cases hq; exact ⟨fun N z => ⟨(fun k h => by cases h), ka2, fb2, cm2, fc2⟩, fa2⟩
    | 3, hq => cases hq; exact ⟨fun N z => ⟨(fun k h => by cases h), ka3, fb3, cm3, fc3⟩, fa3⟩
    | 4, hq => cases hq; exact ⟨fun N z => ⟨(fun k h => by cases h), ka4, fb4, cm4, fc4⟩, ⟨ka4, cm4, fb4, fc4, fd4, fa4⟩⟩
    | 5, hq => cases hq; exact ⟨fun N z => ⟨(fun k h => by cases h), ka5, fb5, cm5, fc5⟩, ⟨ka5, cm5, fb5, fc5, fd5, fa5⟩⟩
    | 6, hq => cases hq; exact ⟨fun N z => ⟨(fun k h => by cases h), ka6, fb6, cm6, fc6⟩, ⟨ka6, cm6, fb6, fc6, fd6, fa6⟩⟩
    | 7, hq => cases hq; exact ⟨fun N z => ⟨(fun k h => by cases h), ka7, fb7, cm7, fc7⟩, ⟨ka7, cm7, fb7, fc7, fd7, fa7⟩⟩
    | 8, hq => cases hq; exact ⟨fun N z => ⟨(fun k h => by cases h), ka8, fb8, cm8, fc8⟩, fa8⟩
    | 9, hq => cases hq; exact ⟨fun N z => ⟨(fun k h => by cases h), ka9, fb9, cm9, fc9⟩, fa9⟩
    | k + 10, hq => simp [x_tyl] at hq
  · intro w hw hi
    have h := hts w hw
    cases w with
    | arrayOver t =>
      cases t with
      | object C => exact va_AO.of h
      | _ => simp [x_isN] at hi
    | _ => first | exact va_Nw.of rfl h | (simp [x_isN] at hi; done)
  · exact ⟨va_Zref (hts _ q844) (htA _ q134) g1 hA, ⟨gc, g3, g5, by rw [g6]; exact g2, hA _ (Array.getElem?_eq_some_iff.mp g3).1⟩, x_OFof g1 og hA⟩
  · exact ⟨va_Zref (hts _ q846) (htA _ q134) f1 hA, ⟨fc, f3, f5, by rw [f6]; exact f2, hA _ (Array.getElem?_eq_some_iff.mp f3).1⟩, x_OFof f1 of hA⟩
  · rcases zu with h | h
    · exact ⟨-1, by rw [x_rf_nul]; exact h⟩
    · exact ⟨-4, by simpa [x_rf] using h⟩
  · rcases zw with h | h
    · exact ⟨-1, by rw [x_rf_nul]; exact h⟩
    · exact ⟨-5, by simpa [x_rf] using h⟩
theorem whole_start {p : Program} {e : Env} {s : State} {m : MethodId} {below : List Frame} {meth : Method} {c : Code} (l : Launch) (hflags : l.flags = flags0) {b L : Nat} {xs : Nat → Int32} (hL : L ≤ 320) (C0 : lw_At p s m meth c b L xs) : W p l e room_1 s m #[Value.ref b] below meth c s.heap [] 0 0 (lw_Z below #[Value.ref b] s) (entryFrame m ([Value.ref b] : List Value).toArray 8) := by
  obtain ⟨hx, hbc, hrt, hml, hown, hts, hX, hbl, hlocks, hgv⟩ := id C0
  obtain ⟨E, hE, hKn, hAO⟩ := x_start hts hgv
  have B : x_B p s m #[Value.ref b] meth c code "NextLoadLaw" 8 ret E := ⟨⟨hx, hbc, hml, hown, fun w h => hts w (lw_all_tbl h)⟩, hrt, hlocks, hKn, Nat.le_of_eq hE⟩
  have hst : l.stackTraces = false := by unfold Launch.stackTraces; rw [hflags]; decide +kernel
  obtain ⟨X0, hX0⟩ : ∃ X0 : x_X, X0 (-1) 0 = 0 := ⟨fun _ _ => 0, rfl⟩
  have G : x_G p l e room_1 s m #[Value.ref b] below meth c 8 E 0 0 (lw_Z below #[Value.ref b] s) (fun _ => none) 0 [some (Value.ref b), none, none, none, none, none, none, none] [] X0 := by
    refine x_new B xc_0 q142 q143 q110 (xd_0 E) xe_0 (by show _ ≤ 601024; omega) (by show _ ≤ 7293034; omega) dL_law_0 (fun z_0 n_0 => ?_)
    rw [hX0]
    obtain ⟨X1, hX1⟩ : ∃ X1, X1 = x_nw X0 (x_df 0) := ⟨_, rfl⟩
    rw [← hX1]
    have s1 : X1 (-1) 0 = 1 := by simp [hX1, x_nw, hX0]
    have f1 : X1 0 = x_df 0 := by rw [hX1]; funext i; unfold x_nw; rw [if_neg (by omega), hX0, if_pos rfl]
    refine x_dup B dL_law_3 (by first | rfl | exact x_cr _ _) ?_
    refine x_go (x_rIA B hAO (by omega) (c_X1_init rfl s1 f1) q144 q145 q110 q146 rfl hd_X1_init ⟨Nat.le_of_ble_eq_true rfl, Nat.le_of_ble_eq_true rfl⟩ ⟨by show _ ≤ 601024; omega, by show _ ≤ 7293034; omega⟩ rfl rfl (by simp [x_cr, x_c1, x_c2]) dL_law_4) (fun v_4 X_4 p_4 => ?_)
    obtain ⟨rfl, y1, y2, y3, y4, y5, y6, y7⟩ := p_4
    refine x_ast_1 B dL_law_7 (by first | rfl | exact x_cr _ _) ?_
    refine x_new B xc_7 q1329 q1330 q122 (xd_7 E) xe_7 (by show _ ≤ 601024; omega) (by show _ ≤ 7293034; omega) dL_law_8 (fun z_8 n_8 => ?_)
    rw [y1]
    obtain ⟨X2, hX2⟩ : ∃ X2, X2 = x_nw X_4 (x_df 7) := ⟨_, rfl⟩
    rw [← hX2]
    have s2 : X2 (-1) 0 = 65 := by simp [hX2, x_nw, y1]
    have f2 : X2 64 = x_df 7 := by rw [hX2]; funext i; unfold x_nw; rw [if_neg (by omega), y1, if_pos rfl]
    have o2 : ∀ a, a ≠ -1 → a ≠ 64 → X2 a = X_4 a := fun a q1 q2 => by rw [hX2]; funext i; unfold x_nw; rw [if_neg (fun z => q1 z.1), y1, if_neg q2]
    refine x_dup B dL_law_11 (by first | rfl | exact x_cr _ _) ?_
    refine x_go (x_rI B (by omega) (c_X8_init s2 (x_ku_s _ _ _) f2) q1331 q1332 q122 q1333 rfl hd_X8_init ⟨Nat.le_of_ble_eq_true rfl, Nat.le_of_ble_eq_true rfl⟩ ⟨by show _ ≤ 601024; omega, by show _ ≤ 7293034; omega⟩ rfl rfl (by simp [x_cr, x_c1, x_c2]) dL_law_12) (fun v_12 X_12 p_12 => ?_)
    obtain ⟨rfl, w1, w2, w3, w4⟩ := p_12
    refine x_ast_2 B dL_law_15 (by first | rfl | exact x_cr _ _) ?_
    refine x_iconst B dL_law_16 ?_
    refine x_newa B (t := 1) (atype := .long) (n := 1) rfl q291 (fun h => h) rfl ⟨by decide, by decide⟩ rfl ⟨by omega, by omega⟩ (by decide) (by show _ ≤ 601024; omega) (by show _ ≤ 7293034; omega) dL_law_17 (fun z_17 n_17 => ?_)
    rw [w2]
    obtain ⟨X3, hX3⟩ : ∃ X3, X3 = x_nw X_12 (fun _ => 0) := ⟨_, rfl⟩
    rw [← hX3]
    have s3 : X3 (-1) 0 = 88 := by simp [hX3, x_nw, w2]
    have o3 : ∀ a, a ≠ -1 → a ≠ 87 → X3 a = X_12 a := fun a q1 q2 => by rw [hX3]; funext i; unfold x_nw; rw [if_neg (fun z => q1 z.1), w2, if_neg q2]
    have oo : ∀ a, a ≠ -1 → a < 64 → X3 a = X_4 a := fun a q1 q2 => by rw [o3 a q1 (by omega), w1 a q1 (by omega), o2 a q1 (by omega)]
    refine x_ast_3 B dL_law_19 (by first | rfl | exact x_cr _ _) ?_
    refine x_iconst B dL_law_20 ?_
    refine x_istw_4 B dL_law_21 (by first | rfl | exact x_cr _ _) ?_
    refine x_sub (k_sub (l := k_a0) (by decide +kernel)) ?_
    refine x_wide (cells' := 90 + 4000 * 0) (slots' := 247453 + 8000 * 0) (by omega) (by omega) ?_
    refine x_eqLw (L' := [some (Value.ref b), some (x_rf E 0), some (x_rf E 64), some (x_rf E 87), some (vi (5 * ((0 : Nat) : Int))), none, none, none]) rfl ?_
    have e0 := oo 0 (by omega) (by omega)
    have e1 := oo 1 (by omega) (by omega)
    have e64 := o3 64 (by omega) (by omega)
    exact lw_loop B hX (by rw [hE]; exact hbl) hE hst hL (L + 1) 0 _ _ (Rel_0 k_a0_T (by decide +kernel) (by decide +kernel) (by decide +kernel) s3 (by rw [e0]; exact y2) (by rw [e1]; exact y3) (by rw [oo 31 (by omega) (by omega)]; exact y4) (by rw [oo 38 (by omega) (by omega)]; exact y5) (fun u u1 u2 k => by rw [oo _ (by omega) (by omega)]; exact y6 u u1 u2 k) (by rw [oo 3 (by omega) (by omega)]; exact y7) (by rw [e64]; exact w3) (fun k => by rw [o3 72 (by omega) (by omega), o3 75 (by omega) (by omega)]; exact w4 k)) (by omega) (by omega)
  rw [lg_entry_eq]
  exact G s.heap [] _ ⟨by rw [hX0, hE]; omega, fun a k h => by cases h⟩ va_S.rf (x_entry (q := [(false, .ref b)]) (k := 7) rfl ⟨rfl, trivial⟩ rfl rfl)
