/-! ===== the law's rows; both sides' answers are the same ===== -/
def z_S (xs : Nat → Int32) (i : Int) : Int := (xs i.toNat).toInt
theorem z_S_R (xs : Nat → Int32) (i : Int) : xR (z_S xs i) := xI_rng _
section LWR
variable {p : Program} {l : Launch} {e : Env} {R : Room} {s : State} {m : MethodId} {args : Array Value} {below : List Frame} {meth : Method} {c : Code} {nL : Nat} {E : x_E} {cells slots : Nat} {Q : State → Prop} {κ : x_Ka}
variable {cc : ByteArray} {own : String} {ret : Option FieldType} {pc : Nat} {L : List (Option Value)} {st : List Value} {X : x_X}
theorem x_sld (B : x_B p s m args meth c cc own nL ret E) {b Ln : Nat} {xs : Nat → Int32} (hX : va_X b Ln xs s s.heap) (hb : b < E.1) (hE : E.1 = s.heap.size) {i : Int} (hi : 0 ≤ i ∧ i < Ln) (hL3 : Ln ≤ 320) (d : decode cc pc = .ok (.iaload, 1)) (k : x_G p l e R s m args below meth c nL E cells slots Q κ (pc + 1) L (vi (z_S xs i) :: st) X) : x_G p l e R s m args below meth c nL E cells slots Q κ pc L (vi i :: .ref b :: st) X := by
  intro H locs ls hH hS hL
  have hr : xR i := ⟨by omega, by omega⟩
  have hc : (xI i).toNatClampNeg = i.toNat := xI_clamp hr
  refine va_sld (A := fun q => E.1 ≤ q) B.1.1 B.1.2.1 hX (by omega) (by omega) hS (fun h => ?_) d ?_
  · rcases h with h | h
    · rw [show (0 : Int32) = xI 0 from rfl, xI_lt hr (by decide)] at h; omega
    · rw [hc] at h; omega
  · rw [hc]
    have k2 := k H locs ls hH hS hL
    have e1 : vi (z_S xs i) = .int (xs i.toNat) := congrArg Value.int (xI_of _)
    rw [e1] at k2
    exact k2
theorem x_slen (B : x_B p s m args meth c cc own nL ret E) {b Ln : Nat} {xs : Nat → Int32} (hX : va_X b Ln xs s s.heap) (hb : b < E.1) (hE : E.1 = s.heap.size) (d : decode cc pc = .ok (.arraylength, 1)) (k : x_G p l e R s m args below meth c nL E cells slots Q κ (pc + 1) L (vi (Ln : Int) :: st) X) : x_G p l e R s m args below meth c nL E cells slots Q κ pc L (.ref b :: st) X := by
  intro H locs ls hH hS hL
  exact va_slen (A := fun q => E.1 ≤ q) B.1.1 B.1.2.1 hX (by omega) (by omega) hS d (k H locs ls hH hS hL)
theorem x_aldr (B : x_B p s m args meth c cc own nL ret E) {b : Nat} {i : Fin 4} (d : decode cc pc = .ok (.aload_n i, 1)) (h : L[(i : Nat)]? = some (some (.ref b))) (k : x_G p l e R s m args below meth c nL E cells slots Q κ (pc + 1) L (.ref b :: st) X) : x_G p l e R s m args below meth c nL E cells slots Q κ pc L st X :=
  fun H locs ls hH hS hL => lv_aload_n B.1.1 B.1.2.1 d rfl (hL.2.2.2 _ _ h) (k H locs ls hH hS hL)
/-- like answers: it goes on -/
theorem x_icmpS (B : x_B p s m args meth c cc own nL ret E) {a b off : Int} {tgt : Nat} (d : decode cc pc = .ok (.if_icmp .eq off, 3)) (ht : (pc : Int) + off = (tgt : Int)) (e9 : b = a) (kt : x_G p l e R s m args below meth c nL E cells slots Q κ tgt L st X) : x_G p l e R s m args below meth c nL E cells slots Q κ pc L (vi b :: vi a :: st) X := by
  subst e9
  exact fun H locs ls hH hS hL => lv_icmp_eq B.1.1 B.1.2.1 d ht (fun h => kt H locs ls hH hS hL) (fun h => absurd rfl h)
end LWR
/-! views at two stores: the component's at X, the twin's at Y -/
section LEQ
variable {κ : x_Ka} {X Y : x_X}
theorem q8_eq (hV : EV X Y) (hC : n_C κ X) {i : Int} (hi : 0 ≤ i ∧ i < X 1 2) {A A2 : Int → Int} (hA : ∀ v, 0 ≤ v → v ≤ 120 → A v = A2 v) : q8_pl Y A i = q_plan X A2 i := by
  obtain ⟨e1, e2, e3, e4, e5, e6⟩ := hV
  obtain ⟨hI, hP, hO, hW, hJ⟩ := hC
  unfold q8_pl q_plan
  rw [e2, e5, e6]
  refine p_now_c (fun _ _ _ _ _ => rfl) (fun t t1 t2 => ⟨(c_p3_pl ⟨t1, by omega⟩ ⟨by omega, by omega⟩).symm, (c_p3_pl ⟨t1, by omega⟩ ⟨by omega, by omega⟩).symm, (c_p3_pl ⟨t1, by omega⟩ ⟨by omega, by omega⟩).symm⟩) hA (fun t t1 t2 => ?_) hW hi.1 hi.2 (hW.2.1 i hi.1 hi.2).2.1.1
  have := c_p3_r hP i hi.1 hi.2 t t1 (by omega)
  omega
theorem q8_ch_eq (hV : EV X Y) (hC : n_C κ X) {i : Int} (hi : 0 ≤ i ∧ i < X 1 2) (w : Int) : q8_ch Y i w = q_ch X i w := q8_eq hV hC hi (fun _ _ _ => rfl)
theorem li_eq (hV : EV X Y) : t_li Y = c_li X := by unfold t_li c_li; rw [hV.2.2.1, hV.2.2.2.1]
theorem q8_bt_eq (hV : EV X Y) (hC : n_C κ X) {i j : Int} (hj : 0 ≤ j ∧ j < X 1 2) : q8_bt Y i j = q_bt X i j := by
  funext v
  unfold q8_bt g_bt q_bt
  rw [li_eq hV, q8_ch_eq hV hC hj]
theorem q8_wn_eq (hV : EV X Y) (hC : n_C κ X) (i : Int) : g_wn (q8_bt Y) (Y 64 3) i = q_wn X i := by
  have h : ∀ (v : Int) (k : Nat), (k : Int) ≤ X 1 2 → g_wf (q8_bt Y) i v k = q_wf X i v k := by
    intro v k
    induction k with
    | zero => intro _; rfl
    | succ k ih =>
      intro hk
      unfold g_wf q_wf
      rw [ih (by omega), q8_bt_eq hV hC ⟨by omega, by omega⟩]
  funext v
  unfold g_wn q_wn
  rw [hV.1, h v _ (by have := hC.1.2.2.1; omega)]
theorem q8_fr_eq (hV : EV X Y) (A : Int → Int) (i : Int) : q8_fr Y A i = q_free X A i ∧ q8_lf Y A i = q_lf X A i := by
  unfold q8_fr q_free q8_lf q_lf
  rw [hV.2.1, hV.2.2.2.2.2]
  exact ⟨rfl, rfl⟩
theorem q8_aim_eq (hV : EV X Y) (i z : Int) : q8_aim Y i z = q_aim X i z := by
  unfold q8_aim q_aim
  rw [show (fun w => q8_fr Y (a_rc w) i) = (fun w => q_free X (a_rc w) i) from funext fun w => (q8_fr_eq hV _ _).1]
theorem q8_li_eq (hV : EV X Y) (hC : n_C κ X) (i w g : Int) : q8_li Y i w g = q_li X i w g := by
  unfold q8_li q_li q8_lA q_lA
  rw [hV.2.1, hV.2.2.2.2.2, q8_wn_eq hV hC]
theorem q8_dv_eq (hV : EV X Y) (i j : Int) : q8_dv Y i j = q_dv X i j := by
  unfold q8_dv q_dv
  rw [li_eq hV, hV.2.1, hV.2.2.2.1, hV.2.2.2.2.2]
theorem q8_ms_eq (hV : EV X Y) {i t : Int} (ht : 0 ≤ t ∧ t < 3) : b_m (t_O Y i t) (t_p3 Y i t 2) 3 0 (t_p3 Y i t 0) 1000000 = q_ms X i t (c_pl X i t 0) (c_pl X i t 2) := by
  unfold q_ms
  rw [hV.2.2.2.2.2, hV.2.2.2.2.1, c_p3_pl ht ⟨by omega, by omega⟩, c_p3_pl ht ⟨by omega, by omega⟩]
theorem q8_op_eq (hV : EV X Y) (i t w : Int) : o_f (fun x => b_m (t_O Y i t) 0 3 0 x 1000000) w 40 = o_f (fun x => q_ms X i t x 0) w 40 := by
  unfold q_ms
  rw [hV.2.2.2.2.2]
theorem q8_ru_eq (hV : EV X Y) : q_ru8 Y = q_run X := by
  funext d M c G
  unfold q_ru8 q_run
  rw [hV.1, hV.2.2.2.1, hV.2.2.2.2.1, hV.2.2.2.2.2]
theorem q8_d_eq (hV : EV X Y) (hC : n_C κ X) {i : Int} (hi : 0 ≤ i ∧ i < X 1 2) : (fun w => q8_ch Y i w - q8_ch Y i (w + 1)) = q_d X i := by
  funext w
  unfold q_d
  rw [q8_ch_eq hV hC hi, q8_ch_eq hV hC hi]
theorem u_lfr_eq (hV : EV X Y) (i t w : Int) : u_lfr (Y 64 3) (t_body Y) (t_lot Y) (t_p3 Y) (t_M Y) i t w = u_lfr (X 1 2) (c_body X) (c_lot X) (c_pl X) (c_M X 3) i t w := by
  obtain ⟨e1, e2, e3, e4, e5, e6⟩ := hV
  rw [e1, e2, e3, e4, e5]
  unfold u_lfr
  by_cases q : x_in i 0 (X 1 2 - 1) = 1 ∧ x_in t 0 2 = 1
  · have ht : 0 ≤ t ∧ t < 3 := by
      have q2 := q.2
      unfold x_in at q2
      split at q2
      · omega
      · omega
    rw [if_pos q, if_pos q, c_p3_pl ht ⟨by omega, by omega⟩, c_p3_pl ht ⟨by omega, by omega⟩, c_p3_pl ht ⟨by omega, by omega⟩]
  · rw [if_neg q, if_neg q]
theorem gd_eq (hG : EG X Y) (hg : t_gd Y) (h12 : 0 ≤ X 0 12) : Y 64 14 = g_sm (fun k => X 36 k) (X 0 12).toNat := by
  rw [hg.1, hG.2, hG.1]
  refine g_sm_c _ (fun k k1 k2 => ?_)
  unfold c_G
  rw [if_pos ⟨k1, by omega⟩, if_neg (by omega), if_neg (by omega), if_neg (by omega), if_pos rfl]
theorem x_in_i {i n : Int} (h : x_in i 0 (n - 1) = 1) : 0 ≤ i ∧ i < n := by
  unfold x_in at h
  split at h <;> omega
end LEQ
