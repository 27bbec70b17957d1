theorem x_up_o (X : x_X) {a a' i z : Int} (h : a' ≠ a) : x_up X a i z a' = X a' := by
  funext j
  exact x_up_n X (Or.inl h)
theorem x_sv0 (E : x_E) (z : Int) : x_sv E 0 z = vi z := rfl
theorem x_sv1 (E : x_E) (z : Int) : x_sv E 1 z = vl z := rfl
theorem x_sv2 (E : x_E) (z : Int) : x_sv E 2 z = x_rf E z := rfl
theorem x_sv3 (E : x_E) (z : Int) : x_sv E 3 z = vi z := rfl
theorem x_sv4 (E : x_E) (z : Int) : x_sv E 4 z = vi z := rfl
/-- one cell has changed -/
theorem x_H.set {E : x_E} {κ : x_Ka} {X X' : x_X} {H H1 : Heap} {a : Int} {kd : x_k} (hH : x_H E κ X H) (hz : H1.size = H.size) (ho : ∀ q : Nat, q ≠ E.1 + a.toNat → H1[q]? = H[q]?) (ha : κ a = some kd) (hok : x_ok E kd a (X' a) H1) (hX : ∀ a', a' ≠ a → X' a' = X a') : x_H E κ X' H1 := by
  have ha0 := (hH.2 a kd ha).1
  refine ⟨by rw [hz, hX (-1) (by omega)]; exact hH.1, fun b k hb => ?_⟩
  by_cases h : b = a
  · subst h
    cases ha.symm.trans hb
    exact ⟨ha0, hok⟩
  · obtain ⟨hb0, hb1⟩ := hH.2 b k hb
    rw [hX b h]
    exact ⟨hb0, hb1.kept (ho _ (by omega))⟩
theorem x_S_put {E : x_E} {H0 H H1 : Heap} {locs : List Loc} {a i : Nat} (h : va_S (fun q => E.1 ≤ q) H0 H locs) (z : H1.size = H.size) (o : ∀ q : Nat, q ≠ a → H1[q]? = H[q]?) (ha : E.1 ≤ a) : va_S (fun q => E.1 ≤ q) H0 H1 (locs ++ [⟨a, i⟩]) := va_S.put h z o ha
/-- a field of an object is written -/
theorem x_ok.field {E : x_E} {H1 : Heap} {a : Int} {ci b k N : Nat} {C : String} {T : u_T} {X : x_X} {z j : Int} {cell : Cell} (hj : (k : Int) = j) (hc : x_cl[ci]? = some (C, T, N)) (hk : k < N) (e1 : H1[E.1 + a.toNat]? = some (cell.setSlot (E.2.2.1.2 ci k) (x_sv E (x_tg ci k) z))) (q2 : cell.cls = E.2.2.1.1 ci) (q3 : cell.vm = .none) (q4 : ∀ k, k < N → cell.slots[E.2.2.1.2 ci k]? = some (x_sv E (x_tg ci k) (X a k)))
    (hap : ∀ y, y < N → y ≠ k → E.2.2.1.2 ci y ≠ E.2.2.1.2 ci k) (hrg : ∀ j : Nat, x_rg (x_tg ci j) (X a j)) (hz : x_rg (x_tg ci k) z) (hfx : b = 1 → ∀ (j : Nat) (q : Nat × Int × x_k), x_fx ci j = some q → X a j = x_z q a) (hno : b = 1 → x_fx ci k = none) : x_ok E (.inl (ci, b)) a (x_up X a j z a) H1 := by
  subst hj
  refine ⟨⟨_, hc, _, e1, q2, q3, fun y hy => ?_⟩, fun y => ?_, fun hb y q hq => ?_⟩
  · show (cell.setSlot (E.2.2.1.2 ci k) (x_sv E (x_tg ci k) z)).slots[E.2.2.1.2 ci y]? = some (x_sv E (x_tg ci y) (x_up X a k z a y))
    by_cases h : y = k
    · subst h
      rw [x_up_s, Cell.slots_setSlot_self _ (k2_hasslot (q4 y hy))]
    · rw [x_up_n X (Or.inr (show (y : Int) ≠ (k : Int) by omega)), Cell.slots_setSlot_ne _ (Ne.symm (hap y hy h))]
      exact q4 y hy
  · by_cases h : y = k
    · subst h; rw [x_up_s]; exact hz
    · rw [x_up_n X (Or.inr (by omega))]; exact hrg y
  · by_cases h : y = k
    · subst h; rw [hno hb] at hq; cases hq
    · rw [x_up_n X (Or.inr (by omega))]; exact hfx hb y q hq
/-- an array's place is written -/
theorem x_ok.elem {E : x_E} {H1 : Heap} {a : Int} {t : Nat} {n : Int} {X : x_X} {z i : Int} (e1 : H1[E.1 + a.toNat]? = some ((arrV (E.2.2.2 (x_ac t)) n.toNat (fun j => x_sv E (x_at t) (X a j))).setSlot i.toNat (x_sv E (x_at t) z))) (hi : 0 ≤ i ∧ i < n) (hrg : ∀ j : Int, 0 ≤ j → j < n → x_rg (x_at t) (X a j)) (hz : x_rg (x_at t) z) (hn : 0 ≤ n ∧ n ≤ 100000) (haf : x_af t = none) : x_ok E (.inr (t, n)) a (x_up X a i z a) H1 := by
  refine ⟨?_, fun y h1 h2 => ?_, hn, fun q hq => by rw [haf] at hq; cases hq⟩
  · rw [e1, arrV_store]
    congr 2
    funext y
    unfold updV
    by_cases h : y = i.toNat
    · subst h
      rw [if_pos rfl, show ((i.toNat : Nat) : Int) = i by omega, x_up_s]
    · rw [if_neg h, x_up_n X (Or.inr (by omega))]
  · by_cases h : y = i
    · subst h; rw [x_up_s]; exact hz
    · rw [x_up_n X (Or.inr h)]; exact hrg y h1 h2
section XH
variable {p : Program} {l : Launch} {e : Env} {R : Room} {s : State} {m : MethodId} {args : Array Value} {below : List Frame} {meth : Method} {c : Code} {nL : Nat} {E : x_E} {cells slots : Nat} {Q : State → Prop} {κ : x_Ka}
variable {cc : ByteArray} {own : String} {ret : Option FieldType} {pc : Nat} {L : List (Option Value)} {st : List Value} {X : x_X}
theorem x_get0 (B : x_B p s m args meth c cc own nL ret E) {ci k N idx b : Nat} {C ref : String} {T : u_T} {ty : Nat → FieldType} {a : Int} (hc : x_ci ci C T N ty) (hk : k < N) (hκ : κ a = some (.inl (ci, b))) (hlk : Cond.fieldLink own idx ref (T k).2.1 (T k).2.2.1 ∈ lw_all ∨ Cond.fieldLinkNest own idx ref (T k).2.1 (T k).2.2.1 "NextLoad" ∈ lw_tbl) (hsame : ∀ x, s.fieldFound? (T k).1 (T k).2.1 (T k).2.2.1 = some x → s.fieldFound? ref (T k).2.1 (T k).2.2.1 = some x) (d : decode cc pc = .ok (.getfield idx, 3)) (kk : (x_rg (x_tg ci k) (X a k)) → x_G p l e R s m args below meth c nL E cells slots Q κ (pc + 3) L (x_sv E (x_tg ci k) (X a k) :: st) X) : x_G p l e R s m args below meth c nL E cells slots Q κ pc L (x_rf E a :: st) X := by
  intro H locs ls hH hS hL
  obtain ⟨ha, ⟨r, hr, cell, q1, q2, q3, q4⟩, hrg, -⟩ := hH.2 a _ hκ
  have hr' : r = (C, T, N) := Option.some.inj (hr.symm.trans hc.1)
  subst hr'
  obtain ⟨hSl, hfc, kC, hkC, hkind⟩ := B.2.2.2.1.1.1 ci _ hc.1
  obtain ⟨cf, kf, fi, f, hi, hsl⟩ := hSl k hk
  rw [x_rf_pos E ha]
  have hstat := (u_facts hfc hkC (u_lays B.1.2.2.2.2 hc.2.1 hk) hi).1
  have hslot : cell.slots[f.slot]? = some (x_sv E (x_tg ci k) (X a k)) := by rw [hsl]; exact q4 k hk
  rcases hlk with h | h
  · exact W.getf B.1.1 B.1.2.1 B.1.2.2.2.1 (B.1.2.2.2.2 _ h) (hsame _ hi) hstat q1 (by rw [q3]; intro h; cases h) hslot rfl rfl d (kk (hrg k) H locs ls hH hS hL)
  · exact va_Wgetf B.1.1 B.1.2.1 B.1.2.2.2.1 (va_Nw.use rfl (B.2.2.2.1.2.1 _ h rfl)) (hsame _ hi) hstat q1 (by rw [q3]; intro h; cases h) hslot rfl rfl d (kk (hrg k) H locs ls hH hS hL)
theorem x_getI (B : x_B p s m args meth c cc own nL ret E) {ci k N idx b : Nat} {C ref : String} {T : u_T} {ty : Nat → FieldType} {a : Int} (j : Int) (hj : (k : Int) = j) (ht : x_tg ci k = 0) (hc : x_ci ci C T N ty) (hk : k < N) (hκ : κ a = some (.inl (ci, b))) (hlk : Cond.fieldLink own idx ref (T k).2.1 (T k).2.2.1 ∈ lw_all ∨ Cond.fieldLinkNest own idx ref (T k).2.1 (T k).2.2.1 "NextLoad" ∈ lw_tbl) (hsame : ∀ x, s.fieldFound? (T k).1 (T k).2.1 (T k).2.2.1 = some x → s.fieldFound? ref (T k).2.1 (T k).2.2.1 = some x) (d : decode cc pc = .ok (.getfield idx, 3)) (kk : xR (X a j) → x_G p l e R s m args below meth c nL E cells slots Q κ (pc + 3) L (vi (X a j) :: st) X) : x_G p l e R s m args below meth c nL E cells slots Q κ pc L (x_rf E a :: st) X := by
  subst hj
  refine x_get0 B hc hk hκ hlk hsame d (fun hr => ?_)
  rw [ht] at hr ⊢
  exact kk hr
theorem x_getZ (B : x_B p s m args meth c cc own nL ret E) {ci k N idx b : Nat} {C ref : String} {T : u_T} {ty : Nat → FieldType} {a : Int} (j : Int) (hj : (k : Int) = j) (ht : x_tg ci k = 3) (hc : x_ci ci C T N ty) (hk : k < N) (hκ : κ a = some (.inl (ci, b))) (hlk : Cond.fieldLink own idx ref (T k).2.1 (T k).2.2.1 ∈ lw_all ∨ Cond.fieldLinkNest own idx ref (T k).2.1 (T k).2.2.1 "NextLoad" ∈ lw_tbl) (hsame : ∀ x, s.fieldFound? (T k).1 (T k).2.1 (T k).2.2.1 = some x → s.fieldFound? ref (T k).2.1 (T k).2.2.1 = some x) (d : decode cc pc = .ok (.getfield idx, 3)) (kk : (0 ≤ X a j ∧ X a j ≤ 1) → x_G p l e R s m args below meth c nL E cells slots Q κ (pc + 3) L (vi (X a j) :: st) X) : x_G p l e R s m args below meth c nL E cells slots Q κ pc L (x_rf E a :: st) X := by
  subst hj
  refine x_get0 B hc hk hκ hlk hsame d (fun hr => ?_)
  rw [ht] at hr ⊢
  exact kk hr
theorem x_getR (B : x_B p s m args meth c cc own nL ret E) {ci k N idx b : Nat} {C ref : String} {T : u_T} {ty : Nat → FieldType} {a : Int} (j : Int) (hj : (k : Int) = j) (ht : x_tg ci k = 2) (hc : x_ci ci C T N ty) (hk : k < N) (hκ : κ a = some (.inl (ci, b))) (hlk : Cond.fieldLink own idx ref (T k).2.1 (T k).2.2.1 ∈ lw_all ∨ Cond.fieldLinkNest own idx ref (T k).2.1 (T k).2.2.1 "NextLoad" ∈ lw_tbl) (hsame : ∀ x, s.fieldFound? (T k).1 (T k).2.1 (T k).2.2.1 = some x → s.fieldFound? ref (T k).2.1 (T k).2.2.1 = some x) (d : decode cc pc = .ok (.getfield idx, 3)) (kk : x_G p l e R s m args below meth c nL E cells slots Q κ (pc + 3) L (x_rf E (X a j) :: st) X) : x_G p l e R s m args below meth c nL E cells slots Q κ pc L (x_rf E a :: st) X := by
  subst hj
  refine x_get0 B hc hk hκ hlk hsame d (fun hr => ?_)
  rw [ht] at hr ⊢
  exact kk
theorem x_getC (B : x_B p s m args meth c cc own nL ret E) {ci k N idx : Nat} {C ref : String} {T : u_T} {ty : Nat → FieldType} {a : Int} {q : Nat × Int × x_k} (hT : x_T κ) (hq : x_fx ci k = some q) (ht : x_tg ci k = 2) (hc : x_ci ci C T N ty) (hk : k < N) (hκ : κ a = some (.inl (ci, 1))) (hlk : Cond.fieldLink own idx ref (T k).2.1 (T k).2.2.1 ∈ lw_all ∨ Cond.fieldLinkNest own idx ref (T k).2.1 (T k).2.2.1 "NextLoad" ∈ lw_tbl) (hsame : ∀ x, s.fieldFound? (T k).1 (T k).2.1 (T k).2.2.1 = some x → s.fieldFound? ref (T k).2.1 (T k).2.2.1 = some x) (d : decode cc pc = .ok (.getfield idx, 3)) (kk : κ (x_z q a) = some q.2.2 → x_G p l e R s m args below meth c nL E cells slots Q κ (pc + 3) L (x_rf E (x_z q a) :: st) X) : x_G p l e R s m args below meth c nL E cells slots Q κ pc L (x_rf E a :: st) X := by
  intro H locs ls hH hS hL
  have hf := (hH.2 a _ hκ).2.2.2 rfl k q hq
  refine x_get0 B hc hk hκ hlk hsame d (fun _ => ?_) H locs ls hH hS hL
  rw [ht, hf]
  exact kk (hT.1 a ci hκ k q hq)
theorem x_getC0 (B : x_B p s m args meth c cc own nL ret E) {ci k N idx : Nat} {C ref : String} {T : u_T} {ty : Nat → FieldType} {a : Int} {z : Int} {kd : x_k} (hT : x_T κ) (hq : x_fx ci k = some (0, z, kd)) (ht : x_tg ci k = 2) (hc : x_ci ci C T N ty) (hk : k < N) (hκ : κ a = some (.inl (ci, 1))) (hlk : Cond.fieldLink own idx ref (T k).2.1 (T k).2.2.1 ∈ lw_all ∨ Cond.fieldLinkNest own idx ref (T k).2.1 (T k).2.2.1 "NextLoad" ∈ lw_tbl) (hsame : ∀ x, s.fieldFound? (T k).1 (T k).2.1 (T k).2.2.1 = some x → s.fieldFound? ref (T k).2.1 (T k).2.2.1 = some x) (d : decode cc pc = .ok (.getfield idx, 3)) (kk : κ z = some kd → x_G p l e R s m args below meth c nL E cells slots Q κ (pc + 3) L (x_rf E z :: st) X) : x_G p l e R s m args below meth c nL E cells slots Q κ pc L (x_rf E a :: st) X := x_getC B hT hq ht hc hk hκ hlk hsame d kk
theorem x_getC1 (B : x_B p s m args meth c cc own nL ret E) {ci k N idx : Nat} {C ref : String} {T : u_T} {ty : Nat → FieldType} {a : Int} {z : Int} {kd : x_k} (hT : x_T κ) (hq : x_fx ci k = some (1, z, kd)) (ht : x_tg ci k = 2) (hc : x_ci ci C T N ty) (hk : k < N) (hκ : κ a = some (.inl (ci, 1))) (hlk : Cond.fieldLink own idx ref (T k).2.1 (T k).2.2.1 ∈ lw_all ∨ Cond.fieldLinkNest own idx ref (T k).2.1 (T k).2.2.1 "NextLoad" ∈ lw_tbl) (hsame : ∀ x, s.fieldFound? (T k).1 (T k).2.1 (T k).2.2.1 = some x → s.fieldFound? ref (T k).2.1 (T k).2.2.1 = some x) (d : decode cc pc = .ok (.getfield idx, 3)) (kk : κ (a + z) = some kd → x_G p l e R s m args below meth c nL E cells slots Q κ (pc + 3) L (x_rf E (a + z) :: st) X) : x_G p l e R s m args below meth c nL E cells slots Q κ pc L (x_rf E a :: st) X := x_getC B hT hq ht hc hk hκ hlk hsame d kk
theorem x_put0 (B : x_B p s m args meth c cc own nL ret E) {ci k N idx b : Nat} {C ref : String} {T : u_T} {ty : Nat → FieldType} {a : Int} {z : Int} {v : Value} (j : Int) (hj : (k : Int) = j) (hv : v = x_sv E (x_tg ci k) z) (hz : x_rg (x_tg ci k) z) (hn : narrow (ty k) v = v) (hfit : fits (ty k) v = true) (hc : x_ci ci C T N ty) (hk : k < N) (hfin : (T k).2.2.2 = false) (hnm : ∀ y, y < N → y ≠ k → (T y).2.1 ≠ (T k).2.1) (hno : b = 1 → x_fx ci k = none) (hκ : κ a = some (.inl (ci, b))) (hlk : Cond.fieldLink own idx ref (T k).2.1 (T k).2.2.1 ∈ lw_all ∨ Cond.fieldLinkNest own idx ref (T k).2.1 (T k).2.2.1 "NextLoad" ∈ lw_tbl) (hsame : ∀ x, s.fieldFound? (T k).1 (T k).2.1 (T k).2.2.1 = some x → s.fieldFound? ref (T k).2.1 (T k).2.2.1 = some x) (d : decode cc pc = .ok (.putfield idx, 3)) (kk : x_G p l e R s m args below meth c nL E cells slots Q κ (pc + 3) L (st) (x_up X a j z)) : x_G p l e R s m args below meth c nL E cells slots Q κ pc L (v :: x_rf E a :: st) X := by
  intro H locs ls hH hS hL
  obtain ⟨ha, ⟨r, hr, cell, q1, q2, q3, q4⟩, hrg, hfx⟩ := hH.2 a _ hκ
  have hr' : r = (C, T, N) := Option.some.inj (hr.symm.trans hc.1)
  subst hr'
  obtain ⟨hSl, hfc, kC, hkC, hkind⟩ := B.2.2.2.1.1.1 ci _ hc.1
  have hts := B.1.2.2.2.2
  have hap : ∀ y, y < N → y ≠ k → E.2.2.1.2 ci y ≠ E.2.2.1.2 ci k := by
    intro y hy hyk
    obtain ⟨_, _, _, fa, hia, ea⟩ := hSl y hy
    obtain ⟨_, _, _, fb, hib, eb⟩ := hSl k hk
    rw [← ea, ← eb]
    refine u_apart (u_lays hts hc.2.1 hy) (u_lays hts hc.2.1 hk) hia hib ?_
    rw [(State.fieldFound?_type hia (hc.2.2 y hy)).1, (State.fieldFound?_type hib (hc.2.2 k hk)).1]
    exact hnm y hy hyk
  obtain ⟨cf, kf, fi, f, hi, hsl⟩ := hSl k hk
  have hlay := hts _ (hc.2.1 _ (u_in_lay hk))
  unfold u_lay at hlay
  rw [if_neg (by rw [hfin]; decide)] at hlay
  have hst := (u_facts hfc hkC (u_lays hts hc.2.1 hk) hi).1
  have h6 := u_store hfc hkC hkind hlay hi (hc.2.2 k hk) hn hfit
  have fin : ∀ H' : Heap, H'[E.1 + a.toNat]? = some (cell.setSlot f.slot v) → H'.size = H.size → (∀ q, q ≠ E.1 + a.toNat → H'[q]? = H[q]?) → W p l e R s m args below meth c H' (locs ++ [⟨E.1 + a.toNat, f.slot⟩]) cells slots Q (F0 m (pc + 3) ls st) := by
    intro H' e1 e2 e3
    rw [hsl, hv] at e1
    exact kk H' _ ls (hH.set e2 e3 hκ (x_ok.field hj hc.1 hk e1 q2 q3 q4 hap hrg hz hfx hno) (fun a' h => x_up_o X h)) (x_S_put hS e2 e3 (Nat.le_add_right _ _)) hL
  rw [x_rf_pos E ha]
  rcases hlk with h | h
  · exact W.putK B.1.1 B.1.2.1 (f := f) ⟨B.1.2.2.2.1, hts _ h, ⟨_, _, _, hsame _ hi⟩, hst⟩ (by rw [q2]; exact h6) q1 q3 (by rw [hsl]; exact k2_hasslot (q4 k hk)) rfl rfl d fin
  · exact va_WputK B.1.1 B.1.2.1 (f := f) B.1.2.2.2.1 (va_Nw.use rfl (B.2.2.2.1.2.1 _ h rfl)) (hsame _ hi) hst (by rw [q2]; exact h6) q1 q3 (by rw [hsl]; exact k2_hasslot (q4 k hk)) rfl rfl d fin
theorem x_putF0 (B : x_B p s m args meth c cc own nL ret E) {ci k N idx b : Nat} {C ref : String} {T : u_T} {ty : Nat → FieldType} {a : Int} {z : Int} {v : Value} (j : Int) (hj : (k : Int) = j) (hv : v = x_sv E (x_tg ci k) z) (hz : x_rg (x_tg ci k) z) (hn : narrow (ty k) v = v) (hfit : fits (ty k) v = true) (hc : x_ci ci C T N ty) (hk : k < N) (hfin : (T k).2.2.2 = true) (hin : meth.name = "<init>") (hdecl : (T k).1 = own) (hnm : ∀ y, y < N → y ≠ k → (T y).2.1 ≠ (T k).2.1) (hno : b = 1 → x_fx ci k = none) (hκ : κ a = some (.inl (ci, b))) (hlk : Cond.fieldLink own idx ref (T k).2.1 (T k).2.2.1 ∈ lw_all) (hsame : ∀ x, s.fieldFound? (T k).1 (T k).2.1 (T k).2.2.1 = some x → s.fieldFound? ref (T k).2.1 (T k).2.2.1 = some x) (d : decode cc pc = .ok (.putfield idx, 3)) (kk : x_G p l e R s m args below meth c nL E cells slots Q κ (pc + 3) L (st) (x_up X a j z)) : x_G p l e R s m args below meth c nL E cells slots Q κ pc L (v :: x_rf E a :: st) X := by
  intro H locs ls hH hS hL
  obtain ⟨ha, ⟨r, hr, cell, q1, q2, q3, q4⟩, hrg, hfx⟩ := hH.2 a _ hκ
  have hr' : r = (C, T, N) := Option.some.inj (hr.symm.trans hc.1)
  subst hr'
  obtain ⟨hSl, hfc, kC, hkC, hkind⟩ := B.2.2.2.1.1.1 ci _ hc.1
  have hts := B.1.2.2.2.2
  have hap : ∀ y, y < N → y ≠ k → E.2.2.1.2 ci y ≠ E.2.2.1.2 ci k := by
    intro y hy hyk
    obtain ⟨_, _, _, fa, hia, ea⟩ := hSl y hy
    obtain ⟨_, _, _, fb, hib, eb⟩ := hSl k hk
    rw [← ea, ← eb]
    refine u_apart (u_lays hts hc.2.1 hy) (u_lays hts hc.2.1 hk) hia hib ?_
    rw [(State.fieldFound?_type hia (hc.2.2 y hy)).1, (State.fieldFound?_type hib (hc.2.2 k hk)).1]
    exact hnm y hy hyk
  obtain ⟨cf, kf, fi, f, hi, hsl⟩ := hSl k hk
  have hlay := hts _ (hc.2.1 _ (u_in_lay hk))
  unfold u_lay at hlay
  rw [if_pos hfin] at hlay
  have hst := (u_facts hfc hkC (u_lays hts hc.2.1 hk) hi).1
  have hcf : m.cls = cf := by
    obtain ⟨_, _, c', _, _, _, -, -, hf', -, -, -, hown2, -⟩ := Cond.laysFinal_spec hlay
    have e1 : c' = cf := by have := hi.symm.trans hf'; simp at this; exact this.1.symm
    rw [hdecl] at hown2
    rw [← e1]; exact Option.some.inj (B.1.2.2.2.1.symm.trans hown2)
  have h6 := u_fits hfc hkC hkind (Or.inr hlay) hi (hc.2.2 k hk) hn hfit
  rw [x_rf_pos E ha]
  refine W.putFinK B.1.1 B.1.2.1 B.1.2.2.2.1 (hts _ hlk) (hsame _ hi) hst hcf hin (by rw [q2]; exact h6) q1 q3 (by rw [hsl]; exact k2_hasslot (q4 k hk)) rfl rfl d fun H' e1 e2 e3 => ?_
  rw [hsl, hv] at e1
  exact kk H' _ ls (hH.set e2 e3 hκ (x_ok.field hj hc.1 hk e1 q2 q3 q4 hap hrg hz hfx hno) (fun a' h => x_up_o X h)) (x_S_put hS e2 e3 (Nat.le_add_right _ _)) hL
theorem x_bl {z : Int} (h : 0 ≤ z ∧ z ≤ 1) : narrow .boolean (.int (xI z)) = .int (xI z) ∧ fits .boolean (.int (xI z)) = true := by
  have : z = 0 ∨ z = 1 := by omega
  rcases this with rfl | rfl <;> exact ⟨by decide, by decide⟩
theorem x_rfn (E : x_E) (C : String) (z : Int) : narrow (.object C) (x_rf E z) = x_rf E z ∧ fits (.object C) (x_rf E z) = true := by
  unfold x_rf
  split
  · exact ⟨rfl, rfl⟩
  · split <;> exact ⟨rfl, rfl⟩
theorem x_rfa (E : x_E) (t : FieldType) (z : Int) : narrow (.array t) (x_rf E z) = x_rf E z ∧ fits (.array t) (x_rf E z) = true := by
  unfold x_rf
  split
  · exact ⟨rfl, rfl⟩
  · split <;> exact ⟨rfl, rfl⟩
theorem x_putI (B : x_B p s m args meth c cc own nL ret E) {ci k N idx b : Nat} {C ref : String} {T : u_T} {ty : Nat → FieldType} {a : Int} {z : Int} (j : Int) (hj : (k : Int) = j) (ht : x_tg ci k = 0) (hty : ty k = .int) (hz : xR z) (hc : x_ci ci C T N ty) (hk : k < N) (hfin : (T k).2.2.2 = false) (hnm : ∀ y, y < N → y ≠ k → (T y).2.1 ≠ (T k).2.1) (hno : b = 1 → x_fx ci k = none) (hκ : κ a = some (.inl (ci, b))) (hlk : Cond.fieldLink own idx ref (T k).2.1 (T k).2.2.1 ∈ lw_all ∨ Cond.fieldLinkNest own idx ref (T k).2.1 (T k).2.2.1 "NextLoad" ∈ lw_tbl) (hsame : ∀ x, s.fieldFound? (T k).1 (T k).2.1 (T k).2.2.1 = some x → s.fieldFound? ref (T k).2.1 (T k).2.2.1 = some x) (d : decode cc pc = .ok (.putfield idx, 3)) (kk : x_G p l e R s m args below meth c nL E cells slots Q κ (pc + 3) L (st) (x_up X a j z)) : x_G p l e R s m args below meth c nL E cells slots Q κ pc L (vi z :: x_rf E a :: st) X := x_put0 B j hj (by rw [ht]; rfl) (by rw [ht]; exact hz) (by rw [hty]; rfl) (by rw [hty]; rfl) hc hk hfin hnm hno hκ hlk hsame d kk
theorem x_putZ (B : x_B p s m args meth c cc own nL ret E) {ci k N idx b : Nat} {C ref : String} {T : u_T} {ty : Nat → FieldType} {a : Int} {z : Int} (j : Int) (hj : (k : Int) = j) (ht : x_tg ci k = 3) (hty : ty k = .boolean) (hz : 0 ≤ z ∧ z ≤ 1) (hc : x_ci ci C T N ty) (hk : k < N) (hfin : (T k).2.2.2 = false) (hnm : ∀ y, y < N → y ≠ k → (T y).2.1 ≠ (T k).2.1) (hno : b = 1 → x_fx ci k = none) (hκ : κ a = some (.inl (ci, b))) (hlk : Cond.fieldLink own idx ref (T k).2.1 (T k).2.2.1 ∈ lw_all ∨ Cond.fieldLinkNest own idx ref (T k).2.1 (T k).2.2.1 "NextLoad" ∈ lw_tbl) (hsame : ∀ x, s.fieldFound? (T k).1 (T k).2.1 (T k).2.2.1 = some x → s.fieldFound? ref (T k).2.1 (T k).2.2.1 = some x) (d : decode cc pc = .ok (.putfield idx, 3)) (kk : x_G p l e R s m args below meth c nL E cells slots Q κ (pc + 3) L (st) (x_up X a j z)) : x_G p l e R s m args below meth c nL E cells slots Q κ pc L (vi z :: x_rf E a :: st) X := x_put0 B j hj (by rw [ht]; rfl) (by rw [ht]; exact hz) (by rw [hty]; exact (x_bl hz).1) (by rw [hty]; exact (x_bl hz).2) hc hk hfin hnm hno hκ hlk hsame d kk
theorem x_putO (B : x_B p s m args meth c cc own nL ret E) {ci k N idx b : Nat} {C ref : String} {T : u_T} {ty : Nat → FieldType} {a : Int} {z : Int} {CC : String} (j : Int) (hj : (k : Int) = j) (ht : x_tg ci k = 2) (hty : ty k = .object CC) (hc : x_ci ci C T N ty) (hk : k < N) (hfin : (T k).2.2.2 = false) (hnm : ∀ y, y < N → y ≠ k → (T y).2.1 ≠ (T k).2.1) (hno : b = 1 → x_fx ci k = none) (hκ : κ a = some (.inl (ci, b))) (hlk : Cond.fieldLink own idx ref (T k).2.1 (T k).2.2.1 ∈ lw_all ∨ Cond.fieldLinkNest own idx ref (T k).2.1 (T k).2.2.1 "NextLoad" ∈ lw_tbl) (hsame : ∀ x, s.fieldFound? (T k).1 (T k).2.1 (T k).2.2.1 = some x → s.fieldFound? ref (T k).2.1 (T k).2.2.1 = some x) (d : decode cc pc = .ok (.putfield idx, 3)) (kk : x_G p l e R s m args below meth c nL E cells slots Q κ (pc + 3) L (st) (x_up X a j z)) : x_G p l e R s m args below meth c nL E cells slots Q κ pc L (x_rf E z :: x_rf E a :: st) X := x_put0 B j hj (by rw [ht]; rfl) (by rw [ht]; trivial) (by rw [hty]; exact (x_rfn E CC z).1) (by rw [hty]; exact (x_rfn E CC z).2) hc hk hfin hnm hno hκ hlk hsame d kk
theorem x_putA (B : x_B p s m args meth c cc own nL ret E) {ci k N idx b : Nat} {C ref : String} {T : u_T} {ty : Nat → FieldType} {a : Int} {z : Int} {CC : FieldType} (j : Int) (hj : (k : Int) = j) (ht : x_tg ci k = 2) (hty : ty k = .array CC) (hc : x_ci ci C T N ty) (hk : k < N) (hfin : (T k).2.2.2 = false) (hnm : ∀ y, y < N → y ≠ k → (T y).2.1 ≠ (T k).2.1) (hno : b = 1 → x_fx ci k = none) (hκ : κ a = some (.inl (ci, b))) (hlk : Cond.fieldLink own idx ref (T k).2.1 (T k).2.2.1 ∈ lw_all ∨ Cond.fieldLinkNest own idx ref (T k).2.1 (T k).2.2.1 "NextLoad" ∈ lw_tbl) (hsame : ∀ x, s.fieldFound? (T k).1 (T k).2.1 (T k).2.2.1 = some x → s.fieldFound? ref (T k).2.1 (T k).2.2.1 = some x) (d : decode cc pc = .ok (.putfield idx, 3)) (kk : x_G p l e R s m args below meth c nL E cells slots Q κ (pc + 3) L (st) (x_up X a j z)) : x_G p l e R s m args below meth c nL E cells slots Q κ pc L (x_rf E z :: x_rf E a :: st) X := x_put0 B j hj (by rw [ht]; rfl) (by rw [ht]; trivial) (by rw [hty]; exact (x_rfa E CC z).1) (by rw [hty]; exact (x_rfa E CC z).2) hc hk hfin hnm hno hκ hlk hsame d kk
theorem x_putFI (B : x_B p s m args meth c cc own nL ret E) {ci k N idx b : Nat} {C ref : String} {T : u_T} {ty : Nat → FieldType} {a : Int} {z : Int} (j : Int) (hj : (k : Int) = j) (ht : x_tg ci k = 0) (hty : ty k = .int) (hz : xR z) (hc : x_ci ci C T N ty) (hk : k < N) (hfin : (T k).2.2.2 = true) (hin : meth.name = "<init>") (hdecl : (T k).1 = own) (hnm : ∀ y, y < N → y ≠ k → (T y).2.1 ≠ (T k).2.1) (hno : b = 1 → x_fx ci k = none) (hκ : κ a = some (.inl (ci, b))) (hlk : Cond.fieldLink own idx ref (T k).2.1 (T k).2.2.1 ∈ lw_all) (hsame : ∀ x, s.fieldFound? (T k).1 (T k).2.1 (T k).2.2.1 = some x → s.fieldFound? ref (T k).2.1 (T k).2.2.1 = some x) (d : decode cc pc = .ok (.putfield idx, 3)) (kk : x_G p l e R s m args below meth c nL E cells slots Q κ (pc + 3) L (st) (x_up X a j z)) : x_G p l e R s m args below meth c nL E cells slots Q κ pc L (vi z :: x_rf E a :: st) X := x_putF0 B j hj (by rw [ht]; rfl) (by rw [ht]; exact hz) (by rw [hty]; rfl) (by rw [hty]; rfl) hc hk hfin hin hdecl hnm hno hκ hlk hsame d kk
theorem x_putFZ (B : x_B p s m args meth c cc own nL ret E) {ci k N idx b : Nat} {C ref : String} {T : u_T} {ty : Nat → FieldType} {a : Int} {z : Int} (j : Int) (hj : (k : Int) = j) (ht : x_tg ci k = 3) (hty : ty k = .boolean) (hz : 0 ≤ z ∧ z ≤ 1) (hc : x_ci ci C T N ty) (hk : k < N) (hfin : (T k).2.2.2 = true) (hin : meth.name = "<init>") (hdecl : (T k).1 = own) (hnm : ∀ y, y < N → y ≠ k → (T y).2.1 ≠ (T k).2.1) (hno : b = 1 → x_fx ci k = none) (hκ : κ a = some (.inl (ci, b))) (hlk : Cond.fieldLink own idx ref (T k).2.1 (T k).2.2.1 ∈ lw_all) (hsame : ∀ x, s.fieldFound? (T k).1 (T k).2.1 (T k).2.2.1 = some x → s.fieldFound? ref (T k).2.1 (T k).2.2.1 = some x) (d : decode cc pc = .ok (.putfield idx, 3)) (kk : x_G p l e R s m args below meth c nL E cells slots Q κ (pc + 3) L (st) (x_up X a j z)) : x_G p l e R s m args below meth c nL E cells slots Q κ pc L (vi z :: x_rf E a :: st) X := x_putF0 B j hj (by rw [ht]; rfl) (by rw [ht]; exact hz) (by rw [hty]; exact (x_bl hz).1) (by rw [hty]; exact (x_bl hz).2) hc hk hfin hin hdecl hnm hno hκ hlk hsame d kk
theorem x_putFO (B : x_B p s m args meth c cc own nL ret E) {ci k N idx b : Nat} {C ref : String} {T : u_T} {ty : Nat → FieldType} {a : Int} {z : Int} {CC : String} (j : Int) (hj : (k : Int) = j) (ht : x_tg ci k = 2) (hty : ty k = .object CC) (hc : x_ci ci C T N ty) (hk : k < N) (hfin : (T k).2.2.2 = true) (hin : meth.name = "<init>") (hdecl : (T k).1 = own) (hnm : ∀ y, y < N → y ≠ k → (T y).2.1 ≠ (T k).2.1) (hno : b = 1 → x_fx ci k = none) (hκ : κ a = some (.inl (ci, b))) (hlk : Cond.fieldLink own idx ref (T k).2.1 (T k).2.2.1 ∈ lw_all) (hsame : ∀ x, s.fieldFound? (T k).1 (T k).2.1 (T k).2.2.1 = some x → s.fieldFound? ref (T k).2.1 (T k).2.2.1 = some x) (d : decode cc pc = .ok (.putfield idx, 3)) (kk : x_G p l e R s m args below meth c nL E cells slots Q κ (pc + 3) L (st) (x_up X a j z)) : x_G p l e R s m args below meth c nL E cells slots Q κ pc L (x_rf E z :: x_rf E a :: st) X := x_putF0 B j hj (by rw [ht]; rfl) (by rw [ht]; trivial) (by rw [hty]; exact (x_rfn E CC z).1) (by rw [hty]; exact (x_rfn E CC z).2) hc hk hfin hin hdecl hnm hno hκ hlk hsame d kk
theorem x_putFA (B : x_B p s m args meth c cc own nL ret E) {ci k N idx b : Nat} {C ref : String} {T : u_T} {ty : Nat → FieldType} {a : Int} {z : Int} {CC : FieldType} (j : Int) (hj : (k : Int) = j) (ht : x_tg ci k = 2) (hty : ty k = .array CC) (hc : x_ci ci C T N ty) (hk : k < N) (hfin : (T k).2.2.2 = true) (hin : meth.name = "<init>") (hdecl : (T k).1 = own) (hnm : ∀ y, y < N → y ≠ k → (T y).2.1 ≠ (T k).2.1) (hno : b = 1 → x_fx ci k = none) (hκ : κ a = some (.inl (ci, b))) (hlk : Cond.fieldLink own idx ref (T k).2.1 (T k).2.2.1 ∈ lw_all) (hsame : ∀ x, s.fieldFound? (T k).1 (T k).2.1 (T k).2.2.1 = some x → s.fieldFound? ref (T k).2.1 (T k).2.2.1 = some x) (d : decode cc pc = .ok (.putfield idx, 3)) (kk : x_G p l e R s m args below meth c nL E cells slots Q κ (pc + 3) L (st) (x_up X a j z)) : x_G p l e R s m args below meth c nL E cells slots Q κ pc L (x_rf E z :: x_rf E a :: st) X := x_putF0 B j hj (by rw [ht]; rfl) (by rw [ht]; trivial) (by rw [hty]; exact (x_rfa E CC z).1) (by rw [hty]; exact (x_rfa E CC z).2) hc hk hfin hin hdecl hnm hno hκ hlk hsame d kk
theorem x_ix {n i : Int} {cA : ClassId} {f : Nat → Value} (hn : 0 ≤ n ∧ n ≤ 100000) (hi : 0 ≤ i ∧ i < n) : (xI i).toNatClampNeg = i.toNat ∧ ¬ (xI i < 0 ∨ (arrV cA n.toNat f).slots.size ≤ (xI i).toNatClampNeg) ∧ (arrV cA n.toNat f).slots[(xI i).toNatClampNeg]? = some (f i.toNat) := by
  have h1 : (xI i).toNatClampNeg = i.toNat := xI_clamp ⟨by omega, by omega⟩
  refine ⟨h1, ?_, ?_⟩
  · rw [arrV_size, h1]
    rintro (h | h)
    · rw [show (0 : Int32) = xI 0 from rfl, xI_lt ⟨by omega, by omega⟩ (by decide)] at h
      omega
    · omega
  · rw [h1, arrV_read _ _ (by omega)]
theorem x_iald (B : x_B p s m args meth c cc own nL ret E) {a i n : Int} (hκ : κ a = some (.inr (0, n))) (hi : 0 ≤ i ∧ i < n) (d : decode cc pc = .ok (.iaload, 1)) (kk : xR (X a i) → x_G p l e R s m args below meth c nL E cells slots Q κ (pc + 1) L (vi (X a i) :: st) X) : x_G p l e R s m args below meth c nL E cells slots Q κ pc L (vi i :: x_rf E a :: st) X := by
  intro H locs ls hH hS hL
  obtain ⟨ha, h1, hrg, hn, -⟩ := hH.2 a _ hκ
  obtain ⟨e1, e2, e3⟩ := x_ix (cA := E.2.2.2 (x_ac 0)) (f := fun j => x_sv E (x_at 0) (X a j)) hn hi
  rw [x_rf_pos E ha]
  refine W.iald B.1.1 B.1.2.1 h1 ((B.2.2.2.1.1.2 0 _ rfl).1 _ _) (fun q => by cases q) e2 e3 rfl rfl d ?_
  have e : ((i.toNat : Nat) : Int) = i := by omega
  show W _ _ _ _ _ _ _ _ _ _ _ _ _ _ _ (F0 m (pc + 1) ls (x_sv E (x_at 0) (X a ((i.toNat : Nat) : Int)) :: st))
  rw [e]
  exact kk (hrg i hi.1 hi.2) H locs ls hH hS hL
theorem x_lald (B : x_B p s m args meth c cc own nL ret E) {a i n : Int} (hκ : κ a = some (.inr (1, n))) (hi : 0 ≤ i ∧ i < n) (d : decode cc pc = .ok (.laload, 1)) (kk : xR (X a i) → x_G p l e R s m args below meth c nL E cells slots Q κ (pc + 1) L (vl (X a i) :: st) X) : x_G p l e R s m args below meth c nL E cells slots Q κ pc L (vi i :: x_rf E a :: st) X := by
  intro H locs ls hH hS hL
  obtain ⟨ha, h1, hrg, hn, -⟩ := hH.2 a _ hκ
  obtain ⟨e1, e2, e3⟩ := x_ix (cA := E.2.2.2 (x_ac 1)) (f := fun j => x_sv E (x_at 1) (X a j)) hn hi
  rw [x_rf_pos E ha]
  refine W.lald B.1.1 B.1.2.1 h1 ((B.2.2.2.1.1.2 1 _ rfl).1 _ _) (fun q => by cases q) e2 e3 rfl rfl d ?_
  have e : ((i.toNat : Nat) : Int) = i := by omega
  show W _ _ _ _ _ _ _ _ _ _ _ _ _ _ _ (F0 m (pc + 1) ls (x_sv E (x_at 1) (X a ((i.toNat : Nat) : Int)) :: st))
  rw [e]
  exact kk (hrg i hi.1 hi.2) H locs ls hH hS hL
theorem x_zald (B : x_B p s m args meth c cc own nL ret E) {a i n : Int} (hκ : κ a = some (.inr (2, n))) (hi : 0 ≤ i ∧ i < n) (d : decode cc pc = .ok (.baload, 1)) (kk : (0 ≤ X a i ∧ X a i ≤ 1) → x_G p l e R s m args below meth c nL E cells slots Q κ (pc + 1) L (vi (X a i) :: st) X) : x_G p l e R s m args below meth c nL E cells slots Q κ pc L (vi i :: x_rf E a :: st) X := by
  intro H locs ls hH hS hL
  obtain ⟨ha, h1, hrg, hn, -⟩ := hH.2 a _ hκ
  obtain ⟨e1, e2, e3⟩ := x_ix (cA := E.2.2.2 (x_ac 2)) (f := fun j => x_sv E (x_at 2) (X a j)) hn hi
  rw [x_rf_pos E ha]
  refine W.zald B.1.1 B.1.2.1 h1 ((B.2.2.2.1.1.2 2 _ rfl).1 _ _) (fun q => by cases q) e2 e3 rfl rfl d ?_
  have e : ((i.toNat : Nat) : Int) = i := by omega
  show W _ _ _ _ _ _ _ _ _ _ _ _ _ _ _ (F0 m (pc + 1) ls (x_sv E (x_at 2) (X a ((i.toNat : Nat) : Int)) :: st))
  rw [e]
  exact kk (hrg i hi.1 hi.2) H locs ls hH hS hL
theorem x_bald (B : x_B p s m args meth c cc own nL ret E) {a i n : Int} (hκ : κ a = some (.inr (3, n))) (hi : 0 ≤ i ∧ i < n) (d : decode cc pc = .ok (.baload, 1)) (kk : (-128 ≤ X a i ∧ X a i ≤ 127) → x_G p l e R s m args below meth c nL E cells slots Q κ (pc + 1) L (vi (X a i) :: st) X) : x_G p l e R s m args below meth c nL E cells slots Q κ pc L (vi i :: x_rf E a :: st) X := by
  intro H locs ls hH hS hL
  obtain ⟨ha, h1, hrg, hn, -⟩ := hH.2 a _ hκ
  obtain ⟨e1, e2, e3⟩ := x_ix (cA := E.2.2.2 (x_ac 3)) (f := fun j => x_sv E (x_at 3) (X a j)) hn hi
  rw [x_rf_pos E ha]
  refine W.bald B.1.1 B.1.2.1 h1 ((B.2.2.2.1.1.2 3 _ rfl).1 _ _) (fun q => by cases q) e2 e3 rfl rfl d ?_
  have e : ((i.toNat : Nat) : Int) = i := by omega
  show W _ _ _ _ _ _ _ _ _ _ _ _ _ _ _ (F0 m (pc + 1) ls (x_sv E (x_at 3) (X a ((i.toNat : Nat) : Int)) :: st))
  rw [e]
  exact kk (hrg i hi.1 hi.2) H locs ls hH hS hL
theorem x_aald (B : x_B p s m args meth c cc own nL ret E) {a i n : Int} {t : Nat} {ty : FieldType} (hκ : κ a = some (.inr (t, n))) (ht : x_at t = 2) (hty : (x_tyl E)[x_ac t]? = some (E.2.2.2 (x_ac t), ty)) (hr : ty.isReference = true) (hi : 0 ≤ i ∧ i < n) (d : decode cc pc = .ok (.aaload, 1)) (kk : x_G p l e R s m args below meth c nL E cells slots Q κ (pc + 1) L (x_rf E (X a i) :: st) X) : x_G p l e R s m args below meth c nL E cells slots Q κ pc L (vi i :: x_rf E a :: st) X := by
  intro H locs ls hH hS hL
  obtain ⟨ha, h1, hrg, hn, -⟩ := hH.2 a _ hκ
  obtain ⟨e1, e2, e3⟩ := x_ix (cA := E.2.2.2 (x_ac t)) (f := fun j => x_sv E (x_at t) (X a j)) hn hi
  rw [x_rf_pos E ha]
  refine W.aald B.1.1 B.1.2.1 h1 ((B.2.2.2.1.1.2 _ _ hty).1 _ _) hr (fun q => by cases q) e2 e3 rfl rfl d ?_
  have e : ((i.toNat : Nat) : Int) = i := by omega
  show W _ _ _ _ _ _ _ _ _ _ _ _ _ _ _ (F0 m (pc + 1) ls (x_sv E (x_at t) (X a ((i.toNat : Nat) : Int)) :: st))
  rw [e, ht]
  exact kk H locs ls hH hS hL
theorem x_aaldC (B : x_B p s m args meth c cc own nL ret E) {a i n : Int} {t : Nat} {ty : FieldType} {c0 c1 : Int} {kd : x_k} (hT : x_T κ) (hκ : κ a = some (.inr (t, n))) (haf : x_af t = some (c0, c1, kd)) (ht : x_at t = 2) (hty : (x_tyl E)[x_ac t]? = some (E.2.2.2 (x_ac t), ty)) (hr : ty.isReference = true) (hi : 0 ≤ i ∧ i < n) (d : decode cc pc = .ok (.aaload, 1)) (kk : κ (a + c0 + c1 * i) = some kd → x_G p l e R s m args below meth c nL E cells slots Q κ (pc + 1) L (x_rf E (a + c0 + c1 * i) :: st) X) : x_G p l e R s m args below meth c nL E cells slots Q κ pc L (vi i :: x_rf E a :: st) X := by
  intro H locs ls hH hS hL
  have hf := (hH.2 a _ hκ).2.2.2.2 _ haf i hi.1 hi.2
  refine x_aald B hκ ht hty hr hi d ?_ H locs ls hH hS hL
  rw [hf]
  exact kk (hT.2 a t n hκ _ haf i hi.1 hi.2)
theorem x_alen (B : x_B p s m args meth c cc own nL ret E) {a i n : Int} {t : Nat} {ty : FieldType} (hκ : κ a = some (.inr (t, n))) (hty : (x_tyl E)[x_ac t]? = some (E.2.2.2 (x_ac t), ty)) (d : decode cc pc = .ok (.arraylength, 1)) (kk : x_G p l e R s m args below meth c nL E cells slots Q κ (pc + 1) L (vi n :: st) X) : x_G p l e R s m args below meth c nL E cells slots Q κ pc L (x_rf E a :: st) X := by
  intro H locs ls hH hS hL
  obtain ⟨ha, h1, hrg, hn, -⟩ := hH.2 a _ hκ
  rw [x_rf_pos E ha]
  refine W.alen (n := xI n) B.1.1 B.1.2.1 h1 ((B.2.2.2.1.1.2 _ _ hty).1 _ _) ?_ rfl rfl d (kk H locs ls hH hS hL)
  show (arrV _ _ _).slots.size.toInt32 = xI n
  rw [arrV_size]
  have e : n = ((n.toNat : Nat) : Int) := by omega
  conv => rhs; rw [e]
  rfl
theorem x_iast (B : x_B p s m args meth c cc own nL ret E) {a i n : Int} {z : Int} (hκ : κ a = some (.inr (0, n))) (hi : 0 ≤ i ∧ i < n) (hz : xR z) (d : decode cc pc = .ok (.iastore, 1)) (kk : x_G p l e R s m args below meth c nL E cells slots Q κ (pc + 1) L (st) (x_up X a i z)) : x_G p l e R s m args below meth c nL E cells slots Q κ pc L (vi z :: vi i :: x_rf E a :: st) X := by
  intro H locs ls hH hS hL
  obtain ⟨ha, h1, hrg, hn, haf⟩ := hH.2 a _ hκ
  obtain ⟨e1, e2, e3⟩ := x_ix (cA := E.2.2.2 (x_ac 0)) (f := fun j => x_sv E (x_at 0) (X a j)) hn hi
  rw [x_rf_pos E ha]
  refine W.iast B.1.1 B.1.2.1 h1 ((B.2.2.2.1.1.2 0 _ rfl).1 _ _) (fun q => by cases q) e2 rfl rfl d (fun H' f1 f2 f3 => ?_)
  rw [e1] at f1
  exact kk H' _ ls (hH.set f2 f3 hκ (x_ok.elem (t := 0) f1 hi hrg hz hn rfl) (fun a' h => x_up_o X h)) (x_S_put hS f2 f3 (Nat.le_add_right _ _)) hL
theorem x_last (B : x_B p s m args meth c cc own nL ret E) {a i n : Int} {z : Int} (hκ : κ a = some (.inr (1, n))) (hi : 0 ≤ i ∧ i < n) (hz : xR z) (d : decode cc pc = .ok (.lastore, 1)) (kk : x_G p l e R s m args below meth c nL E cells slots Q κ (pc + 1) L (st) (x_up X a i z)) : x_G p l e R s m args below meth c nL E cells slots Q κ pc L (vl z :: vi i :: x_rf E a :: st) X := by
  intro H locs ls hH hS hL
  obtain ⟨ha, h1, hrg, hn, haf⟩ := hH.2 a _ hκ
  obtain ⟨e1, e2, e3⟩ := x_ix (cA := E.2.2.2 (x_ac 1)) (f := fun j => x_sv E (x_at 1) (X a j)) hn hi
  rw [x_rf_pos E ha]
  refine W.last B.1.1 B.1.2.1 h1 ((B.2.2.2.1.1.2 1 _ rfl).1 _ _) (fun q => by cases q) e2 rfl rfl d (fun H' f1 f2 f3 => ?_)
  rw [e1] at f1
  exact kk H' _ ls (hH.set f2 f3 hκ (x_ok.elem (t := 1) f1 hi hrg hz hn rfl) (fun a' h => x_up_o X h)) (x_S_put hS f2 f3 (Nat.le_add_right _ _)) hL
theorem x_zast (B : x_B p s m args meth c cc own nL ret E) {a i n : Int} {z : Int} (hκ : κ a = some (.inr (2, n))) (hi : 0 ≤ i ∧ i < n) (hz : 0 ≤ z ∧ z ≤ 1) (d : decode cc pc = .ok (.bastore, 1)) (kk : x_G p l e R s m args below meth c nL E cells slots Q κ (pc + 1) L (st) (x_up X a i z)) : x_G p l e R s m args below meth c nL E cells slots Q κ pc L (vi z :: vi i :: x_rf E a :: st) X := by
  intro H locs ls hH hS hL
  obtain ⟨ha, h1, hrg, hn, haf⟩ := hH.2 a _ hκ
  obtain ⟨e1, e2, e3⟩ := x_ix (cA := E.2.2.2 (x_ac 2)) (f := fun j => x_sv E (x_at 2) (X a j)) hn hi
  rw [x_rf_pos E ha]
  refine W.zast B.1.1 B.1.2.1 h1 ((B.2.2.2.1.1.2 2 _ rfl).1 _ _) (fun q => by cases q) e2 rfl rfl d (fun H' f1 f2 f3 => ?_)
  rw [e1, (x_bl hz).1] at f1
  exact kk H' _ ls (hH.set f2 f3 hκ (x_ok.elem (t := 2) f1 hi hrg hz hn rfl) (fun a' h => x_up_o X h)) (x_S_put hS f2 f3 (Nat.le_add_right _ _)) hL
theorem x_by {z : Int} (h : -128 ≤ z ∧ z ≤ 127) : narrow .byte (.int (xI z)) = .int (xI z) := by
  show Value.int ((xI z).toInt8.toInt32) = .int (xI z)
  rw [show (xI z).toInt8 = Int8.ofInt z from Int32.toInt8_ofInt]
  congr 1
  rw [← Int32.toInt_inj, Int8.toInt_toInt32, xI_toInt ⟨by omega, by omega⟩]
  exact Int8.toInt_ofInt_of_le (by omega) (by omega)
theorem x_bast (B : x_B p s m args meth c cc own nL ret E) {a i n : Int} {z : Int} (hκ : κ a = some (.inr (3, n))) (hi : 0 ≤ i ∧ i < n) (hz : -128 ≤ z ∧ z ≤ 127) (d : decode cc pc = .ok (.bastore, 1)) (kk : x_G p l e R s m args below meth c nL E cells slots Q κ (pc + 1) L (st) (x_up X a i z)) : x_G p l e R s m args below meth c nL E cells slots Q κ pc L (vi z :: vi i :: x_rf E a :: st) X := by
  intro H locs ls hH hS hL
  obtain ⟨ha, h1, hrg, hn, haf⟩ := hH.2 a _ hκ
  obtain ⟨e1, e2, e3⟩ := x_ix (cA := E.2.2.2 (x_ac 3)) (f := fun j => x_sv E (x_at 3) (X a j)) hn hi
  rw [x_rf_pos E ha]
  refine W.bast B.1.1 B.1.2.1 h1 ((B.2.2.2.1.1.2 3 _ rfl).1 _ _) (fun q => by cases q) e2 rfl rfl d (fun H' f1 f2 f3 => ?_)
  rw [e1, x_by hz] at f1
  exact kk H' _ ls (hH.set f2 f3 hκ (x_ok.elem (t := 3) f1 hi hrg hz hn rfl) (fun a' h => x_up_o X h)) (x_S_put hS f2 f3 (Nat.le_add_right _ _)) hL
end XH
