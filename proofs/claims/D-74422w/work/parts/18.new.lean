/-! new cells: at X (-1) 0 -/
def x_nw (X : x_X) (f : Int → Int) : x_X := fun a i => if a = -1 ∧ i = 0 then X (-1) 0 + 1 else if a = X (-1) 0 then f i else X a i
def x_ku (κ : x_Ka) (a : Int) (k : x_k) : x_Ka := fun b => if b = a then some k else κ b
def x_df (ci : Nat) (i : Int) : Int := if x_tg ci i.toNat = 2 then -1 else 0
theorem x_H.low {E : x_E} {κ : x_Ka} {X : x_X} {H : Heap} (h : x_H E κ X H) {a : Int} {k : x_k} (hk : κ a = some k) : 0 ≤ a ∧ a < X (-1) 0 := by
  obtain ⟨h1, h2⟩ := h.2 a k hk
  have h3 := h2.lt
  have h4 := h.1
  exact ⟨h1, by omega⟩
theorem x_H.new {E : x_E} {κ : x_Ka} {X : x_X} {H H1 : Heap} {kd : x_k} {f : Int → Int} (h : x_H E κ X H) (h0 : 0 ≤ X (-1) 0) (hz : H1.size = H.size + 1) (ho : ∀ q, q < H.size → H1[q]? = H[q]?) (hok : x_ok E kd (X (-1) 0) f H1) : x_H E (x_ku κ (X (-1) 0) kd) (x_nw X f) H1 := by
  refine ⟨?_, fun a k hk => ?_⟩
  · have : x_nw X f (-1) 0 = X (-1) 0 + 1 := if_pos ⟨rfl, rfl⟩
    rw [this, hz]
    have := h.1
    omega
  · unfold x_ku at hk
    by_cases e : a = X (-1) 0
    · rw [if_pos e] at hk
      cases hk
      have e2 : x_nw X f a = f := by funext i; unfold x_nw; rw [if_neg (by omega), if_pos e]
      rw [e2]
      exact ⟨by omega, by rw [e]; exact hok⟩
    · rw [if_neg e] at hk
      obtain ⟨h1, h2⟩ := h.2 a k hk
      have e2 : x_nw X f a = X a := by funext i; unfold x_nw; rw [if_neg (by omega), if_neg e]
      rw [e2]
      exact ⟨h1, h2.kept (ho _ h2.lt)⟩
theorem x_ku_le {κ : x_Ka} {a : Int} {kd : x_k} (hn : κ a = none) : ∀ b k, κ b = some k → x_ku κ a kd b = some k := fun b k h => by
  unfold x_ku
  by_cases e : b = a
  · subst e; rw [hn] at h; cases h
  · rw [if_neg e]; exact h
theorem x_ku_s (κ : x_Ka) (a : Int) (k : x_k) : x_ku κ a k a = some k := if_pos rfl
section XNW
variable {p : Program} {l : Launch} {e : Env} {R : Room} {s : State} {m : MethodId} {args : Array Value} {below : List Frame} {meth : Method} {c : Code} {nL : Nat} {E : x_E} {cells slots : Nat} {Q : State → Prop} {κ : x_Ka}
variable {cc : ByteArray} {own : String} {ret : Option FieldType} {pc : Nat} {L : List (Option Value)} {st : List Value} {X : x_X}
theorem x_sz (B : x_B p s m args meth c cc own nL ret E) (k : 0 ≤ X (-1) 0 → κ (X (-1) 0) = none → x_G p l e R s m args below meth c nL E cells slots Q κ pc L (st) X) : x_G p l e R s m args below meth c nL E cells slots Q κ pc L (st) X := fun H locs ls hH hS hL => by
  have h0 : 0 ≤ X (-1) 0 := by have h1 := hH.1; have h2 := B.2.2.2.2; have h3 := hS.1; omega
  refine k h0 ?_ H locs ls hH hS hL
  cases hk : κ (X (-1) 0) with
  | none => rfl
  | some q => have := hH.low hk; omega
theorem x_new (B : x_B p s m args meth c cc own nL ret E) {ci idx N : Nat} {C : String} {T : u_T} {ty : Nat → FieldType} (hc : x_ci ci C T N ty) (hl : Cond.classLink own idx C ∈ lw_all) (hi : Cond.instantiable C N ∈ lw_all) (hini : Cond.initialized C ∈ lw_all) (hdf : ∀ j, j < N → defaultValue (ty j) = x_sv E (x_tg ci j) (x_df ci j)) (hrg : ∀ j : Nat, x_rg (x_tg ci j) (x_df ci j)) (hcells : cells + 1 ≤ R.cells) (hslots : slots + N ≤ R.slots) (d : decode cc pc = .ok (.new idx, 3)) (k : 0 ≤ X (-1) 0 → κ (X (-1) 0) = none → x_G p l e R s m args below meth c nL E (cells + 1) (slots + N) Q (x_ku κ (X (-1) 0) (.inl (ci, 0))) (pc + 3) L (x_rf E (X (-1) 0) :: st) (x_nw X (x_df ci))) : x_G p l e R s m args below meth c nL E cells slots Q κ pc L (st) X := by
  refine x_sz B (fun h0 hn => ?_)
  intro H locs ls hH hS hL
  have hts := B.1.2.2.2.2
  have hKn := B.2.2.2.1.1.1 ci _ hc.1
  refine W.newcK B.1.1 B.1.2.1 B.1.2.2.2.1 (hts _ hl) (hts _ hi) (hts _ hini) rfl d hcells hslots hKn.2.1 rfl fun H1 kC hkC e1 z1 o1 => ?_
  have hob := (u_born ty hts hc.2.1 hKn hkC e1 hc.2.2).to hdf
  have hsz : (H.size : Nat) = E.1 + (X (-1) 0).toNat := by have := hH.1; omega
  rw [hsz] at hob
  have k2 := k h0 hn H1 locs ls (hH.new h0 z1 o1 ⟨⟨_, hc.1, hob⟩, hrg, fun q => by cases q⟩) ⟨Nat.le_trans hS.1 (by omega), fun x h1 h2 => (o1 x (Nat.lt_of_lt_of_le h1 hS.1)).trans (hS.2.1 x h1 h2), hS.2.2⟩ hL
  rw [x_rf_pos E h0, ← hsz] at k2
  exact k2
theorem x_newa (B : x_B p s m args meth c cc own nL ret E) {t : Nat} {atype : ArrayType} {n : Int} (ht : (x_tyl E)[x_ac t]? = some (E.2.2.2 (x_ac t), newarray.typeOf atype)) (hac : Cond.arrayClass (newarray.typeOf atype) ∈ lw_all) (hra : va_RA s (E.2.2.2 (x_ac t)) (newarray.typeOf atype) → s.vm.findClass ("[" ++ (newarray.typeOf atype).toString) = some (E.2.2.2 (x_ac t))) (hdf : defaultValue (newarray.typeOf atype) = x_sv E (x_at t) 0) (hrg : x_rg (x_at t) 0) (haf : x_af t = none) (hn : 0 ≤ n ∧ n ≤ 100000) (hb : n.toNat * componentBytes (newarray.typeOf atype) ≤ 536870912) (hcells : cells + 1 ≤ R.cells) (hslots : slots + n.toNat ≤ R.slots) (d : decode cc pc = .ok (.newarray atype, 2)) (k : 0 ≤ X (-1) 0 → κ (X (-1) 0) = none → x_G p l e R s m args below meth c nL E (cells + 1) (slots + n.toNat) Q (x_ku κ (X (-1) 0) (.inr (t, n))) (pc + 2) L (x_rf E (X (-1) 0) :: st) (x_nw X (fun _ => 0))) : x_G p l e R s m args below meth c nL E cells slots Q κ pc L (vi n :: st) X := by
  refine x_sz B (fun h0 hnn => ?_)
  intro H locs ls hH hS hL
  have hts := B.1.2.2.2.2
  have hcl : (xI n).toNatClampNeg = n.toNat := xI_clamp ⟨by omega, by omega⟩
  refine va_newaK B.1.1 B.1.2.1 (hts _ hac) rfl d rfl (fun h => by rw [show (0 : Int32) = xI 0 from rfl, xI_lt ⟨by omega, by omega⟩ (by decide)] at h; omega) hcl hb hcells hslots rfl fun H1 cA e1 z1 o1 hAr hNm => ?_
  have hcA : cA = E.2.2.2 (x_ac t) := Option.some.inj (hNm.symm.trans (hra (B.2.2.2.1.1.2 _ _ ht).2))
  subst hcA
  have hsz : (H.size : Nat) = E.1 + (X (-1) 0).toNat := by have := hH.1; omega
  rw [hsz] at e1
  have k2 := k h0 hnn H1 locs ls (hH.new h0 z1 o1 ⟨by rw [e1, hdf], fun j _ _ => hrg, hn, fun q hq => by rw [haf] at hq; cases hq⟩) ⟨Nat.le_trans hS.1 (by omega), fun x h1 h2 => (o1 x (Nat.lt_of_lt_of_le h1 hS.1)).trans (hS.2.1 x h1 h2), hS.2.2⟩ hL
  rw [x_rf_pos E h0, ← hsz] at k2
  exact k2
theorem x_lows (k : (∀ a kd, κ a = some kd → 0 ≤ a ∧ a < X (-1) 0) → x_G p l e R s m args below meth c nL E cells slots Q κ pc L (st) X) : x_G p l e R s m args below meth c nL E cells slots Q κ pc L (st) X := fun H locs ls hH hS hL => k (fun a kd h => hH.low h) H locs ls hH hS hL
end XNW
theorem xd_0 (E : x_E) : (∀ j, j < 18 → defaultValue (tyX1 j) = x_sv E (x_tg 0 j) (x_df 0 j)) := by
  intro j hj
  rcases (show j = 0 ∨ j = 1 ∨ j = 2 ∨ j = 3 ∨ j = 4 ∨ j = 5 ∨ j = 6 ∨ j = 7 ∨ j = 8 ∨ j = 9 ∨ j = 10 ∨ j = 11 ∨ j = 12 ∨ j = 13 ∨ j = 14 ∨ j = 15 ∨ j = 16 ∨ j = 17 by omega) with rfl | rfl | rfl | rfl | rfl | rfl | rfl | rfl | rfl | rfl | rfl | rfl | rfl | rfl | rfl | rfl | rfl | rfl <;> rfl
theorem xe_0 : ∀ j : Nat, x_rg (x_tg 0 j) (x_df 0 j) := by
  intro j
  by_cases hj : j < 18
  · rcases (show j = 0 ∨ j = 1 ∨ j = 2 ∨ j = 3 ∨ j = 4 ∨ j = 5 ∨ j = 6 ∨ j = 7 ∨ j = 8 ∨ j = 9 ∨ j = 10 ∨ j = 11 ∨ j = 12 ∨ j = 13 ∨ j = 14 ∨ j = 15 ∨ j = 16 ∨ j = 17 by omega) with rfl | rfl | rfl | rfl | rfl | rfl | rfl | rfl | rfl | rfl | rfl | rfl | rfl | rfl | rfl | rfl | rfl | rfl <;> first | exact trivial | (show (_ ∧ _); decide)
  · have e : x_tg 0 j = 2 := by obtain ⟨k, rfl⟩ : ∃ k, j = k + 18 := ⟨j - 18, by omega⟩; rfl
    rw [e]; exact trivial
theorem xd_1 (E : x_E) : (∀ j, j < 3 → defaultValue (tyJ2 j) = x_sv E (x_tg 1 j) (x_df 1 j)) := by
  intro j hj
  rcases (show j = 0 ∨ j = 1 ∨ j = 2 by omega) with rfl | rfl | rfl <;> rfl
theorem xe_1 : ∀ j : Nat, x_rg (x_tg 1 j) (x_df 1 j) := by
  intro j
  by_cases hj : j < 3
  · rcases (show j = 0 ∨ j = 1 ∨ j = 2 by omega) with rfl | rfl | rfl <;> first | exact trivial | (show (_ ∧ _); decide)
  · have e : x_tg 1 j = 2 := by obtain ⟨k, rfl⟩ : ∃ k, j = k + 3 := ⟨j - 3, by omega⟩; rfl
    rw [e]; exact trivial
theorem xd_2 (E : x_E) : (∀ j, j < 5 → defaultValue (tyX2 j) = x_sv E (x_tg 2 j) (x_df 2 j)) := by
  intro j hj
  rcases (show j = 0 ∨ j = 1 ∨ j = 2 ∨ j = 3 ∨ j = 4 by omega) with rfl | rfl | rfl | rfl | rfl <;> rfl
theorem xe_2 : ∀ j : Nat, x_rg (x_tg 2 j) (x_df 2 j) := by
  intro j
  by_cases hj : j < 5
  · rcases (show j = 0 ∨ j = 1 ∨ j = 2 ∨ j = 3 ∨ j = 4 by omega) with rfl | rfl | rfl | rfl | rfl <;> first | exact trivial | (show (_ ∧ _); decide)
  · have e : x_tg 2 j = 2 := by obtain ⟨k, rfl⟩ : ∃ k, j = k + 5 := ⟨j - 5, by omega⟩; rfl
    rw [e]; exact trivial
theorem xd_3 (E : x_E) : (∀ j, j < 8 → defaultValue (tyX3 j) = x_sv E (x_tg 3 j) (x_df 3 j)) := by
  intro j hj
  rcases (show j = 0 ∨ j = 1 ∨ j = 2 ∨ j = 3 ∨ j = 4 ∨ j = 5 ∨ j = 6 ∨ j = 7 by omega) with rfl | rfl | rfl | rfl | rfl | rfl | rfl | rfl <;> rfl
theorem xe_3 : ∀ j : Nat, x_rg (x_tg 3 j) (x_df 3 j) := by
  intro j
  by_cases hj : j < 8
  · rcases (show j = 0 ∨ j = 1 ∨ j = 2 ∨ j = 3 ∨ j = 4 ∨ j = 5 ∨ j = 6 ∨ j = 7 by omega) with rfl | rfl | rfl | rfl | rfl | rfl | rfl | rfl <;> first | exact trivial | (show (_ ∧ _); decide)
  · have e : x_tg 3 j = 2 := by obtain ⟨k, rfl⟩ : ∃ k, j = k + 8 := ⟨j - 8, by omega⟩; rfl
    rw [e]; exact trivial
theorem xd_4 (E : x_E) : (∀ j, j < 4 → defaultValue (tyX5 j) = x_sv E (x_tg 4 j) (x_df 4 j)) := by
  intro j hj
  rcases (show j = 0 ∨ j = 1 ∨ j = 2 ∨ j = 3 by omega) with rfl | rfl | rfl | rfl <;> rfl
theorem xe_4 : ∀ j : Nat, x_rg (x_tg 4 j) (x_df 4 j) := by
  intro j
  by_cases hj : j < 4
  · rcases (show j = 0 ∨ j = 1 ∨ j = 2 ∨ j = 3 by omega) with rfl | rfl | rfl | rfl <;> first | exact trivial | (show (_ ∧ _); decide)
  · have e : x_tg 4 j = 2 := by obtain ⟨k, rfl⟩ : ∃ k, j = k + 4 := ⟨j - 4, by omega⟩; rfl
    rw [e]; exact trivial
theorem xd_5 (E : x_E) : (∀ j, j < 10 → defaultValue (tyX6 j) = x_sv E (x_tg 5 j) (x_df 5 j)) := by
  intro j hj
  rcases (show j = 0 ∨ j = 1 ∨ j = 2 ∨ j = 3 ∨ j = 4 ∨ j = 5 ∨ j = 6 ∨ j = 7 ∨ j = 8 ∨ j = 9 by omega) with rfl | rfl | rfl | rfl | rfl | rfl | rfl | rfl | rfl | rfl <;> rfl
theorem xe_5 : ∀ j : Nat, x_rg (x_tg 5 j) (x_df 5 j) := by
  intro j
  by_cases hj : j < 10
  · rcases (show j = 0 ∨ j = 1 ∨ j = 2 ∨ j = 3 ∨ j = 4 ∨ j = 5 ∨ j = 6 ∨ j = 7 ∨ j = 8 ∨ j = 9 by omega) with rfl | rfl | rfl | rfl | rfl | rfl | rfl | rfl | rfl | rfl <;> first | exact trivial | (show (_ ∧ _); decide)
  · have e : x_tg 5 j = 2 := by obtain ⟨k, rfl⟩ : ∃ k, j = k + 10 := ⟨j - 10, by omega⟩; rfl
    rw [e]; exact trivial
theorem xd_6 (E : x_E) : (∀ j, j < 6 → defaultValue (tyX7 j) = x_sv E (x_tg 6 j) (x_df 6 j)) := by
  intro j hj
  rcases (show j = 0 ∨ j = 1 ∨ j = 2 ∨ j = 3 ∨ j = 4 ∨ j = 5 by omega) with rfl | rfl | rfl | rfl | rfl | rfl <;> rfl
theorem xe_6 : ∀ j : Nat, x_rg (x_tg 6 j) (x_df 6 j) := by
  intro j
  by_cases hj : j < 6
  · rcases (show j = 0 ∨ j = 1 ∨ j = 2 ∨ j = 3 ∨ j = 4 ∨ j = 5 by omega) with rfl | rfl | rfl | rfl | rfl | rfl <;> first | exact trivial | (show (_ ∧ _); decide)
  · have e : x_tg 6 j = 2 := by obtain ⟨k, rfl⟩ : ∃ k, j = k + 6 := ⟨j - 6, by omega⟩; rfl
    rw [e]; exact trivial
theorem xd_7 (E : x_E) : (∀ j, j < 40 → defaultValue (tyX8 j) = x_sv E (x_tg 7 j) (x_df 7 j)) := by
  intro j hj
  rcases (show j = 0 ∨ j = 1 ∨ j = 2 ∨ j = 3 ∨ j = 4 ∨ j = 5 ∨ j = 6 ∨ j = 7 ∨ j = 8 ∨ j = 9 ∨ j = 10 ∨ j = 11 ∨ j = 12 ∨ j = 13 ∨ j = 14 ∨ j = 15 ∨ j = 16 ∨ j = 17 ∨ j = 18 ∨ j = 19 ∨ j = 20 ∨ j = 21 ∨ j = 22 ∨ j = 23 ∨ j = 24 ∨ j = 25 ∨ j = 26 ∨ j = 27 ∨ j = 28 ∨ j = 29 ∨ j = 30 ∨ j = 31 ∨ j = 32 ∨ j = 33 ∨ j = 34 ∨ j = 35 ∨ j = 36 ∨ j = 37 ∨ j = 38 ∨ j = 39 by omega) with rfl | rfl | rfl | rfl | rfl | rfl | rfl | rfl | rfl | rfl | rfl | rfl | rfl | rfl | rfl | rfl | rfl | rfl | rfl | rfl | rfl | rfl | rfl | rfl | rfl | rfl | rfl | rfl | rfl | rfl | rfl | rfl | rfl | rfl | rfl | rfl | rfl | rfl | rfl | rfl <;> rfl
theorem xe_7 : ∀ j : Nat, x_rg (x_tg 7 j) (x_df 7 j) := by
  intro j
  by_cases hj : j < 40
  · rcases (show j = 0 ∨ j = 1 ∨ j = 2 ∨ j = 3 ∨ j = 4 ∨ j = 5 ∨ j = 6 ∨ j = 7 ∨ j = 8 ∨ j = 9 ∨ j = 10 ∨ j = 11 ∨ j = 12 ∨ j = 13 ∨ j = 14 ∨ j = 15 ∨ j = 16 ∨ j = 17 ∨ j = 18 ∨ j = 19 ∨ j = 20 ∨ j = 21 ∨ j = 22 ∨ j = 23 ∨ j = 24 ∨ j = 25 ∨ j = 26 ∨ j = 27 ∨ j = 28 ∨ j = 29 ∨ j = 30 ∨ j = 31 ∨ j = 32 ∨ j = 33 ∨ j = 34 ∨ j = 35 ∨ j = 36 ∨ j = 37 ∨ j = 38 ∨ j = 39 by omega) with rfl | rfl | rfl | rfl | rfl | rfl | rfl | rfl | rfl | rfl | rfl | rfl | rfl | rfl | rfl | rfl | rfl | rfl | rfl | rfl | rfl | rfl | rfl | rfl | rfl | rfl | rfl | rfl | rfl | rfl | rfl | rfl | rfl | rfl | rfl | rfl | rfl | rfl | rfl | rfl <;> first | exact trivial | (show (_ ∧ _); decide)
  · have e : x_tg 7 j = 2 := by obtain ⟨k, rfl⟩ : ∃ k, j = k + 40 := ⟨j - 40, by omega⟩; rfl
    rw [e]; exact trivial
theorem xd_8 (E : x_E) : (∀ j, j < 6 → defaultValue (tyX10 j) = x_sv E (x_tg 8 j) (x_df 8 j)) := by
  intro j hj
  rcases (show j = 0 ∨ j = 1 ∨ j = 2 ∨ j = 3 ∨ j = 4 ∨ j = 5 by omega) with rfl | rfl | rfl | rfl | rfl | rfl <;> rfl
theorem xe_8 : ∀ j : Nat, x_rg (x_tg 8 j) (x_df 8 j) := by
  intro j
  by_cases hj : j < 6
  · rcases (show j = 0 ∨ j = 1 ∨ j = 2 ∨ j = 3 ∨ j = 4 ∨ j = 5 by omega) with rfl | rfl | rfl | rfl | rfl | rfl <;> first | exact trivial | (show (_ ∧ _); decide)
  · have e : x_tg 8 j = 2 := by obtain ⟨k, rfl⟩ : ∃ k, j = k + 6 := ⟨j - 6, by omega⟩; rfl
    rw [e]; exact trivial
theorem xd_9 (E : x_E) : (∀ j, j < 3 → defaultValue (tyX11 j) = x_sv E (x_tg 9 j) (x_df 9 j)) := by
  intro j hj
  rcases (show j = 0 ∨ j = 1 ∨ j = 2 by omega) with rfl | rfl | rfl <;> rfl
theorem xe_9 : ∀ j : Nat, x_rg (x_tg 9 j) (x_df 9 j) := by
  intro j
  by_cases hj : j < 3
  · rcases (show j = 0 ∨ j = 1 ∨ j = 2 by omega) with rfl | rfl | rfl <;> first | exact trivial | (show (_ ∧ _); decide)
  · have e : x_tg 9 j = 2 := by obtain ⟨k, rfl⟩ : ∃ k, j = k + 3 := ⟨j - 3, by omega⟩; rfl
    rw [e]; exact trivial
theorem xd_10 (E : x_E) : (∀ j, j < 3 → defaultValue (tyX9 j) = x_sv E (x_tg 10 j) (x_df 10 j)) := by
  intro j hj
  rcases (show j = 0 ∨ j = 1 ∨ j = 2 by omega) with rfl | rfl | rfl <;> rfl
theorem xe_10 : ∀ j : Nat, x_rg (x_tg 10 j) (x_df 10 j) := by
  intro j
  by_cases hj : j < 3
  · rcases (show j = 0 ∨ j = 1 ∨ j = 2 by omega) with rfl | rfl | rfl <;> first | exact trivial | (show (_ ∧ _); decide)
  · have e : x_tg 10 j = 2 := by obtain ⟨k, rfl⟩ : ∃ k, j = k + 3 := ⟨j - 3, by omega⟩; rfl
    rw [e]; exact trivial
theorem xd_11 (E : x_E) : (∀ j, j < 7 → defaultValue (tyX12 j) = x_sv E (x_tg 11 j) (x_df 11 j)) := by
  intro j hj
  rcases (show j = 0 ∨ j = 1 ∨ j = 2 ∨ j = 3 ∨ j = 4 ∨ j = 5 ∨ j = 6 by omega) with rfl | rfl | rfl | rfl | rfl | rfl | rfl <;> rfl
theorem xe_11 : ∀ j : Nat, x_rg (x_tg 11 j) (x_df 11 j) := by
  intro j
  by_cases hj : j < 7
  · rcases (show j = 0 ∨ j = 1 ∨ j = 2 ∨ j = 3 ∨ j = 4 ∨ j = 5 ∨ j = 6 by omega) with rfl | rfl | rfl | rfl | rfl | rfl | rfl <;> first | exact trivial | (show (_ ∧ _); decide)
  · have e : x_tg 11 j = 2 := by obtain ⟨k, rfl⟩ : ∃ k, j = k + 7 := ⟨j - 7, by omega⟩; rfl
    rw [e]; exact trivial
theorem xd_12 (E : x_E) : (∀ j, j < 0 → defaultValue (tyX14 j) = x_sv E (x_tg 12 j) (x_df 12 j)) := by
  intro j hj; omega
theorem xe_12 : ∀ j : Nat, x_rg (x_tg 12 j) (x_df 12 j) := by
  intro j
  exact trivial
theorem xd_13 (E : x_E) : (∀ j, j < 1 → defaultValue (tyX15 j) = x_sv E (x_tg 13 j) (x_df 13 j)) := by
  intro j hj
  rcases (show j = 0 by omega) with rfl <;> rfl
theorem xe_13 : ∀ j : Nat, x_rg (x_tg 13 j) (x_df 13 j) := by
  intro j
  by_cases hj : j < 1
  · rcases (show j = 0 by omega) with rfl <;> first | exact trivial | (show (_ ∧ _); decide)
  · have e : x_tg 13 j = 2 := by obtain ⟨k, rfl⟩ : ∃ k, j = k + 1 := ⟨j - 1, by omega⟩; rfl
    rw [e]; exact trivial
theorem xd_14 (E : x_E) : (∀ j, j < 2 → defaultValue (tyX16 j) = x_sv E (x_tg 14 j) (x_df 14 j)) := by
  intro j hj
  rcases (show j = 0 ∨ j = 1 by omega) with rfl | rfl <;> rfl
theorem xe_14 : ∀ j : Nat, x_rg (x_tg 14 j) (x_df 14 j) := by
  intro j
  by_cases hj : j < 2
  · rcases (show j = 0 ∨ j = 1 by omega) with rfl | rfl <;> first | exact trivial | (show (_ ∧ _); decide)
  · have e : x_tg 14 j = 2 := by obtain ⟨k, rfl⟩ : ∃ k, j = k + 2 := ⟨j - 2, by omega⟩; rfl
    rw [e]; exact trivial
theorem xd_15 (E : x_E) : (∀ j, j < 2 → defaultValue (tyX17 j) = x_sv E (x_tg 15 j) (x_df 15 j)) := by
  intro j hj
  rcases (show j = 0 ∨ j = 1 by omega) with rfl | rfl <;> rfl
theorem xe_15 : ∀ j : Nat, x_rg (x_tg 15 j) (x_df 15 j) := by
  intro j
  by_cases hj : j < 2
  · rcases (show j = 0 ∨ j = 1 by omega) with rfl | rfl <;> first | exact trivial | (show (_ ∧ _); decide)
  · have e : x_tg 15 j = 2 := by obtain ⟨k, rfl⟩ : ∃ k, j = k + 2 := ⟨j - 2, by omega⟩; rfl
    rw [e]; exact trivial
theorem xd_16 (E : x_E) : (∀ j, j < 6 → defaultValue (tyJ13 j) = x_sv E (x_tg 16 j) (x_df 16 j)) := by
  intro j hj
  rcases (show j = 0 ∨ j = 1 ∨ j = 2 ∨ j = 3 ∨ j = 4 ∨ j = 5 by omega) with rfl | rfl | rfl | rfl | rfl | rfl <;> rfl
theorem xe_16 : ∀ j : Nat, x_rg (x_tg 16 j) (x_df 16 j) := by
  intro j
  by_cases hj : j < 6
  · rcases (show j = 0 ∨ j = 1 ∨ j = 2 ∨ j = 3 ∨ j = 4 ∨ j = 5 by omega) with rfl | rfl | rfl | rfl | rfl | rfl <;> first | exact trivial | (show (_ ∧ _); decide)
  · have e : x_tg 16 j = 2 := by obtain ⟨k, rfl⟩ : ∃ k, j = k + 6 := ⟨j - 6, by omega⟩; rfl
    rw [e]; exact trivial
