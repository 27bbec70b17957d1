section XR2
variable {p : Program} {l : Launch} {e : Env} {R : Room} {s : State} {m : MethodId} {args : Array Value} {below : List Frame} {meth : Method} {c : Code} {nL : Nat} {E : x_E} {cells slots : Nat} {Q : State → Prop} {κ : x_Ka}
variable {cc : ByteArray} {own : String} {ret : Option FieldType} {pc : Nat} {L : List (Option Value)} {st : List Value} {X : x_X}
theorem x_aastN (B : x_B p s m args meth c cc own nL ret E) {t : Nat} {C : String} {a i n : Int} (hκ : κ a = some (.inr (t, n))) (ht : (x_tyl E)[x_ac t]? = some (E.2.2.2 (x_ac t), .object C)) (hat : x_at t = 2) (haf : x_af t = none) (hi : 0 ≤ i ∧ i < n) (d : decode cc pc = .ok (.aastore, 1)) (k : x_G p l e R s m args below meth c nL E cells slots Q κ (pc + 1) L (st) (x_up X a i (-1))) : x_G p l e R s m args below meth c nL E cells slots Q κ pc L (x_rf E (-1) :: vi i :: x_rf E a :: st) X := by
  intro H locs ls hH hS hL
  obtain ⟨ha, h1, hrg, hn, -⟩ := hH.2 a _ hκ
  obtain ⟨e1, e2, e3⟩ := x_ix (cA := E.2.2.2 (x_ac t)) (f := fun j => x_sv E (x_at t) (X a j)) hn hi
  rw [x_rf_pos E ha, x_rf_nul]
  refine va_WaastN (C := C) B.1.1 B.1.2.1 h1 ((B.2.2.2.1.1.2 _ _ ht).1 _ _) (fun h => by cases h) e2 rfl rfl d (fun H' f1 f2 f3 => ?_)
  rw [e1] at f1
  have f1' : H'[E.1 + a.toNat]? = some ((arrV (E.2.2.2 (x_ac t)) n.toNat (fun j => x_sv E (x_at t) (X a j))).setSlot i.toNat (x_sv E (x_at t) (-1))) := by rw [f1, hat]; rfl
  exact k H' _ ls (hH.set f2 f3 hκ (x_ok.elem f1' hi hrg (by rw [hat]; trivial) hn haf) (fun a' h => x_up_o X h)) (x_S_put hS f2 f3 (Nat.le_add_right _ _)) hL
theorem x_aastO (B : x_B p s m args meth c cc own nL ret E) {t ci b : Nat} {C : String} {rC : vw_C} {a i n v : Int} (hκ : κ a = some (.inr (t, n))) (ht : (x_tyl E)[x_ac t]? = some (E.2.2.2 (x_ac t), .object C)) (hat : x_at t = 2) (haf : x_af t = none) (hv : κ v = some (.inl (ci, b))) (hcl : x_cl[ci]? = some rC) (hcs : Cond.castable rC.1 C ∈ lw_tbl) (hi : 0 ≤ i ∧ i < n) (d : decode cc pc = .ok (.aastore, 1)) (k : x_G p l e R s m args below meth c nL E cells slots Q κ (pc + 1) L (st) (x_up X a i v)) : x_G p l e R s m args below meth c nL E cells slots Q κ pc L (x_rf E v :: vi i :: x_rf E a :: st) X := by
  intro H locs ls hH hS hL
  obtain ⟨ha, h1, hrg, hn, -⟩ := hH.2 a _ hκ
  obtain ⟨hv0, ⟨r, hr, cell, q1, q2, q3, q4⟩, -⟩ := hH.2 v _ hv
  obtain ⟨e1, e2, e3⟩ := x_ix (cA := E.2.2.2 (x_ac t)) (f := fun j => x_sv E (x_at t) (X a j)) hn hi
  obtain ⟨kA, comp, r1, r2, r3, r4⟩ := (B.2.2.2.1.1.2 _ _ ht).2
  have hcat := (B.2.2.2.1.1.1 ci _ hcl).2
  obtain ⟨kC, hkC, hkind⟩ := hcat.2
  obtain ⟨kE, hkE, -⟩ := Vm.findClass_spec r3
  obtain ⟨c0, t1, g1, g2, g3⟩ := Cond.castable_spec (va_Nw.use (A := args) rfl (B.2.2.2.1.2.1 _ hcs rfl))
  cases hcat.1.symm.trans g1
  cases r3.symm.trans g2
  have q2' : cell.cls = E.2.2.1.1 ci := q2
  rw [x_rf_pos E ha, x_rf_pos E hv0]
  refine W.aast B.1.1 B.1.2.1 h1 (fun q h => by cases h) (fun h => by cases h) r1 r2 rfl hkE ⟨fun h => e2 (Or.inl h), Nat.not_le.mp fun h => e2 (Or.inr h)⟩ q1 (fun q h => by rw [q3] at h; cases h) (by rw [q2']; exact hkC) (by rw [q2']; exact g3) rfl rfl d (fun H' f1 f2 f3 => ?_)
  rw [e1, ← x_rf_pos E hv0] at f1
  have f1' : H'[E.1 + a.toNat]? = some ((arrV (E.2.2.2 (x_ac t)) n.toNat (fun j => x_sv E (x_at t) (X a j))).setSlot i.toNat (x_sv E (x_at t) v)) := by rw [f1, hat]; rfl
  exact k H' _ ls (hH.set f2 f3 hκ (x_ok.elem f1' hi hrg (by rw [hat]; trivial) hn haf) (fun a' h => x_up_o X h)) (x_S_put hS f2 f3 (Nat.le_add_right _ _)) hL
end XR2
