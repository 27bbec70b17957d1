section XRP
variable {p : Program} {l : Launch} {e : Env} {R : Room} {s : State} {m : MethodId} {args : Array Value} {below : List Frame} {meth : Method} {c : Code} {nL : Nat} {E : x_E} {cells slots : Nat} {Q : State → Prop} {κ : x_Ka}
variable {cc : ByteArray} {own : String} {ret : Option FieldType} {pc : Nat} {L : List (Option Value)} {st : List Value} {X : x_X}
theorem x_rip (B : x_B p s m args meth c cc own nL ret E) {a : Int} {ci : Nat} (hκ : κ a = some (.inl (ci, 0))) (hf : ∀ (j : Nat) (q : Nat × Int × x_k), x_fx ci j = some q → X a j = x_z q a) (k : x_G p l e R s m args below meth c nL E cells slots Q (x_ku κ a (.inl (ci, 1))) pc L (st) X) : x_G p l e R s m args below meth c nL E cells slots Q κ pc L (st) X := fun H locs ls hH hS hL => by
  refine k H locs ls ⟨hH.1, fun b kd h => ?_⟩ hS hL
  unfold x_ku at h
  by_cases e : b = a
  · subst e
    rw [if_pos rfl] at h
    cases h
    obtain ⟨h0, h1, h2, -⟩ := hH.2 _ _ hκ
    exact ⟨h0, h1, h2, fun _ => hf⟩
  · rw [if_neg e] at h
    exact hH.2 b kd h
theorem x_ripA (B : x_B p s m args meth c cc own nL ret E) {a n : Int} {t t2 : Nat} (hκ : κ a = some (.inr (t, n))) (h1 : x_ac t2 = x_ac t) (h2 : x_at t2 = x_at t) (hf : ∀ q, x_af t2 = some q → ∀ j : Int, 0 ≤ j → j < n → X a j = a + q.1 + q.2.1 * j) (k : x_G p l e R s m args below meth c nL E cells slots Q (x_ku κ a (.inr (t2, n))) pc L (st) X) : x_G p l e R s m args below meth c nL E cells slots Q κ pc L (st) X := fun H locs ls hH hS hL => by
  refine k H locs ls ⟨hH.1, fun b kd h => ?_⟩ hS hL
  unfold x_ku at h
  by_cases e : b = a
  · subst e
    rw [if_pos rfl] at h
    cases h
    obtain ⟨h0, g1, g2, g3, -⟩ := hH.2 _ _ hκ
    refine ⟨h0, ?_, ?_, g3, hf⟩
    · show _ = some (arrV (E.2.2.2 (x_ac t2)) n.toNat (fun j => x_sv E (x_at t2) (X b j)))
      rw [h1, h2]; exact g1
    · show ∀ j : Int, 0 ≤ j → j < n → x_rg (x_at t2) (X b j)
      rw [h2]; exact g2
  · rw [if_neg e] at h
    exact hH.2 b kd h
end XRP
