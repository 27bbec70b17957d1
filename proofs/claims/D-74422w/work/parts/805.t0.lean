section XT0
variable {p : Program} {l : Launch} {e : Env} {R : Room} {s : State} {m : MethodId} {args : Array Value} {below : List Frame} {meth : Method} {c : Code} {nL : Nat} {E : x_E} {cells slots : Nat} {Q : State → Prop} {κ : x_Ka}
variable {cc : ByteArray} {own : String} {ret : Option FieldType} {pc : Nat} {L : List (Option Value)} {st : List Value} {X : x_X}
theorem x_rga {a n : Int} (hk : κ a = some (.inr (0, n))) (j : Int) (hj : 0 ≤ j ∧ j < n) (k : xR (X a j) → x_G p l e R s m args below meth c nL E cells slots Q κ pc L (st) X) : x_G p l e R s m args below meth c nL E cells slots Q κ pc L (st) X := fun H locs ls hH hS hL => k (by
  obtain ⟨-, -, hr, -⟩ := hH.2 _ _ hk
  exact hr j hj.1 hj.2) H locs ls hH hS hL
theorem x_rgA {a n : Int} (hk : κ a = some (.inr (0, n))) (k : (∀ j, 0 ≤ j → j < n → xR (X a j)) → x_G p l e R s m args below meth c nL E cells slots Q κ pc L (st) X) : x_G p l e R s m args below meth c nL E cells slots Q κ pc L (st) X := fun H locs ls hH hS hL => k (fun j j1 j2 => by
  obtain ⟨-, -, hr, -⟩ := hH.2 _ _ hk
  exact hr j j1 j2) H locs ls hH hS hL
end XT0
