def x_cp (X : x_X) (a b : Int) : x_X := fun a' i => if a' = b ∧ 0 ≤ i ∧ i < 3 then X a i else X a' i
section XCP
variable {p : Program} {l : Launch} {e : Env} {R : Room} {s : State} {m : MethodId} {args : Array Value} {below : List Frame} {meth : Method} {c : Code} {nL : Nat} {E : x_E} {cells slots : Nat} {Q : State → Prop} {κ : x_Ka}
variable {cc : ByteArray} {own : String} {ret : Option FieldType} {pc : Nat} {L : List (Option Value)} {st : List Value} {X : x_X}
theorem x_cp3 (B : x_B p s m args meth c cc own nL ret E) {idx : Nat} {a b : Int} (ka : κ a = some (.inr (0, 3))) (kb : κ b = some (.inr (0, 3))) (hl : Cond.methodLink own idx arraycopyName ∈ lw_all) (d : decode cc pc = .ok (.invokestatic idx, 3)) (hfr : 1 ≤ R.frames) (hlo : (st.map fun v => v.category).sum + (nativeFrameWords "java/lang/System" "arraycopy" 5 + 11) ≤ R.locals) (k : x_G p l e R s m args below meth c nL E cells slots Q κ (pc + 3) L (st) (x_cp X a b)) : x_G p l e R s m args below meth c nL E cells slots Q κ pc L (vi 3 :: vi 0 :: x_rf E b :: vi 0 :: x_rf E a :: st) X := by
  intro H locs ls hH hS hL
  have hts := B.1.2.2.2.2
  obtain ⟨ha0, ha1, hra, -⟩ := hH.2 a _ ka
  obtain ⟨hb0, hb1, hrb, -⟩ := hH.2 b _ kb
  rw [x_rf_pos E ha0, x_rf_pos E hb0]
  have hA : ArrOfT s (E.2.2.2 0) .int := (B.2.2.2.1.1.2 0 _ rfl).1
  intro T hT XX
  obtain ⟨-, k0, hk0, cm0, hkk0⟩ := hA 3 (fun j => .int (xI (X a j)))
  have hc0 : H[E.1 + a.toNat]? = some (arrV (E.2.2.2 0) 3 (fun j => .int (xI (X a j)))) := ha1
  have hc1 : H[E.1 + b.toNat]? = some (arrV (E.2.2.2 0) 3 (fun j => .int (xI (X b j)))) := hb1
  obtain ⟨vm', X', step⟩ := XX.arraycopy B.1.1 B.1.2.2.2.1 (hts _ hl) (hts _ q708) (hts _ q707) (hts _ q132) (src := E.1 + a.toNat) (dst := E.1 + b.toNat) (cs := arrV (E.2.2.2 0) 3 (fun j => .int (xI (X a j)))) (cd := arrV (E.2.2.2 0) 3 (fun j => .int (xI (X b j)))) (srcPos := xI 0) (destPos := xI 0) (n := xI 3) (by rw [hT]; exact hc0) (by rw [hT]; exact hc1)
    (fun _ h => by cases h) (fun _ h => by cases h) (fun h => by cases h) (fun h => by cases h) hk0 hk0 hkk0 hkk0 (by simp [refKind]) (by decide) (by decide) (by decide)
    (by rw [arrV_size]; decide) (by rw [arrV_size]; decide)
    (fun vm₁ _ i hi => by
      have hi3 : i < 3 := hi
      have e : (arrV (E.2.2.2 0) 3 (fun j => Value.int (xI (X a j)))).slots.getD ((xI 0).toNatClampNeg + i) .null = .int (xI (X a ((xI 0).toNatClampNeg + i : Nat))) := by
        rw [Array.getD_eq_getD_getElem?, arrV_read _ _ (show (xI 0).toNatClampNeg + i < 3 by show 0 + i < 3; omega)]
        rfl
      refine ⟨?_, ?_⟩
      · rw [e]; rfl
      · rw [e]; exact trivial)
    (g := F0 m pc ls (vi 3 :: vi 0 :: .ref (E.1 + b.toNat) :: vi 0 :: .ref (E.1 + a.toNat) :: st)) rfl (by rw [B.1.2.2.1]; exact hL.1) (rest := st) rfl (by rw [B.1.2.1]; exact d) hfr (by show 2 * 0 + _ + _ ≤ _; omega)
  have e1 : copied (arrV (E.2.2.2 0) 3 (fun j => Value.int (xI (X a j)))) (arrV (E.2.2.2 0) 3 (fun j => Value.int (xI (X b j)))) (xI 0) (xI 0) (xI 3) = arrV (E.2.2.2 0) 3 (fun j => .int (xI (x_cp X a b b j))) := by
    refine (va_copied (fun z => Value.int (xI z)) (E.2.2.2 0) (E.2.2.2 0) (n0 := 3) (n1 := 3) (sp := 0) (dp := 0) (n := 3) (fun j => X a j) (fun j => X b j) (by omega)).trans ?_
    congr 1
    funext j
    simp only [va_cpy, x_cp]
    by_cases h : j < 3
    · have h3 : (j : Int) < 3 := by omega
      simp [h, h3]
    · have h3 : ¬ (j : Int) < 3 := by omega
      simp [h, h3]
  rw [e1] at X' step
  have hl2 : E.1 + b.toNat < H.size := (Array.getElem?_eq_some_iff.mp hc1).1
  have hheap : ((T.setVm vm').setCell (E.1 + b.toNat) (arrV (E.2.2.2 0) 3 (fun j => .int (xI (x_cp X a b b j))))).heap = H.setIfInBounds (E.1 + b.toNat) (arrV (E.2.2.2 0) 3 (fun j => .int (xI (x_cp X a b b j)))) := by rw [← hT]; rfl
  have oq : ∀ q : Nat, q ≠ E.1 + b.toNat → (H.setIfInBounds (E.1 + b.toNat) (arrV (E.2.2.2 0) 3 (fun j => .int (xI (x_cp X a b b j)))))[q]? = H[q]? := fun q hq => by simp [Array.getElem?_setIfInBounds, Ne.symm hq]
  have hself : (H.setIfInBounds (E.1 + b.toNat) (arrV (E.2.2.2 0) 3 (fun j => .int (xI (x_cp X a b b j)))))[E.1 + b.toNat]? = some (arrV (E.2.2.2 0) 3 (fun j => .int (xI (x_cp X a b b j)))) := by simp [Array.getElem?_setIfInBounds, hl2]
  have hH' : x_H E κ (x_cp X a b) (H.setIfInBounds (E.1 + b.toNat) (arrV (E.2.2.2 0) 3 (fun j => .int (xI (x_cp X a b b j))))) := by
    refine hH.set (by simp) oq kb ⟨hself, fun j h1 h2 => ?_, ⟨by omega, by omega⟩, fun q hq => by cases hq⟩ (fun a' h => by funext i; simp [x_cp, h])
    have : x_cp X a b b j = X a j := if_pos ⟨rfl, h1, h2⟩
    rw [this]
    exact hra j h1 h2
  obtain ⟨t, a1, b1⟩ := k _ _ ls hH' ⟨by simp; exact hS.1, fun q g1 g2 => by rw [oq q (fun e => g2 (by rw [e]; exact Nat.le_add_right _ _))]; exact hS.2.1 q g1 g2, fun q hq => by
      rcases List.mem_append.mp hq with h | h
      · exact hS.2.2 q h
      · obtain ⟨z, -, hz⟩ := List.mem_map.mp h
        rw [← hz]
        exact Nat.le_add_right _ _⟩ hL _ hheap X'
  exact ⟨t, step t a1, b1⟩
end XCP
