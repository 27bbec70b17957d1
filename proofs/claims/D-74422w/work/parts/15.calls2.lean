theorem lw_U {own : String} {idx : Nat} {C owner : String} {x y : MethodName} {b : ByteArray} {L : Nat} {r : Option FieldType} (h1 : Cond.methodLink own idx x ∈ lw_all) (h2 : Cond.sameMethod x.cls owner x.name x.desc ∈ lw_all) (h3 : Cond.selects C x y ∈ lw_all) (h4 : Cond.instanceMethod y ∈ lw_all) (h5 : Cond.initialized y.cls ∈ lw_all) (h6 : Cond.code y b L r ∈ lw_all) : GoodIn lw_all (va_wsU own idx C owner x y (ws_ y b L r)) := by
  refine lw_app ?_ (lw_meth h6)
  intro w hw
  simp only [List.mem_cons, List.not_mem_nil, or_false] at hw
  rcases hw with rfl | rfl | rfl | rfl | rfl <;> assumption
section XC2
variable {p : Program} {l : Launch} {e : Env} {R : Room} {s : State} {m : MethodId} {args : Array Value} {below : List Frame} {meth : Method} {c : Code} {nL : Nat} {E : x_E} {cells slots : Nat} {Q : State → Prop} {κ : x_Ka}
variable {cc : ByteArray} {own : String} {ret : Option FieldType} {pc : Nat} {L : List (Option Value)} {st : List Value} {X : x_X}
variable {κ' : x_Ka} {post : Option Value → x_X → Prop}
/-- z is a receiver of class C -/
def x_Rc (s : State) (E : x_E) (κ : x_Ka) (X : x_X) (z : Int) (C : String) : Prop := ∀ (H : Heap) (locs : List Loc), x_H E κ X H → va_S (fun q => E.1 ≤ q) s.heap H locs → ∃ adr, x_rf E z = .ref adr ∧ ∃ cell : Cell, H[adr]? = some cell ∧ cell.vm.isStatics = false ∧ s.vm.findClass C = some cell.cls
theorem x_rcK (B : x_B p s m args meth c cc own nL ret E) {a : Int} {ci b : Nat} {rC : vw_C} (hκ : κ a = some (.inl (ci, b))) (hcl : x_cl[ci]? = some rC) : x_Rc s E κ X a rC.1 := fun H locs hH hS => ⟨_, x_rf_pos E (hH.2 a _ hκ).1, x_recv B hκ hcl hH⟩
theorem x_rcG (B : x_B p s m args meth c cc own nL ret E) : x_Rc s E κ X (-2) "NextLoad$Result$1" := fun H locs hH hS => by
  obtain ⟨cell, h1, h2, h3, -⟩ := B.2.2.2.1.2.2.1.2.1.kept hS.2.1
  exact ⟨_, rfl, cell, h1, h2, h3⟩
theorem x_rcF (B : x_B p s m args meth c cc own nL ret E) : x_Rc s E κ X (-3) "NextLoad$Result$2" := fun H locs hH hS => by
  obtain ⟨cell, h1, h2, h3, -⟩ := B.2.2.2.1.2.2.2.1.2.1.kept hS.2.1
  exact ⟨_, rfl, cell, h1, h2, h3⟩
theorem x_rU (B : x_B p s m args meth c cc own nL ret E) {y : MethodName} {idx lv mc ms n maxL : Nat} {bytes : ByteArray} {rt : Option FieldType} {As rest : List Value} {a : Int} {C owner : String} {x : MethodName} (hrc : x_Rc s E κ X a C) (hM : x_Met l y bytes maxL rt lv mc ms E κ X (x_rf E a :: As) κ' post) (hw : GoodIn lw_all (va_wsU own idx C owner x y (ws_ y bytes maxL rt))) (hyx : y = ⟨owner, x.name, x.desc⟩) (hd : owner ≠ "java/lang/invoke/MethodHandle" ∧ owner ≠ "java/lang/invoke/VarHandle" ∧ (parseMethodDescriptor x.desc).map (fun d => d.parameters.length) = some n) (hR : lv + 1 + 1 ≤ R.frames ∧ 8 + (maxL + 11) + 64 * (lv + 1) ≤ R.locals) (hf : cells + mc ≤ R.cells ∧ slots + ms ≤ R.slots) (hn : As.length = n) (hst : st = As.reverse ++ x_rf E a :: rest) (hW : (rest.map fun v => v.category).sum ≤ 8) (d : decode cc pc = .ok (.invokevirtual idx, 3)) : x_Rn p l e R s m args below meth c nL E cells slots κ pc L (st) X mc ms rest κ' post := by
  intro H locs ls hH hS hL
  obtain ⟨adr, ha, hcell⟩ := hrc H locs hH hS
  refine ⟨_, va_runU (As := As) (rest := rest) (b := adr) B.1 hM (va_cwU n B.1.2.2.2.2 hw rfl rfl rfl hyx hd hR) ⟨x_blind _ _ _ _, hcell, fun U hU hW => ⟨by rw [ha], by rw [hU]; exact hH, B.2.2.2.1.at hS hU hW, by rw [hU]; exact Nat.le_trans B.2.2.2.2 hS.1⟩⟩ rfl hn hL.1 (by rw [hst, ha]) (lv_room hW) d hf⟩
theorem x_rA (B : x_B p s m args meth c cc own nL ret E) {y : MethodName} {idx lv mc ms n maxL : Nat} {bytes : ByteArray} {rt : Option FieldType} {As rest : List Value} {a : Int} {C owner : String} {x : MethodName} (hrc : x_Rc s E κ X a C) (hM : x_Met l y bytes maxL rt lv mc ms E κ X (x_rf E a :: As) κ' post) (hw : GoodIn lw_all (va_wsU own idx C owner x y (ws_ y bytes maxL rt))) (hz : Cond.declares ⟨owner, x.name, x.desc⟩ ∈ lw_tbl) (hd : owner ≠ "java/lang/invoke/MethodHandle" ∧ owner ≠ "java/lang/invoke/VarHandle" ∧ (parseMethodDescriptor x.desc).map (fun d => d.parameters.length) = some n) (hR : lv + 1 + 1 ≤ R.frames ∧ 8 + (maxL + 11) + 64 * (lv + 1) ≤ R.locals) (hf : cells + mc ≤ R.cells ∧ slots + ms ≤ R.slots) (hn : As.length = n) (hst : st = As.reverse ++ x_rf E a :: rest) (hW : (rest.map fun v => v.category).sum ≤ 8) (d : decode cc pc = .ok (.invokevirtual idx, 3)) : x_Rn p l e R s m args below meth c nL E cells slots κ pc L (st) X mc ms rest κ' post := by
  intro H locs ls hH hS hL
  obtain ⟨adr, ha, hcell⟩ := hrc H locs hH hS
  refine ⟨_, va_runU (As := As) (rest := rest) (b := adr) B.1 hM (va_cwA n B.1.2.2.2.2 hw rfl rfl rfl (B.2.2.2.1.2.1 _ hz rfl) hd hR) ⟨x_blind _ _ _ _, hcell, fun U hU hW => ⟨by rw [ha], by rw [hU]; exact hH, B.2.2.2.1.at hS hU hW, by rw [hU]; exact Nat.le_trans B.2.2.2.2 hS.1⟩⟩ rfl hn hL.1 (by rw [hst, ha]) (lv_room hW) d hf⟩
theorem x_getG (B : x_B p s m args meth c cc own nL ret E) {idx : Nat} (hl : Cond.fieldLink own idx "NextLoad$Result" "GOOD" "LNextLoad$Result;" ∈ lw_all) (d : decode cc pc = .ok (.getstatic idx, 3)) (k : x_G p l e R s m args below meth c nL E cells slots Q κ (pc + 3) L (x_rf E (-2) :: st) X) : x_G p l e R s m args below meth c nL E cells slots Q κ pc L (st) X :=
  fun H locs ls hH hS hL => va_gets B.1.1 B.1.2.1 B.2.2.2.1.2.2.1.1 hS B.1.2.2.2.1 (B.1.2.2.2.2 _ hl) (fun _ h => h) d (k H locs ls hH hS hL)
theorem x_getFd (B : x_B p s m args meth c cc own nL ret E) {idx : Nat} (hl : Cond.fieldLink own idx "NextLoad$Result" "FAILED" "LNextLoad$Result;" ∈ lw_all) (d : decode cc pc = .ok (.getstatic idx, 3)) (k : x_G p l e R s m args below meth c nL E cells slots Q κ (pc + 3) L (x_rf E (-3) :: st) X) : x_G p l e R s m args below meth c nL E cells slots Q κ pc L (st) X :=
  fun H locs ls hH hS hL => va_gets B.1.1 B.1.2.1 B.2.2.2.1.2.2.2.1.1 hS B.1.2.2.2.1 (B.1.2.2.2.2 _ hl) (fun _ h => h) d (k H locs ls hH hS hL)
theorem x_getOr (B : x_B p s m args meth c cc own nL ret E) {idx : Nat} {z : Int} (hz : z = -2 ∨ z = -3) (hl : Cond.fieldLink own idx "java/lang/Enum" "ordinal" "I" ∈ lw_all) (d : decode cc pc = .ok (.getfield idx, 3)) (k : x_G p l e R s m args below meth c nL E cells slots Q κ (pc + 3) L (vi (-2 - z) :: st) X) : x_G p l e R s m args below meth c nL E cells slots Q κ pc L (x_rf E z :: st) X := by
  intro H locs ls hH hS hL
  rcases hz with rfl | rfl
  · obtain ⟨cf, k', i, f, cell, h1, h2, h3, h4, h5, -⟩ := B.2.2.2.1.2.2.1.2.2.kept hS.2.1
    exact W.getf B.1.1 B.1.2.1 B.1.2.2.2.1 (B.1.2.2.2.2 _ hl) h1 h2 h3 h4 h5 rfl rfl d (k H locs ls hH hS hL)
  · obtain ⟨cf, k', i, f, cell, h1, h2, h3, h4, h5, -⟩ := B.2.2.2.1.2.2.2.1.2.2.kept hS.2.1
    exact W.getf B.1.1 B.1.2.1 B.1.2.2.2.1 (B.1.2.2.2.2 _ hl) h1 h2 h3 h4 h5 rfl rfl d (k H locs ls hH hS hL)
end XC2
