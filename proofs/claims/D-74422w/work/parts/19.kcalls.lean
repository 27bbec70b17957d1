def x_QK (E : x_E) (post : Option Value → x_Ka → x_X → Prop) : Array Value → State → Outcome → State → Prop := fun _ st o t => (∃ (v : Option Value) (κ' : x_Ka) (X' : x_X), o = .returned v ∧ post v κ' X' ∧ x_H E κ' X' t.heap) ∧ va_F (fun q => E.1 ≤ q) st t
def x_MetK (l : Launch) (y : MethodName) (bytes : ByteArray) (maxL : Nat) (ret : Option FieldType) (lv mc ms : Nat) (E : x_E) (κ : x_Ka) (X : x_X) (av : List Value) (post : Option Value → x_Ka → x_X → Prop) : Prop :=
  Met l y (ws_ y bytes maxL ret) (x_rm lv mc ms) (va_Pc av (x_S E κ X)) (x_QK E post) mc ms (fun q => E.1 ≤ q)
theorem x_MetK.of {l : Launch} {y : MethodName} {bytes : ByteArray} {maxL : Nat} {ret : Option FieldType} {lv mc ms : Nat} {E : x_E} {κ : x_Ka} {X : x_X} {av : List Value} {post : Option Value → x_Ka → x_X → Prop} {own : String} (q : List (Bool × Value)) (L : List (Option Value)) (k : Nat) (hy : plainName y.cls = true) (hown : y.cls = own) (hq : q.map Prod.snd = av) (hc : x_cats q) (hL : x_ls q ++ List.replicate k none = L) (hn : L.length = maxL)
    (body : ∀ p e s m args below meth c, args = av.toArray → meth.name = y.name → x_B p s m args meth c bytes own maxL ret E → x_G p l e (x_rm lv mc ms) s m args below meth c maxL E 0 0 (MQ below (x_QK E post) args s mc ms (fun q => E.1 ≤ q)) κ 0 L [] X) : x_MetK l y bytes maxL ret lv mc ms E κ X av post := by
  refine Met.ofW (cc := bytes) (maxL := maxL) (ret := ret) hy rfl ?_
  intro p e s m args below meth c s₁ B hml hv
  obtain ⟨hargs, hH, hKn, hE⟩ := hv
  have hts := atoms_spec (ws := ws_ y bytes maxL ret) B.pre
  have hts : ∀ w ∈ lw_all, w.before args s = true := fun w h => hts w (List.mem_cons_of_mem _ h)
  have h := body p e s m args below meth c hargs (name_of_methodNamed B.named B.method).1 ⟨⟨B.exec, B.bytes, hml, by rw [← hown]; exact findClass_of_methodNamed B.named, hts⟩, B.returns, B.notSynchronized, hKn, hE⟩
  rw [hargs, lg_entry_eq]
  rw [hargs] at h
  exact h s.heap [] _ hH va_S.rf (x_entry hq hc hL hn)
section XK
variable {p : Program} {l : Launch} {e : Env} {R : Room} {s : State} {m : MethodId} {args : Array Value} {below : List Frame} {meth : Method} {c : Code} {nL : Nat} {E : x_E} {cells slots : Nat} {Q : State → Prop} {κ : x_Ka}
variable {cc : ByteArray} {own : String} {ret : Option FieldType} {pc : Nat} {L : List (Option Value)} {st : List Value} {X : x_X}
variable {post : Option Value → x_Ka → x_X → Prop}
theorem x_aretK {rt : FieldType} (B : x_B p s m args meth c cc own nL (some rt) E) (hrt : (∃ n, rt = .object n) ∨ ∃ t, rt = .array t) {z : Int} (hp : post (some (x_rf E z)) κ X) (d : decode cc pc = .ok (.areturn, 1)) : x_G p l e R s m args below meth c nL E cells slots (MQ below (x_QK E post) args s cells slots (fun q => E.1 ≤ q)) κ pc L ([x_rf E z]) X :=
  fun H locs ls hH hS hL => W.aret B.1.1 B.1.2.1 B.2.1 hrt (x_rf_or E z) (fun t ht hW => ⟨⟨_, κ, X, rfl, hp, by rw [ht]; exact hH⟩, hS.F ht⟩) hS.2.2 d B.2.2.1
theorem x_vretK (B : x_B p s m args meth c cc own nL none E) (hp : post none κ X) (d : decode cc pc = .ok (.return_, 1)) : x_G p l e R s m args below meth c nL E cells slots (MQ below (x_QK E post) args s cells slots (fun q => E.1 ≤ q)) κ pc L ([]) X :=
  fun H locs ls hH hS hL => W.vret B.1.1 B.1.2.1 B.2.1 (fun t ht hW => ⟨⟨_, κ, X, rfl, hp, by rw [ht]; exact hH⟩, hS.F ht⟩) hS.2.2 d B.2.2.1
theorem x_iretK (B : x_B p s m args meth c cc own nL (some .int) E) {z : Int} (hp : post (some (vi z)) κ X) (d : decode cc pc = .ok (.ireturn, 1)) : x_G p l e R s m args below meth c nL E cells slots (MQ below (x_QK E post) args s cells slots (fun q => E.1 ≤ q)) κ pc L ([vi z]) X :=
  fun H locs ls hH hS hL => W.iret B.1.1 B.1.2.1 B.2.1 (fun t ht hW => ⟨⟨_, κ, X, rfl, hp, by rw [ht]; exact hH⟩, hS.F ht⟩) hS.2.2 d B.2.2.1
def x_RnK (p : Program) (l : Launch) (e : Env) (R : Room) (s : State) (m : MethodId) (args : Array Value) (below : List Frame) (meth : Method) (c : Code) (nL : Nat) (E : x_E) (cells slots : Nat) (κ : x_Ka) (pc : Nat) (L : List (Option Value)) (st : List Value) (X : x_X) (mc ms : Nat) (rest : List Value) (post : Option Value → x_Ka → x_X → Prop) : Prop :=
  ∀ (H : Heap) (locs : List Loc) (ls : Array Slot), x_H E κ X H → va_S (fun q => E.1 ≤ q) s.heap H locs → x_L ls nL L → ∃ a, va_Run p l e R s m args below meth c H locs cells slots mc ms (F0 m pc ls st) rest (x_QK E post a) (fun q => E.1 ≤ q)
theorem x_goK {mc ms : Nat} {rest : List Value} (hr : x_RnK p l e R s m args below meth c nL E cells slots κ pc L (st) X mc ms rest post) (kk : ∀ (v : Option Value) (κ' : x_Ka) (X' : x_X), post v κ' X' → x_G p l e R s m args below meth c nL E (cells + mc) (slots + ms) Q κ' (pc + 3) L (v.toList ++ rest) X') : x_G p l e R s m args below meth c nL E cells slots Q κ pc L (st) X := by
  intro H locs ls hH hS hL T hT XX
  obtain ⟨a, hr⟩ := hr H locs ls hH hS hL
  obtain ⟨v, st₀, t, T', L', h0, XX', hLc, e1, e2, ⟨⟨v', κ', X', hv, hp, hb⟩, hz, hk⟩, stp⟩ := hr T hT XX
  cases hv
  rw [h0] at hz hk
  have hS' : va_S (fun q => E.1 ≤ q) s.heap T'.heap (locs ++ L') := by
    refine ⟨Nat.le_trans hS.1 (by rw [e1]; exact hz), fun q h1 h2 => ?_, fun q hq => ?_⟩
    · rw [e1, hk q (Nat.lt_of_lt_of_le h1 hS.1) h2]
      exact hS.2.1 q h1 h2
    · rcases List.mem_append.mp hq with h | h
      · exact hS.2.2 q h
      · exact hLc q h
  obtain ⟨t2, a1, b1⟩ := kk v κ' X' hp T'.heap (locs ++ L') ls (by rw [e1]; exact hb) hS' hL T' rfl XX'
  exact ⟨t2, stp t2 a1, b1⟩
theorem x_rVK (B : x_B p s m args meth c cc own nL ret E) {y : MethodName} {idx lv mc ms n maxL : Nat} {bytes : ByteArray} {rt : Option FieldType} {As rest : List Value} {a : Int} {ci b : Nat} {rC : vw_C} (hκ : κ a = some (.inl (ci, b))) (hcl : x_cl[ci]? = some rC) (hM : x_MetK l y bytes maxL rt lv mc ms E κ X (x_rf E a :: As) post) (hw : GoodIn lw_all (wsV own idx rC.1 y (ws_ y bytes maxL rt))) (hd : y.cls = rC.1 ∧ y.cls ≠ "java/lang/invoke/MethodHandle" ∧ y.cls ≠ "java/lang/invoke/VarHandle" ∧ (parseMethodDescriptor y.desc).map (fun d => d.parameters.length) = some n) (hR : lv + 1 + 1 ≤ R.frames ∧ 8 + (maxL + 11) + 64 * (lv + 1) ≤ R.locals) (hf : cells + mc ≤ R.cells ∧ slots + ms ≤ R.slots) (hn : As.length = n) (hst : st = As.reverse ++ x_rf E a :: rest) (hW : (rest.map fun v => v.category).sum ≤ 8) (d : decode cc pc = .ok (.invokevirtual idx, 3)) : x_RnK p l e R s m args below meth c nL E cells slots κ pc L (st) X mc ms rest post := by
  intro H locs ls hH hS hL
  have ha := (hH.2 a _ hκ).1
  refine ⟨_, va_runV (As := As) (rest := rest) (b := E.1 + a.toNat) B.1 hM (cwV n B.1.2.2.2.2 hw rfl rfl rfl hd hR) ⟨x_blind _ _ _ _, x_recv B hκ hcl hH, fun U hU hW => ⟨by rw [x_rf_pos E ha], by rw [hU]; exact hH, B.2.2.2.1.at hS hU hW, by rw [hU]; exact Nat.le_trans B.2.2.2.2 hS.1⟩⟩ rfl hn hL.1 (by rw [hst, x_rf_pos E ha]) (lv_room hW) d hf⟩
theorem x_newq (B : x_B p s m args meth c cc own nL ret E) {t idx : Nat} {C : String} {n : Int} (hl : Cond.classLink own idx C ∈ lw_all) (hov : Cond.arrayOver (.object C) ∈ lw_tbl) (ht : (x_tyl E)[x_ac t]? = some (E.2.2.2 (x_ac t), .object C)) (hat : x_at t = 2) (haf : x_af t = none) (hn : 0 ≤ n ∧ n ≤ 100000) (hcells : cells + 1 ≤ R.cells) (hslots : slots + n.toNat ≤ R.slots) (d : decode cc pc = .ok (.anewarray idx, 3)) (k : 0 ≤ X (-1) 0 → κ (X (-1) 0) = none → x_G p l e R s m args below meth c nL E (cells + 1) (slots + n.toNat) Q (x_ku κ (X (-1) 0) (.inr (t, n))) (pc + 3) L (x_rf E (X (-1) 0) :: st) (x_nw X (fun _ => -1))) : x_G p l e R s m args below meth c nL E cells slots Q κ pc L (vi n :: st) X := by
  refine x_sz B (fun h0 hnn => ?_)
  intro H locs ls hH hS hL
  have hts := B.1.2.2.2.2
  have hcl : (xI n).toNatClampNeg = n.toNat := xI_clamp ⟨by omega, by omega⟩
  refine W.anew B.1.1 B.1.2.1 B.1.2.2.2.1 (hts _ hl) (va_AO.use (B.2.2.2.1.2.1 _ hov rfl)) rfl d rfl (fun h => by rw [show (0 : Int32) = xI 0 from rfl, xI_lt ⟨by omega, by omega⟩ (by decide)] at h; omega) (by rw [hcl]; omega) hcells (by rw [hcl]; exact hslots) fun cA kA comp f1 f2 f3 f4 => ?_
  rw [hcl]
  have hRA := (B.2.2.2.1.1.2 _ _ ht).2
  obtain ⟨kA2, comp2, r1, r2, r3, r4⟩ := hRA
  have hcA : cA = E.2.2.2 (x_ac t) := Option.some.inj (f1.symm.trans r4)
  subst hcA
  have hsz : (H.size : Nat) = E.1 + (X (-1) 0).toNat := by have := hH.1; omega
  have hnew : ({ cls := E.2.2.2 (x_ac t), slots := Array.replicate n.toNat Value.null, vm := .none } : Cell) = arrV (E.2.2.2 (x_ac t)) n.toNat (fun _ => Value.null) := by rw [← arrV_new]
  have k2 := k h0 hnn (H.push { cls := E.2.2.2 (x_ac t), slots := Array.replicate n.toNat .null, vm := .none }) locs ls (hH.new h0 (by simp) (fun q hq => by rw [Array.getElem?_push, if_neg (Nat.ne_of_lt hq)]) ⟨by rw [← hsz, hat, hnew]; simp [x_sv, x_rf_nul], fun j _ _ => by rw [hat]; trivial, hn, fun q hq => by rw [haf] at hq; cases hq⟩) ⟨Nat.le_trans hS.1 (by simp), fun x h1 h2 => by rw [Array.getElem?_push, if_neg (by have := hS.1; omega)]; exact hS.2.1 x h1 h2, hS.2.2⟩ hL
  rw [x_rf_pos E h0, ← hsz] at k2
  exact k2
/-- an object of the very class is stored -/
theorem x_aast (B : x_B p s m args meth c cc own nL ret E) {t ci b : Nat} {rC : vw_C} {a i n v : Int} (hκ : κ a = some (.inr (t, n))) (ht : (x_tyl E)[x_ac t]? = some (E.2.2.2 (x_ac t), .object rC.1)) (hat : x_at t = 2) (haf : x_af t = none) (hv : κ v = some (.inl (ci, b))) (hcl : x_cl[ci]? = some rC) (hi : 0 ≤ i ∧ i < n) (d : decode cc pc = .ok (.aastore, 1)) (k : x_G p l e R s m args below meth c nL E cells slots Q κ (pc + 1) L (st) (x_up X a i v)) : x_G p l e R s m args below meth c nL E cells slots Q κ pc L (x_rf E v :: vi i :: x_rf E a :: st) X := by
  intro H locs ls hH hS hL
  obtain ⟨ha, h1, hrg, hn, -⟩ := hH.2 a _ hκ
  obtain ⟨hv0, ⟨r, hr, cell, q1, q2, q3, q4⟩, -⟩ := hH.2 v _ hv
  obtain ⟨e1, e2, e3⟩ := x_ix (cA := E.2.2.2 (x_ac t)) (f := fun j => x_sv E (x_at t) (X a j)) hn hi
  obtain ⟨kA, comp, r1, r2, r3, r4⟩ := (B.2.2.2.1.1.2 _ _ ht).2
  have hcat := (B.2.2.2.1.1.1 ci _ hcl).2
  obtain ⟨kC, hkC, hkind⟩ := hcat.2
  have hcomp : comp = E.2.2.1.1 ci := Option.some.inj (r3.symm.trans hcat.1)
  subst hcomp
  have q2' : cell.cls = E.2.2.1.1 ci := q2
  rw [x_rf_pos E ha, x_rf_pos E hv0]
  refine W.aast B.1.1 B.1.2.1 h1 (fun q h => by cases h) (fun h => by cases h) r1 r2 rfl hkC ⟨fun h => e2 (Or.inl h), Nat.not_le.mp fun h => e2 (Or.inr h)⟩ q1 (fun q h => by rw [q3] at h; cases h) (by rw [q2']; exact hkC) (by rw [q2']; exact va_assign hcat) rfl rfl d (fun H' f1 f2 f3 => ?_)
  rw [e1, ← x_rf_pos E hv0] at f1
  have f1' : H'[E.1 + a.toNat]? = some ((arrV (E.2.2.2 (x_ac t)) n.toNat (fun j => x_sv E (x_at t) (X a j))).setSlot i.toNat (x_sv E (x_at t) v)) := by rw [f1, hat]; rfl
  exact k H' _ ls (hH.set f2 f3 hκ (x_ok.elem f1' hi hrg (by rw [hat]; trivial) hn haf) (fun a' h => x_up_o X h)) (x_S_put hS f2 f3 (Nat.le_add_right _ _)) hL
end XK
