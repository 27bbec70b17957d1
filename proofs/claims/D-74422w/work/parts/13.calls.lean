theorem x_c1 (x : Int32) : (Value.int x).category = 1 := rfl
theorem x_c2 (x : Int64) : (Value.long x).category = 2 := rfl
/-! a method's start -/
def x_ls : List (Bool × Value) → List (Option Value)
  | [] => []
  | (false, v) :: r => some v :: x_ls r
  | (true, v) :: r => some v :: none :: x_ls r
def x_cats : List (Bool × Value) → Prop
  | [] => True
  | q :: r => q.2.category = (if q.1 then 2 else 1) ∧ x_cats r
theorem x_ls_mem : ∀ (q : List (Bool × Value)) (k i : Nat) (v : Value), x_cats q → (x_ls q)[i]? = some (some v) → (k + i, v) ∈ lv_args k (q.map Prod.snd)
  | [], k, i, v, _, h => by simp [x_ls] at h
  | (false, w) :: r, k, i, v, hc, h => by
    have hw : w.category = 1 := hc.1
    cases i with
    | zero => simp [x_ls] at h; subst h; simp [lv_args]
    | succ i =>
      have h1 : (x_ls r)[i]? = some (some v) := by simpa [x_ls] using h
      have h2 := x_ls_mem r (k + 1) i v hc.2 h1
      simp only [List.map_cons, lv_args, hw]
      refine List.mem_cons_of_mem _ ?_
      rw [if_neg (by decide)]
      rw [show k + (i + 1) = k + 1 + i by omega]
      exact h2
  | (true, w) :: r, k, i, v, hc, h => by
    have hw : w.category = 2 := hc.1
    cases i with
    | zero => simp [x_ls] at h; subst h; simp [lv_args]
    | succ i =>
      cases i with
      | zero => simp [x_ls] at h
      | succ i =>
        have h1 : (x_ls r)[i]? = some (some v) := by simpa [x_ls] using h
        have h2 := x_ls_mem r (k + 2) i v hc.2 h1
        simp only [List.map_cons, lv_args, hw]
        refine List.mem_cons_of_mem _ ?_
        rw [if_pos trivial, show k + (i + 1 + 1) = k + 2 + i by omega]
        exact h2
theorem x_ls_len : ∀ (q : List (Bool × Value)), x_cats q → (lg_sl (q.map Prod.snd)).length = (x_ls q).length
  | [], _ => rfl
  | (false, w) :: r, hc => by
    have hw : w.category = 1 := hc.1
    have h := x_ls_len r hc.2
    simp only [lg_sl, List.map_cons, List.flatMap_cons, hw, x_ls, List.length_append, List.length_cons] at h ⊢
    rw [if_neg (by decide)]
    simp only [List.length_cons, List.length_nil]
    omega
  | (true, w) :: r, hc => by
    have hw : w.category = 2 := hc.1
    have h := x_ls_len r hc.2
    simp only [lg_sl, List.map_cons, List.flatMap_cons, hw, x_ls, List.length_append, List.length_cons] at h ⊢
    rw [if_pos trivial]
    simp only [List.length_cons, List.length_nil]
    omega
theorem x_entry {q : List (Bool × Value)} {av : List Value} {L : List (Option Value)} {n k : Nat} (hq : q.map Prod.snd = av) (hc : x_cats q) (hL : x_ls q ++ List.replicate k none = L) (hn : L.length = n) : x_L ((lg_sl av ++ List.replicate (n - (lg_sl av).length) Slot.unset).toArray) n L := by
  subst hq
  subst hL
  have hl : (lg_sl (q.map Prod.snd)).length ≤ n := by
    rw [x_ls_len q hc, ← hn, List.length_append]
    exact Nat.le_add_right _ _
  have h := lv_entry (q.map Prod.snd) hl
  refine ⟨h.1, h.2.1, hn, fun i v hi => ?_⟩
  have hi' : (x_ls q)[i]? = some (some v) := by
    by_cases hlt : i < (x_ls q).length
    · rwa [List.getElem?_append_left hlt] at hi
    · rw [List.getElem?_append_right (by omega)] at hi
      have := List.mem_of_getElem? hi
      rw [List.mem_replicate] at this
      cases this.2
  have := h.2.2 _ (x_ls_mem q 0 i v hc hi')
  simpa using this
/-- A CONTRACT out of the walk of its body -/
theorem x_Met.of {l : Launch} {y : MethodName} {bytes : ByteArray} {maxL : Nat} {ret : Option FieldType} {lv mc ms : Nat} {E : x_E} {κ : x_Ka} {X : x_X} {av : List Value} {κ' : x_Ka} {post : Option Value → x_X → Prop} {own : String} (q : List (Bool × Value)) (L : List (Option Value)) (k : Nat) (hy : plainName y.cls = true) (hown : y.cls = own) (hq : q.map Prod.snd = av) (hc : x_cats q) (hL : x_ls q ++ List.replicate k none = L) (hn : L.length = maxL)
    (body : ∀ p e s m args below meth c, args = av.toArray → meth.name = y.name → x_B p s m args meth c bytes own maxL ret E → x_G p l e (x_rm lv mc ms) s m args below meth c maxL E 0 0 (MQ below (x_Q E κ' post) args s mc ms (fun q => E.1 ≤ q)) κ 0 L [] X) : x_Met l y bytes maxL ret lv mc ms E κ X av κ' post := by
  refine Met.ofW (cc := bytes) (maxL := maxL) (ret := ret) hy rfl ?_
  intro p e s m args below meth c s₁ B hml hv
  obtain ⟨hargs, hH, hKn, hE⟩ := hv
  have hts := atoms_spec (ws := ws_ y bytes maxL ret) B.pre
  have hts : ∀ w ∈ lw_all, w.before args s = true := fun w h => hts w (List.mem_cons_of_mem _ h)
  have h := body p e s m args below meth c hargs (name_of_methodNamed B.named B.method).1 ⟨⟨B.exec, B.bytes, hml, by rw [← hown]; exact findClass_of_methodNamed B.named, hts⟩, B.returns, B.notSynchronized, hKn, hE⟩
  rw [hargs, lg_entry_eq]
  rw [hargs] at h
  exact h s.heap [] _ hH va_S.rf (x_entry hq hc hL hn)
/-- a method that answers r and changes nothing -/
abbrev x_Pu (l : Launch) (y : MethodName) (bytes : ByteArray) (maxL : Nat) (ret : Option FieldType) (lv : Nat) (E : x_E) (κ : x_Ka) (X : x_X) (av : List Value) (r : Value) : Prop := x_Met l y bytes maxL ret lv 0 0 E κ X av κ (fun v X' => v = some r ∧ X' = X)
/-- a method that answers r, with the store X2 behind it -/
abbrev x_De (l : Launch) (y : MethodName) (bytes : ByteArray) (maxL : Nat) (ret : Option FieldType) (lv : Nat) (E : x_E) (κ : x_Ka) (X : x_X) (av : List Value) (r : Value) (X2 : x_X) : Prop := x_Met l y bytes maxL ret lv 0 0 E κ X av κ (fun v X' => v = some r ∧ X' = X2)
/-- a void method, with the store X2 behind it -/
abbrev x_Vo (l : Launch) (y : MethodName) (bytes : ByteArray) (maxL : Nat) (lv : Nat) (E : x_E) (κ : x_Ka) (X : x_X) (av : List Value) (X2 : x_X) : Prop := x_Met l y bytes maxL none lv 0 0 E κ X av κ (fun v X' => v = none ∧ X' = X2)
section XC
variable {p : Program} {l : Launch} {e : Env} {R : Room} {s : State} {m : MethodId} {args : Array Value} {below : List Frame} {meth : Method} {c : Code} {nL : Nat} {E : x_E} {cells slots : Nat} {Q : State → Prop} {κ : x_Ka}
variable {cc : ByteArray} {own : String} {ret : Option FieldType} {pc : Nat} {L : List (Option Value)} {st : List Value} {X : x_X}
variable {κ' : x_Ka} {post : Option Value → x_X → Prop}
theorem x_iret (B : x_B p s m args meth c cc own nL (some .int) E) (hs : ∀ a k, κ' a = some k → κ a = some k) {z : Int} (hp : post (some (vi z)) X) (d : decode cc pc = .ok (.ireturn, 1)) : x_G p l e R s m args below meth c nL E cells slots (MQ below (x_Q E κ' post) args s cells slots (fun q => E.1 ≤ q)) κ pc L ([vi z]) X :=
  fun H locs ls hH hS hL => W.iret B.1.1 B.1.2.1 B.2.1 (fun t ht hW => ⟨⟨_, X, rfl, hp, by rw [ht]; exact hH.sub hs⟩, hS.F ht⟩) hS.2.2 d B.2.2.1
theorem x_zret (B : x_B p s m args meth c cc own nL (some .boolean) E) (hs : ∀ a k, κ' a = some k → κ a = some k) {z : Int} (hz : 0 ≤ z ∧ z ≤ 1) (hp : post (some (vi z)) X) (d : decode cc pc = .ok (.ireturn, 1)) : x_G p l e R s m args below meth c nL E cells slots (MQ below (x_Q E κ' post) args s cells slots (fun q => E.1 ≤ q)) κ pc L ([vi z]) X :=
  fun H locs ls hH hS hL => W.zret B.1.1 B.1.2.1 B.2.1 (x_bl hz).1 (fun t ht hW => ⟨⟨_, X, rfl, hp, by rw [ht]; exact hH.sub hs⟩, hS.F ht⟩) hS.2.2 d B.2.2.1
theorem x_lret (B : x_B p s m args meth c cc own nL (some .long) E) (hs : ∀ a k, κ' a = some k → κ a = some k) {z : Int} (hp : post (some (vl z)) X) (d : decode cc pc = .ok (.lreturn, 1)) : x_G p l e R s m args below meth c nL E cells slots (MQ below (x_Q E κ' post) args s cells slots (fun q => E.1 ≤ q)) κ pc L ([vl z]) X :=
  fun H locs ls hH hS hL => W.lret B.1.1 B.1.2.1 B.2.1 (fun t ht hW => ⟨⟨_, X, rfl, hp, by rw [ht]; exact hH.sub hs⟩, hS.F ht⟩) hS.2.2 d B.2.2.1
theorem x_vret (B : x_B p s m args meth c cc own nL (none) E) (hs : ∀ a k, κ' a = some k → κ a = some k) (hp : post none X) (d : decode cc pc = .ok (.return_, 1)) : x_G p l e R s m args below meth c nL E cells slots (MQ below (x_Q E κ' post) args s cells slots (fun q => E.1 ≤ q)) κ pc L ([]) X :=
  fun H locs ls hH hS hL => W.vret B.1.1 B.1.2.1 B.2.1 (fun t ht hW => ⟨⟨_, X, rfl, hp, by rw [ht]; exact hH.sub hs⟩, hS.F ht⟩) hS.2.2 d B.2.2.1
theorem x_rf_or (E : x_E) (z : Int) : x_rf E z = .null ∨ ∃ a, x_rf E z = .ref a := by
  unfold x_rf
  split
  · exact Or.inr ⟨_, rfl⟩
  · split
    · exact Or.inl rfl
    · exact Or.inr ⟨_, rfl⟩
theorem x_aret {rt : FieldType} (B : x_B p s m args meth c cc own nL (some rt) E) (hrt : (∃ n, rt = .object n) ∨ ∃ t, rt = .array t) (hs : ∀ a k, κ' a = some k → κ a = some k) {z : Int} (hp : post (some (x_rf E z)) X) (d : decode cc pc = .ok (.areturn, 1)) : x_G p l e R s m args below meth c nL E cells slots (MQ below (x_Q E κ' post) args s cells slots (fun q => E.1 ≤ q)) κ pc L ([x_rf E z]) X :=
  fun H locs ls hH hS hL => W.aret B.1.1 B.1.2.1 B.2.1 hrt (x_rf_or E z) (fun t ht hW => ⟨⟨_, X, rfl, hp, by rw [ht]; exact hH.sub hs⟩, hS.F ht⟩) hS.2.2 d B.2.2.1
theorem x_wide {cells' slots' : Nat} (h1 : cells ≤ cells') (h2 : slots ≤ slots') (k : x_G p l e R s m args below meth c nL E cells' slots' Q κ pc L (st) X) : x_G p l e R s m args below meth c nL E cells slots Q κ pc L (st) X :=
  fun H locs ls hH hS hL => W.widen (k := cells') (n := slots') h1 h2 (k H locs ls hH hS hL)
theorem x_sub {κ2 : x_Ka} (hs : ∀ a k, κ2 a = some k → κ a = some k) (k : x_G p l e R s m args below meth c nL E cells slots Q κ2 pc L (st) X) : x_G p l e R s m args below meth c nL E cells slots Q κ pc L (st) X :=
  fun H locs ls hH hS hL => k H locs ls (hH.sub hs) hS hL
theorem x_cs {cells' slots' : Nat} (h1 : cells = cells') (h2 : slots = slots') (k : x_G p l e R s m args below meth c nL E cells' slots' Q κ pc L (st) X) : x_G p l e R s m args below meth c nL E cells slots Q κ pc L (st) X := by subst h1; subst h2; exact k
theorem x_eqX {X2 : x_X} (h : X = X2) (k : x_G p l e R s m args below meth c nL E cells slots Q κ pc L (st) X2) : x_G p l e R s m args below meth c nL E cells slots Q κ pc L (st) X := by subst h; exact k
theorem x_eqL {L2 : List (Option Value)} (h : L = L2) (k : x_G p l e R s m args below meth c nL E cells slots Q κ pc L2 (st) X) : x_G p l e R s m args below meth c nL E cells slots Q κ pc L (st) X := by subst h; exact k
theorem x_eqS {st2 : List Value} (h : st = st2) (k : x_G p l e R s m args below meth c nL E cells slots Q κ pc L (st2) X) : x_G p l e R s m args below meth c nL E cells slots Q κ pc L (st) X := by subst h; exact k
def x_Rn (p : Program) (l : Launch) (e : Env) (R : Room) (s : State) (m : MethodId) (args : Array Value) (below : List Frame) (meth : Method) (c : Code) (nL : Nat) (E : x_E) (cells slots : Nat) (κ : x_Ka) (pc : Nat) (L : List (Option Value)) (st : List Value) (X : x_X) (mc ms : Nat) (rest : List Value) (κ' : x_Ka) (post : Option Value → x_X → Prop) : Prop :=
  ∀ (H : Heap) (locs : List Loc) (ls : Array Slot), x_H E κ X H → va_S (fun q => E.1 ≤ q) s.heap H locs → x_L ls nL L → ∃ a, va_Run p l e R s m args below meth c H locs cells slots mc ms (F0 m pc ls st) rest (x_Q E κ' post a) (fun q => E.1 ≤ q)
theorem x_go {mc ms : Nat} {rest : List Value} (hr : x_Rn p l e R s m args below meth c nL E cells slots κ pc L (st) X mc ms rest κ' post) (kk : ∀ (v : Option Value) (X' : x_X), post v X' → x_G p l e R s m args below meth c nL E (cells + mc) (slots + ms) Q κ' (pc + 3) L (v.toList ++ rest) X') : x_G p l e R s m args below meth c nL E cells slots Q κ pc L (st) X := by
  intro H locs ls hH hS hL T hT XX
  obtain ⟨a, hr⟩ := hr H locs ls hH hS hL
  obtain ⟨v, st₀, t, T', L', h0, XX', hLc, e1, e2, ⟨⟨v', X', hv, hp, hb⟩, hz, hk⟩, stp⟩ := hr T hT XX
  cases hv
  rw [h0] at hz hk
  have hS' : va_S (fun q => E.1 ≤ q) s.heap T'.heap (locs ++ L') := by
    refine ⟨Nat.le_trans hS.1 (by rw [e1]; exact hz), fun q h1 h2 => ?_, fun q hq => ?_⟩
    · rw [e1, hk q (Nat.lt_of_lt_of_le h1 hS.1) h2]
      exact hS.2.1 q h1 h2
    · rcases List.mem_append.mp hq with h | h
      · exact hS.2.2 q h
      · exact hLc q h
  obtain ⟨t2, a1, b1⟩ := kk v X' hp T'.heap (locs ++ L') ls (by rw [e1]; exact hb) hS' hL T' rfl XX'
  exact ⟨t2, stp t2 a1, b1⟩
theorem x_goP {rest : List Value} {r : Value} {X2 : x_X} (hr : x_Rn p l e R s m args below meth c nL E cells slots κ pc L (st) X 0 0 rest κ' (fun v X' => v = some r ∧ X' = X2)) (k : x_G p l e R s m args below meth c nL E cells slots Q κ' (pc + 3) L (r :: rest) X2) : x_G p l e R s m args below meth c nL E cells slots Q κ pc L (st) X :=
  x_go hr (fun v X' h => by obtain ⟨rfl, rfl⟩ := h; exact k)
theorem x_goV {rest : List Value} {X2 : x_X} (hr : x_Rn p l e R s m args below meth c nL E cells slots κ pc L (st) X 0 0 rest κ' (fun v X' => v = none ∧ X' = X2)) (k : x_G p l e R s m args below meth c nL E cells slots Q κ' (pc + 3) L (rest) X2) : x_G p l e R s m args below meth c nL E cells slots Q κ pc L (st) X :=
  x_go hr (fun v X' h => by obtain ⟨rfl, rfl⟩ := h; exact k)
theorem x_recv (B : x_B p s m args meth c cc own nL ret E) {a : Int} {ci b : Nat} {rC : vw_C} (hκ : κ a = some (.inl (ci, b))) (hcl : x_cl[ci]? = some rC) {H : Heap} (hH : x_H E κ X H) : ∃ cell : Cell, H[E.1 + a.toNat]? = some cell ∧ cell.vm.isStatics = false ∧ s.vm.findClass rC.1 = some cell.cls := by
  obtain ⟨ha, ⟨r, hr, cell, q1, q2, q3, q4⟩, -⟩ := hH.2 a _ hκ
  cases hcl.symm.trans hr
  exact ⟨cell, q1, by rw [q3]; rfl, by rw [q2]; exact (B.2.2.2.1.1.1 ci _ hcl).2.1⟩
theorem x_rV (B : x_B p s m args meth c cc own nL ret E) {y : MethodName} {idx lv mc ms n maxL : Nat} {bytes : ByteArray} {rt : Option FieldType} {As rest : List Value} {a : Int} {ci b : Nat} {rC : vw_C} (hκ : κ a = some (.inl (ci, b))) (hcl : x_cl[ci]? = some rC) (hM : x_Met l y bytes maxL rt lv mc ms E κ X (x_rf E a :: As) κ' post) (hw : GoodIn lw_all (wsV own idx rC.1 y (ws_ y bytes maxL rt))) (hd : y.cls = rC.1 ∧ y.cls ≠ "java/lang/invoke/MethodHandle" ∧ y.cls ≠ "java/lang/invoke/VarHandle" ∧ (parseMethodDescriptor y.desc).map (fun d => d.parameters.length) = some n) (hR : lv + 1 + 1 ≤ R.frames ∧ 8 + (maxL + 11) + 64 * (lv + 1) ≤ R.locals) (hf : cells + mc ≤ R.cells ∧ slots + ms ≤ R.slots) (hn : As.length = n) (hst : st = As.reverse ++ x_rf E a :: rest) (hW : (rest.map fun v => v.category).sum ≤ 8) (d : decode cc pc = .ok (.invokevirtual idx, 3)) : x_Rn p l e R s m args below meth c nL E cells slots κ pc L (st) X mc ms rest κ' post := by
  intro H locs ls hH hS hL
  have ha := (hH.2 a _ hκ).1
  refine ⟨_, va_runV (As := As) (rest := rest) (b := E.1 + a.toNat) B.1 hM (cwV n B.1.2.2.2.2 hw rfl rfl rfl hd hR) ⟨x_blind _ _ _ _, x_recv B hκ hcl hH, fun U hU hW => ⟨by rw [x_rf_pos E ha], by rw [hU]; exact hH, B.2.2.2.1.at hS hU hW, by rw [hU]; exact Nat.le_trans B.2.2.2.2 hS.1⟩⟩ rfl hn hL.1 (by rw [hst, x_rf_pos E ha]) (lv_room hW) d hf⟩
theorem x_rVN (B : x_B p s m args meth c cc own nL ret E) {y : MethodName} {idx lv mc ms n maxL : Nat} {bytes : ByteArray} {rt : Option FieldType} {As rest : List Value} {a : Int} {ci b : Nat} {rC : vw_C} (hκ : κ a = some (.inl (ci, b))) (hcl : x_cl[ci]? = some rC) (hM : x_Met l y bytes maxL rt lv mc ms E κ X (x_rf E a :: As) κ' post) (hl : Cond.methodLinkNest own idx y "NextLoad" ∈ lw_tbl) (hq1 : Cond.instanceMethod y ∈ lw_all) (hq2 : Cond.selects rC.1 y y ∈ lw_all) (hq3 : Cond.initialized y.cls ∈ lw_all) (hq4 : Cond.code y bytes maxL rt ∈ lw_all) (hd : y.cls ≠ "java/lang/invoke/MethodHandle" ∧ y.cls ≠ "java/lang/invoke/VarHandle" ∧ (parseMethodDescriptor y.desc).map (fun d => d.parameters.length) = some n) (hR : lv + 1 + 1 ≤ R.frames ∧ 8 + (maxL + 11) + 64 * (lv + 1) ≤ R.locals) (hf : cells + mc ≤ R.cells ∧ slots + ms ≤ R.slots) (hn : As.length = n) (hst : st = As.reverse ++ x_rf E a :: rest) (hW : (rest.map fun v => v.category).sum ≤ 8) (d : decode cc pc = .ok (.invokevirtual idx, 3)) : x_Rn p l e R s m args below meth c nL E cells slots κ pc L (st) X mc ms rest κ' post := by
  intro H locs ls hH hS hL
  have ha := (hH.2 a _ hκ).1
  have hts := B.1.2.2.2.2
  refine ⟨_, va_runVN (As := As) (rest := rest) (b := E.1 + a.toNat) (C := rC.1) B.1 hM ⟨va_cnB n hts (lw_meth hq4) rfl rfl rfl (B.2.2.2.1.2.1 _ hl rfl) (hts _ hq3) hd hR, hts _ hq1, hts _ hq2⟩ ⟨x_blind _ _ _ _, x_recv B hκ hcl hH, fun U hU hW => ⟨by rw [x_rf_pos E ha], by rw [hU]; exact hH, B.2.2.2.1.at hS hU hW, by rw [hU]; exact Nat.le_trans B.2.2.2.2 hS.1⟩⟩ rfl hn hL.1 (by rw [hst, x_rf_pos E ha]) (lv_room hW) d hf⟩
theorem x_rS (B : x_B p s m args meth c cc own nL ret E) {y : MethodName} {idx lv mc ms n maxL : Nat} {bytes : ByteArray} {rt : Option FieldType} {As rest : List Value} (hM : x_Met l y bytes maxL rt lv mc ms E κ X As κ' post) (hw : GoodIn lw_all (va_wsS own idx y (ws_ y bytes maxL rt))) (hd : y.cls ≠ "java/lang/invoke/MethodHandle" ∧ y.cls ≠ "java/lang/invoke/VarHandle" ∧ (parseMethodDescriptor y.desc).map (fun d => d.parameters.length) = some n) (hR : lv + 1 + 1 ≤ R.frames ∧ 8 + (maxL + 11) + 64 * (lv + 1) ≤ R.locals) (hf : cells + mc ≤ R.cells ∧ slots + ms ≤ R.slots) (hn : As.length = n) (hst : st = As.reverse ++ rest) (hW : (rest.map fun v => v.category).sum ≤ 8) (d : decode cc pc = .ok (.invokestatic idx, 3)) : x_Rn p l e R s m args below meth c nL E cells slots κ pc L (st) X mc ms rest κ' post := by
  intro H locs ls hH hS hL
  refine ⟨_, va_runS (As := As) (rest := rest) B.1 hM (va_cwS n B.1.2.2.2.2 hw rfl rfl rfl hd hR) ⟨x_blind _ _ _ _, fun U hU hW => ⟨rfl, by rw [hU]; exact hH, B.2.2.2.1.at hS hU hW, by rw [hU]; exact Nat.le_trans B.2.2.2.2 hS.1⟩⟩ rfl hn hL.1 hst (lv_room hW) d hf⟩
theorem x_rSN (B : x_B p s m args meth c cc own nL ret E) {y : MethodName} {idx lv mc ms n maxL : Nat} {bytes : ByteArray} {rt : Option FieldType} {As rest : List Value} (hM : x_Met l y bytes maxL rt lv mc ms E κ X As κ' post) (hl : Cond.methodLinkNest own idx y "NextLoad" ∈ lw_tbl) (hq1 : Cond.static y ∈ lw_all) (hq3 : Cond.initialized y.cls ∈ lw_all) (hq4 : Cond.code y bytes maxL rt ∈ lw_all) (hd : y.cls ≠ "java/lang/invoke/MethodHandle" ∧ y.cls ≠ "java/lang/invoke/VarHandle" ∧ (parseMethodDescriptor y.desc).map (fun d => d.parameters.length) = some n) (hR : lv + 1 + 1 ≤ R.frames ∧ 8 + (maxL + 11) + 64 * (lv + 1) ≤ R.locals) (hf : cells + mc ≤ R.cells ∧ slots + ms ≤ R.slots) (hn : As.length = n) (hst : st = As.reverse ++ rest) (hW : (rest.map fun v => v.category).sum ≤ 8) (d : decode cc pc = .ok (.invokestatic idx, 3)) : x_Rn p l e R s m args below meth c nL E cells slots κ pc L (st) X mc ms rest κ' post := by
  intro H locs ls hH hS hL
  have hts := B.1.2.2.2.2
  refine ⟨_, va_runSN (As := As) (rest := rest) B.1 hM ⟨va_cnB n hts (lw_meth hq4) rfl rfl rfl (B.2.2.2.1.2.1 _ hl rfl) (hts _ hq3) hd hR, hts _ hq1, trivial⟩ ⟨x_blind _ _ _ _, fun U hU hW => ⟨rfl, by rw [hU]; exact hH, B.2.2.2.1.at hS hU hW, by rw [hU]; exact Nat.le_trans B.2.2.2.2 hS.1⟩⟩ rfl hn hL.1 hst (lv_room hW) d hf⟩
theorem x_rI (B : x_B p s m args meth c cc own nL ret E) {y : MethodName} {idx lv mc ms n maxL : Nat} {bytes : ByteArray} {As rest : List Value} {a : Int} (ha : 0 ≤ a) (hM : x_Met l y bytes maxL none lv mc ms E κ X (x_rf E a :: As) κ' post) (hl : Cond.methodLink own idx y ∈ lw_all) (hq1 : Cond.instanceMethod y ∈ lw_all) (hq3 : Cond.initialized y.cls ∈ lw_all) (hq4 : Cond.code y bytes maxL none ∈ lw_all) (hy1 : y.name = "<init>") (hd : y.cls ≠ "java/lang/invoke/MethodHandle" ∧ y.cls ≠ "java/lang/invoke/VarHandle" ∧ (parseMethodDescriptor y.desc).map (fun d => d.parameters.length) = some n) (hR : lv + 1 + 1 ≤ R.frames ∧ 8 + (maxL + 11) + 64 * (lv + 1) ≤ R.locals) (hf : cells + mc ≤ R.cells ∧ slots + ms ≤ R.slots) (hn : As.length = n) (hst : st = As.reverse ++ x_rf E a :: rest) (hW : (rest.map fun v => v.category).sum ≤ 8) (d : decode cc pc = .ok (.invokespecial idx, 3)) : x_Rn p l e R s m args below meth c nL E cells slots κ pc L (st) X mc ms rest κ' post := by
  intro H locs ls hH hS hL
  have hts := B.1.2.2.2.2
  refine ⟨_, va_runI (As := As) (rest := rest) (b := E.1 + a.toNat) B.1 hM (cwI n hts (lw_meth hq4) rfl rfl rfl (hts _ hq3) (hts _ hl) (hts _ hq1) hy1 hd hR) ⟨x_blind _ _ _ _, fun U hU hW => ⟨by rw [x_rf_pos E ha], by rw [hU]; exact hH, B.2.2.2.1.at hS hU hW, by rw [hU]; exact Nat.le_trans B.2.2.2.2 hS.1⟩⟩ rfl hn hL.1 (by rw [hst, x_rf_pos E ha]) (lv_room hW) d hf⟩
theorem x_rIN (B : x_B p s m args meth c cc own nL ret E) {y : MethodName} {idx lv mc ms n maxL : Nat} {bytes : ByteArray} {As rest : List Value} {a : Int} (ha : 0 ≤ a) (hM : x_Met l y bytes maxL none lv mc ms E κ X (x_rf E a :: As) κ' post) (hl : Cond.methodLinkNest own idx y "NextLoad" ∈ lw_tbl) (hq1 : Cond.instanceMethod y ∈ lw_all) (hq3 : Cond.initialized y.cls ∈ lw_all) (hq4 : Cond.code y bytes maxL none ∈ lw_all) (hy1 : y.name = "<init>") (hd : y.cls ≠ "java/lang/invoke/MethodHandle" ∧ y.cls ≠ "java/lang/invoke/VarHandle" ∧ (parseMethodDescriptor y.desc).map (fun d => d.parameters.length) = some n) (hR : lv + 1 + 1 ≤ R.frames ∧ 8 + (maxL + 11) + 64 * (lv + 1) ≤ R.locals) (hf : cells + mc ≤ R.cells ∧ slots + ms ≤ R.slots) (hn : As.length = n) (hst : st = As.reverse ++ x_rf E a :: rest) (hW : (rest.map fun v => v.category).sum ≤ 8) (d : decode cc pc = .ok (.invokespecial idx, 3)) : x_Rn p l e R s m args below meth c nL E cells slots κ pc L (st) X mc ms rest κ' post := by
  intro H locs ls hH hS hL
  have hts := B.1.2.2.2.2
  refine ⟨_, va_runIN (As := As) (rest := rest) (b := E.1 + a.toNat) B.1 hM ⟨va_cnB n hts (lw_meth hq4) rfl rfl rfl (B.2.2.2.1.2.1 _ hl rfl) (hts _ hq3) hd hR, hy1, hts _ hq1⟩ ⟨x_blind _ _ _ _, fun U hU hW => ⟨by rw [x_rf_pos E ha], by rw [hU]; exact hH, B.2.2.2.1.at hS hU hW, by rw [hU]; exact Nat.le_trans B.2.2.2.2 hS.1⟩⟩ rfl hn hL.1 (by rw [hst, x_rf_pos E ha]) (lv_room hW) d hf⟩
theorem x_max (B : x_B p s m args meth c cc own nL ret E) {idx : Nat} {a b : Int} (ha : xR a) (hb : xR b) (hl : Cond.methodLink own idx Lib.Math.max.name ∈ lw_all) (hq1 : Cond.static Lib.Math.max.name ∈ lw_all) (hq2 : Cond.initialized "java/lang/Math" ∈ lw_all) (hq3 : Cond.code Lib.Math.max.name Lib.Math.max.code 2 (some .int) ∈ lw_all) (hfr : 1 ≤ R.frames) (hlo : (st.map fun v => v.category).sum + 13 ≤ R.locals) (hf : cells ≤ R.cells ∧ slots ≤ R.slots) (d : decode cc pc = .ok (.invokestatic idx, 3)) (k : x_G p l e R s m args below meth c nL E cells slots Q κ (pc + 3) L (vi (max a b) :: st) X) : x_G p l e R s m args below meth c nL E cells slots Q κ pc L (vi b :: vi a :: st) X := by
  intro H locs ls hH hS hL
  have hts := B.1.2.2.2.2
  refine va_mmax B.1.1 B.1.2.1 (by rw [hL.1]; exact B.1.2.2.1) B.1.2.2.2.1 (hts _ hl) (hts _ hq1) (hts _ hq2) (hts _ hq3) hfr hlo hf.1 hf.2 d ?_
  have e : (if xI a < xI b then xI b else xI a) = xI (max a b) := by
    simp only [xI_lt ha hb]
    by_cases h : a < b
    · rw [if_pos h, show max a b = b by omega]
    · rw [if_neg h, show max a b = a by omega]
  rw [e]
  exact k H locs ls hH hS hL
theorem x_min (B : x_B p s m args meth c cc own nL ret E) {idx : Nat} {a b : Int} (ha : xR a) (hb : xR b) (hl : Cond.methodLink own idx Lib.Math.min.name ∈ lw_all) (hq1 : Cond.static Lib.Math.min.name ∈ lw_all) (hq2 : Cond.initialized "java/lang/Math" ∈ lw_all) (hq3 : Cond.code Lib.Math.min.name Lib.Math.min.code 2 (some .int) ∈ lw_all) (hfr : 1 ≤ R.frames) (hlo : (st.map fun v => v.category).sum + 13 ≤ R.locals) (hf : cells ≤ R.cells ∧ slots ≤ R.slots) (d : decode cc pc = .ok (.invokestatic idx, 3)) (k : x_G p l e R s m args below meth c nL E cells slots Q κ (pc + 3) L (vi (min a b) :: st) X) : x_G p l e R s m args below meth c nL E cells slots Q κ pc L (vi b :: vi a :: st) X := by
  intro H locs ls hH hS hL
  have hts := B.1.2.2.2.2
  refine va_mmin B.1.1 B.1.2.1 (by rw [hL.1]; exact B.1.2.2.1) B.1.2.2.2.1 (hts _ hl) (hts _ hq1) (hts _ hq2) (hts _ hq3) hfr hlo hf.1 hf.2 d ?_
  have e : (if xI b < xI a then xI b else xI a) = xI (min a b) := by
    simp only [xI_lt hb ha]
    by_cases h : b < a
    · rw [if_pos h, show min a b = b by omega]
    · rw [if_neg h, show min a b = a by omega]
  rw [e]
  exact k H locs ls hH hS hL
end XC
