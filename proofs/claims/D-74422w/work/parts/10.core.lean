/-! ===== the heap by the store; the tables' words that don't ride; statics; the judgement ===== -/
def x_z (q : Nat × Int × x_k) (a : Int) : Int := if q.1 = 0 then q.2.1 else a + q.2.1
def x_ok (E : x_E) (k : x_k) (a : Int) (f : Int → Int) (H : Heap) : Prop := match k with
  | .inl cb => (∃ r, x_cl[cb.1]? = some r ∧ t_OB (E.1 + a.toNat) (E.2.2.1.1 cb.1) r.2.2 (E.2.2.1.2 cb.1) H (fun j => x_sv E (x_tg cb.1 j) (f j))) ∧ (∀ j : Nat, x_rg (x_tg cb.1 j) (f j)) ∧ (cb.2 = 1 → ∀ (j : Nat) (q : Nat × Int × x_k), x_fx cb.1 j = some q → f j = x_z q a)
  | .inr tn => H[E.1 + a.toNat]? = some (arrV (E.2.2.2 (x_ac tn.1)) tn.2.toNat (fun j => x_sv E (x_at tn.1) (f j))) ∧ (∀ j : Int, 0 ≤ j → j < tn.2 → x_rg (x_at tn.1) (f j)) ∧ (0 ≤ tn.2 ∧ tn.2 ≤ 100000) ∧ ∀ q, x_af tn.1 = some q → ∀ j : Int, 0 ≤ j → j < tn.2 → f j = a + q.1 + q.2.1 * j
def x_H (E : x_E) (κ : x_Ka) (X : x_X) (H : Heap) : Prop := (H.size : Int) = E.1 + X (-1) 0 ∧ ∀ a k, κ a = some k → 0 ≤ a ∧ x_ok E k a (X a) H
/-- fixed references point at what the tables say -/
def x_T (κ : x_Ka) : Prop := (∀ a ci, κ a = some (.inl (ci, 1)) → ∀ (j : Nat) (q : Nat × Int × x_k), x_fx ci j = some q → κ (x_z q a) = some q.2.2) ∧ (∀ a t n, κ a = some (.inr (t, n)) → ∀ q, x_af t = some q → ∀ j : Int, 0 ≤ j → j < n → κ (a + q.1 + q.2.1 * j) = some q.2.2)
theorem x_ok.lt {E : x_E} {k : x_k} {a : Int} {f : Int → Int} {H : Heap} (h : x_ok E k a f H) : E.1 + a.toNat < H.size := by
  cases k with
  | inl cb => obtain ⟨⟨r, -, cell, h1, -⟩, -⟩ := h; exact (Array.getElem?_eq_some_iff.mp h1).1
  | inr tn => exact (Array.getElem?_eq_some_iff.mp h.1).1
theorem x_ok.kept {E : x_E} {k : x_k} {a : Int} {f : Int → Int} {H H1 : Heap} (h : x_ok E k a f H) (hq : H1[E.1 + a.toNat]? = H[E.1 + a.toNat]?) : x_ok E k a f H1 := by
  cases k with
  | inl cb => obtain ⟨⟨r, h1, h2⟩, h3⟩ := h; exact ⟨⟨r, h1, h2.kept hq⟩, h3⟩
  | inr tn => exact ⟨hq.trans h.1, h.2⟩
theorem x_H.sub {E : x_E} {κ κ' : x_Ka} {X : x_X} {H : Heap} (h : x_H E κ X H) (hs : ∀ a k, κ' a = some k → κ a = some k) : x_H E κ' X H := ⟨h.1, fun a k q => h.2 a k (hs a k q)⟩
/-- words that don't ride in lw_all -/
def x_isN : Cond → Bool
  | .fieldLinkNest .. => true
  | .methodLinkNest .. => true
  | .castable .. => true
  | .declares _ => true
  | .publicMethod _ => true
  | .unhidden .. => true
  | .interfaceMethod a b c d => a == "NextLoad$Aim" && b == "NextLoad$Aim" && c == "of" && d == "(I)J"
  | .arrayOver (.object _) => true
  | _ => false
def x_Nw (U : State) : Prop := ∀ w ∈ lw_tbl, x_isN w = true → va_Nw w U
theorem x_Nw.same {u U : State} (h : u.vm = U.vm) (hZ : x_Nw u) : x_Nw U := by
  intro w hw hi
  have hz := hZ w hw hi
  cases w with
  | arrayOver t =>
    cases t with
    | object C => exact va_AO.moved (h ▸ Vm.Alike.refl u.vm) hz
    | _ => simp [x_isN] at hi
  | _ => first | exact va_Nw.same rfl h hz | (simp [x_isN] at hi; done)
theorem x_Nw.warm {s U : State} (hW : s.WarmedH U.vm) (hZ : x_Nw s) : x_Nw U := by
  intro w hw hi
  have h := hZ w hw hi
  have tr : ∀ {c : Cond}, c.onTables = true → c.before #[] (s.setVm U.vm) = true → c.before #[] U = true := fun hc h => va_tabs hc (rfl : (s.setVm U.vm).vm = U.vm) h
  cases w with
  | fieldLinkNest => exact h.warmF hW
  | methodLinkNest => exact h.warmM hW
  | castable => exact h.warmC hW
  | declares => exact h.warmD hW
  | publicMethod => exact tr rfl (by rw [Cond.publicMethod_setVm hW.alike]; exact h)
  | unhidden => exact tr rfl (by rw [Cond.unhidden_setVm hW.alike]; exact h)
  | interfaceMethod a b c d =>
    simp only [x_isN, Bool.and_eq_true, beq_iff_eq] at hi
    obtain ⟨⟨⟨rfl, rfl⟩, rfl⟩, rfl⟩ := hi
    obtain ⟨r, meth, hn, -⟩ := Cond.declares_spec (hZ _ q976 rfl)
    exact tr rfl (by rw [Cond.interfaceMethod_setVm hW.alike (r := r) hn ⟨by decide, by decide⟩]; exact h)
  | arrayOver t =>
    cases t with
    | object C => exact va_AO.moved hW.alike h
    | _ => simp [x_isN] at hi
  | _ => simp [x_isN] at hi
/-- statics: the two results, two references of Throwable's -/
def x_st (E : x_E) (U : State) (H : Heap) : Prop :=
  (va_Z "NextLoad$Result" "GOOD" "LNextLoad$Result;" (.ref (E.2.1 0)) (fun q => E.1 ≤ q) U H ∧ va_O "NextLoad$Result$1" (E.2.1 0) (fun q => E.1 ≤ q) U H ∧ va_OF "java/lang/Enum" "ordinal" "I" (.int 0) (E.2.1 0) (fun q => E.1 ≤ q) U H) ∧
  (va_Z "NextLoad$Result" "FAILED" "LNextLoad$Result;" (.ref (E.2.1 1)) (fun q => E.1 ≤ q) U H ∧ va_O "NextLoad$Result$2" (E.2.1 1) (fun q => E.1 ≤ q) U H ∧ va_OF "java/lang/Enum" "ordinal" "I" (.int 1) (E.2.1 1) (fun q => E.1 ≤ q) U H) ∧
  (∃ z, va_Z "java/lang/Throwable" "UNASSIGNED_STACK" "[Ljava/lang/StackTraceElement;" (x_rf E z) (fun q => E.1 ≤ q) U H) ∧ (∃ z, va_Z "java/lang/Throwable" "SUPPRESSED_SENTINEL" "Ljava/util/List;" (x_rf E z) (fun q => E.1 ≤ q) U H) ∧
  vx_L "java/lang/Throwable" "UNASSIGNED_STACK" "[Ljava/lang/StackTraceElement;" (fun q => E.1 ≤ q) U H ∧ vx_L "java/lang/Throwable" "SUPPRESSED_SENTINEL" "Ljava/util/List;" (fun q => E.1 ≤ q) U H
theorem x_st.moved {E : x_E} {u U : State} {H : Heap} (hvm : u.vm.Alike U.vm) (h : x_st E u H) : x_st E U H := by
  obtain ⟨⟨a1, a2, a3⟩, ⟨b1, b2, b3⟩, ⟨z, c⟩, ⟨z', d⟩, f, g⟩ := h
  exact ⟨⟨a1.moved hvm, a2.moved hvm, a3.moved hvm⟩, ⟨b1.moved hvm, b2.moved hvm, b3.moved hvm⟩, ⟨z, c.moved hvm⟩, ⟨z', d.moved hvm⟩, f.moved hvm, g.moved hvm⟩
theorem x_st.kept {E : x_E} {U : State} {H H1 : Heap} (h : x_st E U H) (hq : ∀ a : Nat, a < H.size → ¬ E.1 ≤ a → H1[a]? = H[a]?) : x_st E U H1 := by
  obtain ⟨⟨a1, a2, a3⟩, ⟨b1, b2, b3⟩, ⟨z, c⟩, ⟨z', d⟩, f, g⟩ := h
  exact ⟨⟨a1.kept hq, a2.kept hq, a3.kept hq⟩, ⟨b1.kept hq, b2.kept hq, b3.kept hq⟩, ⟨z, c.kept hq⟩, ⟨z', d.kept hq⟩, f.kept hq, g.kept hq⟩
def x_Kn (E : x_E) (U : State) : Prop := va_K E.2.2.1 x_cl (x_tyl E) U ∧ x_Nw U ∧ x_st E U U.heap
def x_S (E : x_E) (κ : x_Ka) (X : x_X) (U : State) : Prop := x_H E κ X U.heap ∧ x_Kn E U ∧ E.1 ≤ U.heap.size
abbrev x_rm (lv mc ms : Nat) : Room := { frames := lv + 1, cells := mc, slots := ms, locals := 64 * (lv + 1) }
/-- a method's end: its answer and the store behind it -/
def x_Q (E : x_E) (κ' : x_Ka) (post : Option Value → x_X → Prop) : Array Value → State → Outcome → State → Prop := fun _ st o t => (∃ (v : Option Value) (X' : x_X), o = .returned v ∧ post v X' ∧ x_H E κ' X' t.heap) ∧ va_F (fun q => E.1 ≤ q) st t
/-- A CONTRACT: from every state whose heap holds X by the kinds κ, with the arguments av: it returns, 'post answer X'', the heap holds X' by κ' -/
def x_Met (l : Launch) (y : MethodName) (bytes : ByteArray) (maxL : Nat) (ret : Option FieldType) (lv mc ms : Nat) (E : x_E) (κ : x_Ka) (X : x_X) (av : List Value) (κ' : x_Ka) (post : Option Value → x_X → Prop) : Prop :=
  Met l y (ws_ y bytes maxL ret) (x_rm lv mc ms) (va_Pc av (x_S E κ X)) (x_Q E κ' post) mc ms (fun q => E.1 ≤ q)
def x_B (p : Program) (s : State) (m : MethodId) (args : Array Value) (meth : Method) (c : Code) (cc : ByteArray) (own : String) (nL : Nat) (ret : Option FieldType) (E : x_E) : Prop :=
  CallFix p m c cc nL s args lw_all own ∧ meth.sig.returnType = ret ∧ meth.locks = false ∧ x_Kn E s ∧ E.1 ≤ s.heap.size
def x_L (ls : Array Slot) (nL : Nat) (L : List (Option Value)) : Prop := ls.size = nL ∧ lv_wf ls ∧ L.length = nL ∧ ∀ (i : Nat) (v : Value), L[i]? = some (some v) → ls[i]? = some (.val v)
def x_G (p : Program) (l : Launch) (e : Env) (R : Room) (s : State) (m : MethodId) (args : Array Value) (below : List Frame) (meth : Method) (c : Code) (nL : Nat) (E : x_E) (cells slots : Nat) (Q : State → Prop) (κ : x_Ka) (pc : Nat) (L : List (Option Value)) (st : List Value) (X : x_X) : Prop :=
  ∀ (H : Heap) (locs : List Loc) (ls : Array Slot), x_H E κ X H → va_S (fun q => E.1 ≤ q) s.heap H locs → x_L ls nL L → W p l e R s m args below meth c H locs cells slots Q (F0 m pc ls st)
theorem x_Kn.call {E : x_E} {U : State} (h : x_Kn E U) (g : JFrame) (mk : MethodId) (a : Array Value) : x_Kn E (U.calling g mk a) :=
  ⟨va_K.moved (u := U) (U := U.calling g mk a) (Vm.Alike.refl U.vm) h.1, h.2.1.same (u := U) (U := U.calling g mk a) rfl, h.2.2.moved (u := U) (U := U.calling g mk a) (Vm.Alike.refl U.vm)⟩
theorem x_blind (E : x_E) (κ : x_Ka) (X : x_X) (av : List Value) : FrameBlind (va_Pc av (x_S E κ X)) := fun a U g mk q => ⟨q.1, q.2.1, q.2.2.1.call g mk a, q.2.2.2⟩
theorem x_Kn.at {E : x_E} {s U : State} {H : Heap} {locs : List Loc} (h : x_Kn E s) (hS : va_S (fun q => E.1 ≤ q) s.heap H locs) (hU : U.heap = H) (hW : s.WarmedH U.vm) : x_Kn E U := by
  refine ⟨va_K.moved hW.alike h.1, h.2.1.warm hW, ?_⟩
  rw [hU]
  exact (h.2.2.kept (H1 := H) hS.2.1).moved hW.alike
