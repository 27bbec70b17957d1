section VQT
variable {p : Program} {l : Launch} {e : Env} {R : Room} {s : State} {m : MethodId} {args : Array Value} {below : List Frame} {meth : Method} {c : Code} {H : Heap} {locs : List Loc} {cells slots : Nat} {Q : State → Prop}
variable {free : Addr → Prop} {ls : Array Slot} {rest : List Value}
variable {Qc : Array Value → State → Outcome → State → Prop} {XC : String → Addr → State → State → Prop}
theorem vq_throw0 {cc : ByteArray} {pc : Nat} (hexec : p.tables.exec = Jvm.exec) (hb : c.code = cc) (hl : l.stackTraces = false) {own cls : String} {names : List String} {ik ic mc ms : Nat} {A : Nat → Prop}
    (hown : s.vm.findClass own = some m.cls) (hcls : Bundle.fit cls = true) (hnames : ∀ n ∈ names, Bundle.fit n = true)
    (hk : (Cond.classLink own ik cls).before args s = true) (hini : (Cond.initialized cls).before args s = true) (hat : ∀ w ∈ vx_at0 own ic cls names, w.before args s = true)
    (hgood : ∀ w ∈ Cond.classLink own ik cls :: Cond.initialized cls :: vx_at0 own ic cls names, vx_ot w = true)
    (hU : vx_Zq Bundle.tN "UNASSIGNED_STACK" Bundle.steD A s s.heap) (hN : vx_Zq Bundle.tN "SUPPRESSED_SENTINEL" Bundle.listD A s s.heap) (hS : va_S A s.heap H locs) (hsize : ls.size = c.maxLocals)
    (d0 : decode cc pc = .ok (.new ik, 3)) (d3 : decode cc (pc + 3) = .ok (.dup, 1)) (d4 : decode cc (pc + 4) = .ok (.invokespecial ic, 3)) (d7 : decode cc (pc + 7) = .ok (.athrow, 1))
    (hout : ∀ x ∈ c.exceptionTable.toList, covers x (pc + 7) = false)
    (hRframes : names.length + 3 < R.frames) (hRlocals : (rest.map fun v => v.category).sum + (13 * (names.length + 1) + 42) ≤ R.locals) (hRcells : cells + 1 ≤ R.cells) (hRslots : slots + 6 ≤ R.slots) (hlocks : meth.locks = false)
    (hx : ∀ t : State, s.vm.Alike t.vm → H.size ≤ t.heap.size → (∀ q : Nat, q < H.size → t.heap[q]? = H[q]?) → XC cls H.size s t)
    (hf : ∀ z ∈ locs, free z.base) (hc : cells + 1 ≤ mc) (hs : slots + 6 ≤ ms) :
    W p l e R s m args below meth c H locs cells slots (vq_MQ below Qc XC args s mc ms free) (F0 m pc ls rest) := by
  intro T hT X
  have htr : e.platform.stackTraces = false := (show e.platform.stackTraces = l.stackTraces by rw [X.admits.platform]).trans hl
  have Y := vx_rebase X (R' := { frames := R.frames, locals := R.locals, cells := 1, slots := 6 }) (Nat.le_refl _) (Nat.le_refl _) hRcells hRslots
  obtain ⟨s', hA⟩ : ∃ z, z = (T.setVm s.vm).setFrames (.invoking m args :: below) := ⟨_, rfl⟩
  rw [← hA] at Y
  have hvm : s'.vm = s.vm := by rw [hA]; rfl
  have hhp : s'.heap = H := by rw [hA]; exact hT
  have hW0 : s.WarmedH s'.vm := by rw [hvm]; exact State.WarmedH.refl s
  have hat' : ∀ w ∈ vx_at0 own ic cls names, w.before args s' = true := fun w hw => vx_ot_at hW0 hvm.symm (hgood w (List.mem_cons_of_mem _ (List.mem_cons_of_mem _ hw))) (hat w hw)
  have hk' : (Cond.classLink own ik cls).before args s' = true := vx_ot_at hW0 hvm.symm (hgood _ List.mem_cons_self) hk
  have hini' : (Cond.initialized cls).before args s' = true := vx_ot_at hW0 hvm.symm (hgood _ (List.mem_cons_of_mem _ List.mem_cons_self)) hini
  have hU' : vx_Zq Bundle.tN "UNASSIGNED_STACK" Bundle.steD A s' s'.heap := by rw [hhp]; exact vx_Zq.moved hW0.alike (hU.kept hS.2.1)
  have hN' : vx_Zq Bundle.tN "SUPPRESSED_SENTINEL" Bundle.listD A s' s'.heap := by rw [hhp]; exact vx_Zq.moved hW0.alike (hN.kept hS.2.1)
  have h : ∀ w ∈ Bundle.ownAtoms0 own ic cls names, w.before args s' = true := vx_own hat' (vx_isRefq hU'.1) (vx_isRefq hN'.1) hU'.2.word hN'.2.word
  have hown' : s'.vm.findClass own = some m.cls := by rw [hvm]; exact hown
  have hins : (Cond.instantiable cls 6).before args s' = true := h _ (by simp [Bundle.ownAtoms0])
  obtain ⟨vm₁, cX, kX, hfX, hkX, -, -, X₁, st1⟩ := Y.newCold hexec (own := own) (C := cls) (index := ik) (n := 6) hown' hk' hins hini'
    (g := F0 m pc ls rest) rfl (by rw [hb]; exact d0) (Nat.le_refl _) (Nat.le_refl _)
  generalize hT1 : (T.setVm vm₁).pushCell { cls := cX, slots := kX.instanceTypes.map defaultValue, vm := .none } = T1 at X₁ st1
  have hcat : (Value.ref T.heap.size).category = 1 := rfl
  have hcellA : T1.heap[T.heap.size]? = some (freshCell cX kX) := by rw [← hT1]; exact State.heap_pushCell_size _ _
  have d3' : decode c.code (pc + 3) = .ok (.dup, 1) := by rw [hb]; exact d3
  obtain ⟨U, hsteps, hrun, hend, hW, hsame, ce, hce, hO⟩ := X₁.ctorThrow0 hexec htr (own := own) (cls := cls) (names := names) (ic := ic) hown' hcls hnames h (fun x hx => nomatch hx) hfX hkX hcellA (by rw [hhp, hT]; exact Nat.le_refl _)
    (g := { method := m, pc := pc + 4, locals := ls, stack := .ref T.heap.size :: .ref T.heap.size :: rest, locked := none }) rfl hsize rfl rfl (rest := rest) rfl
    (by rw [hb]; exact d4) (by rw [hb]; exact d7) hout hRframes (by simp only [List.map_cons, List.sum_cons, hcat]; omega) hlocks
  obtain ⟨f1, f2⟩ := vx_frame hsame
  rw [hhp] at f1 f2
  have hWs : s.WarmedH U.vm := State.WarmedH.trans hW0 hW
  have hcl : s.vm.findClass cls = some ce.cls := by
    have h9 := hO.cls
    rw [hvm] at h9
    exact h9
  have hall : s.sameButNew ({ U with vm := s.vm } : State) locs mc ms := by
    subst hA
    obtain ⟨e1, e2⟩ := hsame
    rw [State.setFrames_setFrames] at e1
    have h2 : (T.setVm s.vm).sameButNew ({ U with vm := s.vm } : State) [] (0 + 1) (0 + 6) := ⟨e1, e2⟩
    have h3 := X.same.trans h2
    rw [List.append_nil] at h3
    exact h3.mono hc hs
  refine ⟨U, ?_, .threw T.heap.size, hrun, hend, Or.inr ⟨T.heap.size, rfl, cls, ce, locs, (by rw [hT]; exact hx U hWs.alike f1 (fun q hq => f2 q hq (fun z hz => nomatch hz))), hce, hO.vm, hcl, hWs, hall, hf⟩⟩
  refine st1 _ ?_
  show Steps p.tables e below (T1.setTop { method := m, pc := pc + 3, locals := ls, stack := .ref T.heap.size :: rest, locked := none }) _
  jvm_step X₁.here [X₁.here.top, hexec, d3', Value.category]
  exact hsteps
end VQT
/-- A CONTRACT of a method with handlers -/
def x_MetH (l : Launch) (y : MethodName) (bytes : ByteArray) (maxL : Nat) (ret : Option FieldType) (hh : List (Nat × Nat × Nat × Nat)) (lv mc ms : Nat) (E : x_E) (κ : x_Ka) (X : x_X) (av : List Value) (post : Option Value → x_Ka → x_X → Prop) : Prop :=
  Met l y (wsW_ y bytes maxL ret hh) (x_rm lv mc ms) (va_Pc av (x_S E κ X)) (x_QK E post) mc ms (fun q => E.1 ≤ q)
theorem x_MetH.of {l : Launch} {y : MethodName} {bytes : ByteArray} {maxL : Nat} {ret : Option FieldType} {hh : List (Nat × Nat × Nat × Nat)} {lv mc ms : Nat} {E : x_E} {κ : x_Ka} {X : x_X} {av : List Value} {post : Option Value → x_Ka → x_X → Prop} {own : String} (q : List (Bool × Value)) (L : List (Option Value)) (k : Nat) (hy : plainName y.cls = true) (hown : y.cls = own) (hq : q.map Prod.snd = av) (hc : x_cats q) (hL : x_ls q ++ List.replicate k none = L) (hn : L.length = maxL)
    (body : ∀ p e s m args below meth c, args = av.toArray → meth.name = y.name → x_B p s m args meth c bytes own maxL ret E → c.exceptionTable.toList = tableOf hh → x_G p l e (x_rm lv mc ms) s m args below meth c maxL E 0 0 (MQ below (x_QK E post) args s mc ms (fun q => E.1 ≤ q)) κ 0 L [] X) : x_MetH l y bytes maxL ret hh lv mc ms E κ X av post := by
  unfold x_MetH Met
  refine MetFree.of_bodyS (code := bytes) (maxLocals := maxL) (ret := ret) hy ?_ ?_
  · intro args s m h hn
    obtain ⟨m9, meth, c, hn9, h1, h2, h3, h4, -, h5, h6, -⟩ := Cond.codeWith_spec (atoms_spec (ws := wsW_ y bytes maxL ret hh) h _ List.mem_cons_self)
    cases hn.symm.trans hn9
    exact ⟨meth, c, h1, h2, h3, h4, h5, h6⟩
  · intro p e s m args below meth c s₁ B hml hP _
    have hh0 : s₁.heap = s.heap := by rw [B.state]; rfl
    obtain ⟨hargs, hH, hKn, hE⟩ := hP
    have hts0 := atoms_spec (ws := wsW_ y bytes maxL ret hh) B.pre
    have htb := vx_table (x := y) B (hts0 _ List.mem_cons_self)
    have hts : ∀ w ∈ lw_all, w.before args s = true := fun w h => hts0 w (List.mem_cons_of_mem _ h)
    have h := body p e s m args below meth c hargs (name_of_methodNamed B.named B.method).1 ⟨⟨B.exec, B.bytes, hml, by rw [← hown]; exact findClass_of_methodNamed B.named, hts⟩, B.returns, B.notSynchronized, hKn, hE⟩ htb
    have K : W p l e (x_rm lv mc ms) s m args below meth c s.heap [] 0 0 (MQ below (x_QK E post) args s mc ms (fun q => E.1 ≤ q)) (entryFrame m args maxL) := by
      rw [hargs, lg_entry_eq]
      rw [hargs] at h
      exact h s.heap [] _ hH va_S.rf (x_entry hq hc hL hn)
    obtain ⟨t, a1, o, b1, b2, b3⟩ := K s₁ hh0 (Stand.of_body B)
    exact ⟨t, o, a1, b1, b2, ⟨b3.1, b3.2⟩⟩
section XH
variable {p : Program} {l : Launch} {e : Env} {R : Room} {s : State} {m : MethodId} {args : Array Value} {below : List Frame} {meth : Method} {c : Code} {nL : Nat} {E : x_E} {cells slots : Nat} {Q : State → Prop} {κ : x_Ka}
variable {cc : ByteArray} {own : String} {ret : Option FieldType} {pc : Nat} {L : List (Option Value)} {st : List Value} {X : x_X}
variable {Cn : String} {post : Option Value → x_Ka → x_X → Prop} {px : Int → x_Ka → x_X → Prop}
theorem x_rVH (B : x_B p s m args meth c cc own nL ret E) {y : MethodName} {idx lv mc ms n maxL : Nat} {bytes : ByteArray} {rt : Option FieldType} {As rest : List Value} {hh : List (Nat × Nat × Nat × Nat)} {a : Int} {ci b : Nat} {rC : vw_C} (hκ : κ a = some (.inl (ci, b))) (hcl : x_cl[ci]? = some rC) (hM : x_MetH l y bytes maxL rt hh lv mc ms E κ X (x_rf E a :: As) post) (hw : GoodIn lw_all (wsV own idx rC.1 y (wsW_ y bytes maxL rt hh))) (hd : y.cls = rC.1 ∧ y.cls ≠ "java/lang/invoke/MethodHandle" ∧ y.cls ≠ "java/lang/invoke/VarHandle" ∧ (parseMethodDescriptor y.desc).map (fun d => d.parameters.length) = some n) (hR : lv + 1 + 1 ≤ R.frames ∧ 8 + (maxL + 11) + 64 * (lv + 1) ≤ R.locals) (hf : cells + mc ≤ R.cells ∧ slots + ms ≤ R.slots) (hn : As.length = n) (hst : st = As.reverse ++ x_rf E a :: rest) (hW : (rest.map fun v => v.category).sum ≤ 8) (d : decode cc pc = .ok (.invokevirtual idx, 3)) : x_RnK p l e R s m args below meth c nL E cells slots κ pc L (st) X mc ms rest post := by
  intro H locs ls hH hS hL
  have ha := (hH.2 a _ hκ).1
  refine ⟨_, vx_runVW (As := As) (rest := rest) (b := E.1 + a.toNat) B.1 hM (vx_cwVW n B.1.2.2.2.2 hw rfl rfl rfl hd hR) ⟨x_blind _ _ _ _, x_recv B hκ hcl hH, fun U hU hW => ⟨by rw [x_rf_pos E ha], by rw [hU]; exact hH, B.2.2.2.1.at hS hU hW, by rw [hU]; exact Nat.le_trans B.2.2.2.2 hS.1⟩⟩ rfl hn hL.1 (by rw [hst, x_rf_pos E ha]) (lv_room hW) d hf⟩
theorem x_rSH (B : x_B p s m args meth c cc own nL ret E) {y : MethodName} {idx lv mc ms n maxL : Nat} {bytes : ByteArray} {rt : Option FieldType} {As rest : List Value} {hh : List (Nat × Nat × Nat × Nat)} (hM : x_MetH l y bytes maxL rt hh lv mc ms E κ X As post) (hw : GoodIn lw_all (va_wsS own idx y (wsW_ y bytes maxL rt hh))) (hd : y.cls ≠ "java/lang/invoke/MethodHandle" ∧ y.cls ≠ "java/lang/invoke/VarHandle" ∧ (parseMethodDescriptor y.desc).map (fun d => d.parameters.length) = some n) (hR : lv + 1 + 1 ≤ R.frames ∧ 8 + (maxL + 11) + 64 * (lv + 1) ≤ R.locals) (hf : cells + mc ≤ R.cells ∧ slots + ms ≤ R.slots) (hn : As.length = n) (hst : st = As.reverse ++ rest) (hW : (rest.map fun v => v.category).sum ≤ 8) (d : decode cc pc = .ok (.invokestatic idx, 3)) : x_RnK p l e R s m args below meth c nL E cells slots κ pc L (st) X mc ms rest post := by
  intro H locs ls hH hS hL
  refine ⟨_, vx_runSW (As := As) (rest := rest) B.1 hM (vx_cwSW n B.1.2.2.2.2 hw rfl rfl rfl hd hR) ⟨x_blind _ _ _ _, fun U hU hW => ⟨rfl, by rw [hU]; exact hH, B.2.2.2.1.at hS hU hW, by rw [hU]; exact Nat.le_trans B.2.2.2.2 hS.1⟩⟩ rfl hn hL.1 hst (lv_room hW) d hf⟩
theorem x_Zq {C n d : String} {A : Nat → Prop} {U : State} {H : Heap} {z : Int} (h : va_Z C n d (x_rf E z) A U H) : va_Zq C n d A U H := by
  rcases x_rf_or E z with e | ⟨a, e⟩
  · rw [e] at h; exact Or.inl h
  · rw [e] at h; exact Or.inr ⟨a, h⟩
/-- 'throw new Cn()' -/
theorem x_thr0 (B : x_B p s m args meth c cc own nL ret E) (hst : l.stackTraces = false) (hxt : ∀ x ∈ c.exceptionTable.toList, False) {names : List String} {ik ic mc ms : Nat} (hcls : Bundle.fit Cn = true) (hnames : ∀ n ∈ names, Bundle.fit n = true) (hk : Cond.classLink own ik Cn ∈ lw_all) (hini : Cond.initialized Cn ∈ lw_all) (hat : ∀ w ∈ vx_at0 own ic Cn names, w ∈ lw_all ∨ (w ∈ lw_tbl ∧ x_isN w = true ∧ w.onTables = true)) (hgood : ∀ w ∈ Cond.classLink own ik Cn :: Cond.initialized Cn :: vx_at0 own ic Cn names, vx_ot w = true)
    (hp : ∀ n, X (-1) 0 ≤ n → px (X (-1) 0) κ (x_up X (-1) 0 n)) (d0 : decode cc pc = .ok (.new ik, 3)) (d3 : decode cc (pc + 3) = .ok (.dup, 1)) (d4 : decode cc (pc + 4) = .ok (.invokespecial ic, 3)) (d7 : decode cc (pc + 7) = .ok (.athrow, 1)) (hRf : names.length + 3 < R.frames) (hRl : (st.map fun v => v.category).sum + (13 * (names.length + 1) + 42) ≤ R.locals) (hRc : cells + 1 ≤ R.cells) (hRs : slots + 6 ≤ R.slots) (hmc : cells + 1 ≤ mc) (hms : slots + 6 ≤ ms) : x_G p l e R s m args below meth c nL E cells slots (vq_MQ below (x_QK E post) (q_XC E Cn px) args s mc ms (fun q => E.1 ≤ q)) κ pc L (st) X := by
  intro H locs ls hH hS hL
  have hx := B.2.2.2.1.2.2.2.2
  obtain ⟨⟨z1, hz1⟩, ⟨z2, hz2⟩, l1, l2⟩ := hx
  have h0 : 0 ≤ X (-1) 0 := by have h1 := hH.1; have h2 := B.2.2.2.2; have h3 := hS.1; omega
  have hsz : H.size = E.1 + (X (-1) 0).toNat := by have := hH.1; omega
  refine vq_throw0 (A := fun q => E.1 ≤ q) B.1.1 B.1.2.1 hst B.1.2.2.2.1 hcls hnames (B.1.2.2.2.2 _ hk) (B.1.2.2.2.2 _ hini) (fun w hw => ?_) hgood ⟨x_Zq hz1, l1⟩ ⟨x_Zq hz2, l2⟩ hS (hL.1.trans B.1.2.2.1.symm) d0 d3 d4 d7 (fun x hx => (hxt x hx).elim) hRf hRl hRc hRs B.2.2.1 (fun t hW h1 h2 => ?_) hS.2.2 hmc hms
  · rcases hat w hw with h | ⟨h, hi, ho⟩
    · exact B.1.2.2.2.2 _ h
    · exact va_Nw.use (A := args) ho (B.2.2.2.1.2.1 _ h hi)
  · refine ⟨X (-1) 0, κ, x_up X (-1) 0 ((t.heap.size : Int) - E.1), rfl, h0, hsz, hp _ (by omega), ⟨by rw [x_up_s]; omega, fun a kd hk => ?_⟩, ?_⟩
    · obtain ⟨q1, q2⟩ := hH.2 a kd hk
      rw [x_up_o _ (by omega)]
      exact ⟨q1, q2.kept (h2 _ q2.lt)⟩
    · refine ⟨Nat.le_trans hS.1 h1, fun q q1 q2 => ?_⟩
      rw [h2 q (Nat.lt_of_lt_of_le q1 hS.1)]
      exact hS.2.1 q q1 q2
end XH
theorem row_at0 : ∀ w ∈ vx_at0 "NextLoad" 402 "java/util/NoSuchElementException" ["java/lang/RuntimeException", "java/lang/Exception"], w ∈ lw_all ∨ (w ∈ lw_tbl ∧ x_isN w = true ∧ w.onTables = true) := by
  have h1 : ∀ w ∈ Bundle.throwableAtoms, vx_no w = true → (w ∈ lw_all ∨ (w ∈ lw_tbl ∧ x_isN w = true ∧ w.onTables = true)) := List.forall_mem_cons.mpr ⟨fun _ => Or.inl q126, List.forall_mem_cons.mpr ⟨fun _ => Or.inl q581, List.forall_mem_cons.mpr ⟨fun _ => Or.inl q590, List.forall_mem_cons.mpr ⟨fun _ => Or.inl q593, List.forall_mem_cons.mpr ⟨fun _ => Or.inl q596, List.forall_mem_cons.mpr ⟨fun _ => Or.inl q598, List.forall_mem_cons.mpr ⟨fun _ => Or.inl q582, List.forall_mem_cons.mpr ⟨fun _ => Or.inl q583, List.forall_mem_cons.mpr ⟨fun _ => Or.inl q148, List.forall_mem_cons.mpr ⟨fun _ => Or.inl q149, List.forall_mem_cons.mpr ⟨fun _ => Or.inl q584, List.forall_mem_cons.mpr ⟨fun _ => Or.inl q589, List.forall_mem_cons.mpr ⟨fun _ => Or.inl q594, List.forall_mem_cons.mpr ⟨fun _ => Or.inl q612, List.forall_mem_cons.mpr ⟨fun _ => Or.inl q571, List.forall_mem_cons.mpr ⟨fun _ => Or.inl q613, List.forall_mem_cons.mpr ⟨fun _ => Or.inl q573, List.forall_mem_cons.mpr ⟨fun _ => Or.inl q614, List.forall_mem_cons.mpr ⟨fun _ => Or.inl q575, List.forall_mem_cons.mpr ⟨fun _ => Or.inl q585, List.forall_mem_cons.mpr ⟨fun h => absurd h (by decide +kernel), List.forall_mem_cons.mpr ⟨fun _ => Or.inl q587, List.forall_mem_cons.mpr ⟨fun h => absurd h (by decide +kernel), List.forall_mem_cons.mpr ⟨fun _ => Or.inl q577, fun _ h => absurd h List.not_mem_nil⟩⟩⟩⟩⟩⟩⟩⟩⟩⟩⟩⟩⟩⟩⟩⟩⟩⟩⟩⟩⟩⟩⟩⟩
  have h2 : ∀ w ∈ Bundle.passAtoms "java/util/NoSuchElementException" "java/lang/RuntimeException" 1 Bundle.five, vx_no w = true → (w ∈ lw_all ∨ (w ∈ lw_tbl ∧ x_isN w = true ∧ w.onTables = true)) := List.forall_mem_cons.mpr ⟨fun _ => Or.inl q1318, List.forall_mem_cons.mpr ⟨fun _ => Or.inl q1319, List.forall_mem_cons.mpr ⟨fun _ => Or.inl q1320, List.forall_mem_cons.mpr ⟨fun _ => Or.inl q1321, List.forall_mem_cons.mpr ⟨fun _ => Or.inr ⟨q1309, rfl, rfl⟩, fun _ h => absurd h List.not_mem_nil⟩⟩⟩⟩⟩
  have h3 : ∀ w ∈ Bundle.passAtoms "java/lang/RuntimeException" "java/lang/Exception" 1 Bundle.five, vx_no w = true → (w ∈ lw_all ∨ (w ∈ lw_tbl ∧ x_isN w = true ∧ w.onTables = true)) := List.forall_mem_cons.mpr ⟨fun _ => Or.inl q1321, List.forall_mem_cons.mpr ⟨fun _ => Or.inl q1322, List.forall_mem_cons.mpr ⟨fun _ => Or.inl q1323, List.forall_mem_cons.mpr ⟨fun _ => Or.inl q1324, List.forall_mem_cons.mpr ⟨fun _ => Or.inr ⟨q564, rfl, rfl⟩, fun _ h => absurd h List.not_mem_nil⟩⟩⟩⟩⟩
  have h4 : ∀ w ∈ Bundle.passAtoms "java/lang/Exception" Bundle.tN 1 Bundle.five, vx_no w = true → (w ∈ lw_all ∨ (w ∈ lw_tbl ∧ x_isN w = true ∧ w.onTables = true)) := List.forall_mem_cons.mpr ⟨fun _ => Or.inl q1324, List.forall_mem_cons.mpr ⟨fun _ => Or.inl q1325, List.forall_mem_cons.mpr ⟨fun _ => Or.inl q1326, List.forall_mem_cons.mpr ⟨fun _ => Or.inl q582, List.forall_mem_cons.mpr ⟨fun _ => Or.inr ⟨q566, rfl, rfl⟩, fun _ h => absurd h List.not_mem_nil⟩⟩⟩⟩⟩
  intro w hw
  obtain ⟨hm, hno⟩ := List.mem_filter.mp hw
  unfold Bundle.ownAtoms0 at hm
  clear hw
  rcases List.mem_append.mp hm with h | h
  · rcases List.mem_append.mp h with h | h
    · exact h1 w h hno
    · rcases List.mem_append.mp h with h | h
      · exact h2 w h hno
      · rcases List.mem_append.mp h with h | h
        · exact h3 w h hno
        · exact h4 w h hno
  · clear hm
    revert hno
    revert h
    revert w
    exact List.forall_mem_cons.mpr ⟨fun _ => Or.inl q1317, List.forall_mem_cons.mpr ⟨fun _ => Or.inl q1307, List.forall_mem_cons.mpr ⟨fun _ => Or.inr ⟨q1308, rfl, rfl⟩, List.forall_mem_cons.mpr ⟨fun _ => Or.inl q1311, List.forall_mem_cons.mpr ⟨fun _ => Or.inl q592, List.forall_mem_cons.mpr ⟨fun _ => Or.inl q1312, List.forall_mem_cons.mpr ⟨fun _ => Or.inl q1313, List.forall_mem_cons.mpr ⟨fun _ => Or.inl q1314, List.forall_mem_cons.mpr ⟨fun _ => Or.inl q1315, List.forall_mem_cons.mpr ⟨fun h => absurd h (by decide +kernel), List.forall_mem_cons.mpr ⟨fun h => absurd h (by decide +kernel), List.forall_mem_cons.mpr ⟨fun _ => Or.inl q580, List.forall_mem_cons.mpr ⟨fun _ => Or.inl q579, List.forall_mem_cons.mpr ⟨fun _ => Or.inl q1316, fun _ h => absurd h List.not_mem_nil⟩⟩⟩⟩⟩⟩⟩⟩⟩⟩⟩⟩⟩⟩
theorem row_good : ∀ w ∈ Cond.classLink "NextLoad" 400 "java/util/NoSuchElementException" :: Cond.initialized "java/util/NoSuchElementException" :: vx_at0 "NextLoad" 402 "java/util/NoSuchElementException" ["java/lang/RuntimeException", "java/lang/Exception"], vx_ot w = true := by decide +kernel
