/-! ===== methods that may throw: the thrown cell is told by its address (the kit's vx_ laws, turned by program) ===== -/
section VQA
def vq_T (XC : String → Addr → State → State → Prop) (st : State) (q : Addr) (t : State) (mc ms : Nat) (free : Addr → Prop) : Prop :=
  ∃ (E : String) (ce : Cell) (L : List Loc), XC E q st t ∧ t.heap[q]? = some ce ∧ ce.vm = .none ∧ st.vm.findClass E = some ce.cls ∧ st.WarmedH t.vm ∧ st.sameButNew ({ t with vm := st.vm } : State) L mc ms ∧ ∀ z ∈ L, free z.base
def vq_Q (Qc : Array Value → State → Outcome → State → Prop) (XC : String → Addr → State → State → Prop) (mc ms : Nat) (free : Addr → Prop) : Array Value → State → Outcome → State → Prop := fun a st o t =>
  (Qc a st o t ∧ ∃ L, FrameEnd st o t L mc ms ∧ ∀ q ∈ L, free q.base) ∨ ∃ q, o = .threw q ∧ vq_T XC st q t mc ms free
def vq_Met (l : Launch) (y : MethodName) (ws : List Cond) (rm : Room) (Pc : Array Value → State → Prop) (Qc : Array Value → State → Outcome → State → Prop) (XC : String → Addr → State → State → Prop) (mc ms : Nat) (free : Addr → Prop) : Prop :=
  MetFree l y (headSpec ws rm) Pc (fun _ _ _ _ _ => True) (vq_Q Qc XC mc ms free)
def vq_Post (XC : String → Addr → State → State → Prop) (mc ms : Nat) (free : Addr → Prop) : Pt → Array Value → Addr → Pt → Prop := fun A a q B =>
  ∃ (g : JFrame) (mk : MethodId) (t : State) (L : List Loc) (E : String) (ce : Cell), B.U.heap = t.heap ∧ B.U.vm = t.vm ∧ XC E q (A.U.calling g mk a) t ∧ t.heap[q]? = some ce ∧ ce.vm = .none ∧ A.U.vm.findClass E = some ce.cls ∧ B.locs = A.locs ++ L ∧ (∀ z ∈ L, free z.base) ∧ B.cells = A.cells + mc ∧ B.slots = A.slots + ms

section
variable {l : Launch} {R : Room} {p : Program} {e : Env} {below : List Frame} {s : State} {sargs : Array Value} {y : MethodName} {len W9 : Nat}
theorem vq_back {ws : List Cond} {rm : Room} {Pc : Array Value → State → Prop} {Qc : Array Value → State → Outcome → State → Prop} {XC : String → Addr → State → State → Prop} {mc ms : Nat} {free : Addr → Prop} {bytes : ByteArray} {maxL : Nat} {ret : Option FieldType}
    (hM : vq_Met l y ws rm Pc Qc XC mc ms free) (hblind : FrameBlind Pc) (hrc : rm.cells = mc) (hrs : rm.slots = ms)
    (hframes : rm.frames + 1 ≤ R.frames) (hlocals : W9 + (maxL + 11) + rm.locals ≤ R.locals)
    (hws : ∀ w ∈ ws, ∀ a' U, s.WarmedH U.vm → w.before a' U = true) (hcode : Cond.code y bytes maxL ret ∈ ws) (hinit : ∀ a' U, s.WarmedH U.vm → (Cond.initialized y.cls).before a' U = true) :
    vx_Back l R p e below s sargs y len W9 (PreOf R mc ms Pc) (PostOf Qc mc ms free) (vq_Post XC mc ms free) := by
  intro m meth c A g ig mk a X hg hsize hdg hW hn hp
  have h1 : (headSpec ws rm).pre.before a A.U = true := atoms_intro fun w hw => hws w hw _ _ X.warmed
  have h2 : (Cond.code y bytes maxL ret).before a A.U = true := hws _ hcode _ _ X.warmed
  have h3 : (Cond.initialized y.cls).before a A.U = true := hinit _ _ X.warmed
  have h4 : A.cells + (headSpec ws rm).room.cells ≤ R.cells := by rw [show (headSpec ws rm).room.cells = mc from hrc]; exact hp.1
  have h5 : A.slots + (headSpec ws rm).room.slots ≤ R.slots := by rw [show (headSpec ws rm).room.slots = ms from hrs]; exact hp.2.1
  have hPc : Pc a (A.U.calling g mk a) := hblind _ _ _ _ hp.2.2
  obtain ⟨U, Ls, c0, s0⟩ := A
  dsimp only [Pt.U, Pt.locs, Pt.cells, Pt.slots] at h1 h2 h3 h4 h5 X hn hPc ⊢
  obtain ⟨methY, cY, hmY, hcY, -, hlY, -, -, -, -⟩ := Cond.code_spec hn h2
  obtain ⟨kY, hkY, -⟩ := className_of_methodNamed hn
  have hinitY : kY.init = .initialized := Cond.initialized_spec (findClass_of_methodNamed hn) hkY h3
  have h : At U g.method c below := by rw [hg]; exact X.here
  have hlocals9 : W9 + (maxL + 11) + (headSpec ws rm).room.locals ≤ R.locals := hlocals
  have happ : (headSpec ws rm).appliesLoose y e.platform (U.calling g mk a) = true :=
    Spec.appliesLoose_calling (g := g) h hdg hn hkY hinitY
      (X.room_calling (g := g) (R' := (headSpec ws rm).room) hsize hmY hcY hframes (by rw [hlY]; omega) h4 h5) h1
  obtain ⟨mid, hmid⟩ := h.above
  have hfr : (U.setTop g).frames = (.java g :: mid) ++ below := by rw [State.frames_setTop' g h.top, hmid]; rfl
  obtain ⟨o, s₂, hsteps, -, hend, hq⟩ := Steps.callFree hM p X.admits X.cas X.clock (acts := []) hfr happ hPc trivial
  have hq' : vq_Q Qc XC mc ms free a (U.calling g mk a) o s₂ := hq
  rw [State.frames_setTop' g h.top] at hend
  obtain ⟨g₀, hg0⟩ := Option.isSome_iff_exists.mp h.top
  obtain ⟨r, hr⟩ := State.topJava?_eq_some.mp hg0
  have hr' : (({ U with heap := s₂.heap, slotsUsed := s₂.slotsUsed } : State).setVm s₂.vm).frames = .java g₀ :: r := hr
  rcases hq' with ⟨hqc, L, hfe, hL⟩ | ⟨q, rfl, E, ce, L, hx, hce, hcv, hcl, hW₂, hsm, hL⟩
  · obtain ⟨⟨v, rfl⟩, hW₂, e2, q2, q3, q4, q5, q6⟩ := id hfe
    have e3 : s₂ = ({ (U.calling g mk a).setFrames s₂.frames with heap := s₂.heap, slotsUsed := s₂.slotsUsed } : State).setVm s₂.vm := by
      have : s₂ = ({ s₂ with vm := (U.calling g mk a).vm } : State).setVm s₂.vm := rfl
      rw [e2] at this
      exact this
    obtain ⟨c₂, i₂, len₂, hc₂, hd₂, hf₂⟩ := hend
    have hW' : U.WarmedH s₂.vm := hW₂
    have hcc : c₂ = c := by
      have h1 : s₂.code? g.method = U.code? g.method := by
        rw [State.code?_eq, State.code?_eq, hW'.alike.method?]
      exact Option.some.inj (hc₂.symm.trans (h1.trans h.code))
    subst hcc
    have hlen : len₂ = len := by rw [hdg] at hd₂; cases hd₂; rfl
    subst hlen
    have hs₂ : s₂ = (({ U with heap := s₂.heap, slotsUsed := s₂.slotsUsed } : State).setVm s₂.vm).setTop { g with pc := g.pc + len₂, stack := v.toList ++ g.stack } := by
      refine e3.trans ?_
      rw [hf₂, State.calling_eq h.top, State.setFrames_setFrames, State.setTop_of_frames _ hr', hr]
      rfl
    have hsame : U.sameButNew ({ U with heap := s₂.heap, slotsUsed := s₂.slotsUsed } : State) L mc ms := by
      refine ⟨?_, q2, q3, q4, q5, q6⟩
      obtain ⟨t, ht, -⟩ := State.frames_cons hr
      show ({ U with heap := s₂.heap, slotsUsed := s₂.slotsUsed } : State) = { U.setFrames U.frames with heap := s₂.heap, slotsUsed := s₂.slotsUsed }
      rw [State.setFrames_self ht]
    subst hg
    refine Or.inl ⟨v, ⟨(({ U with heap := s₂.heap, slotsUsed := s₂.slotsUsed } : State).setVm s₂.vm), Ls ++ L, c0 + mc, s0 + ms⟩,
      ⟨X.admits, X.cas, X.clock, X.frames, X.room, X.hears, X.method, X.code, (X.here.setHeapUsed s₂.heap s₂.slotsUsed).setVm hW'.alike, X.tail, State.WarmedH.trans X.warmed hW', X.limits, X.bytes, X.same.trans (hsame.setVm s.vm)⟩,
      ⟨g, mk, s₂, L, rfl, rfl, hqc, rfl, hL, rfl, rfl⟩, ?_⟩
    show Steps p.tables e below _ ((({ U with heap := s₂.heap, slotsUsed := s₂.slotsUsed } : State).setVm s₂.vm).setTop { g with pc := g.pc + len₂, stack := v.toList ++ g.stack })
    rw [← hs₂]
    exact hsteps
  · obtain ⟨e2, q2, q3, q4, q5, q6⟩ := id hsm
    have e3 : s₂ = ({ (U.calling g mk a).setFrames s₂.frames with heap := s₂.heap, slotsUsed := s₂.slotsUsed } : State).setVm s₂.vm := by
      have : s₂ = ({ s₂ with vm := (U.calling g mk a).vm } : State).setVm s₂.vm := rfl
      rw [e2] at this
      exact this
    have hf₂ : s₂.frames = .throwing q :: .java g :: U.frames.tail := hend
    have hW' : U.WarmedH s₂.vm := hW₂
    have hs₂ : s₂ = ((({ U with heap := s₂.heap, slotsUsed := s₂.slotsUsed } : State).setVm s₂.vm).setTop g).pushFrame (.throwing q) := by
      refine e3.trans ?_
      rw [hf₂, State.calling_eq h.top, State.setFrames_setFrames, State.pushFrame, State.frames_setTop _ hr', State.setTop_of_frames _ hr', State.setFrames_setFrames, hr]
      rfl
    have hsame : U.sameButNew ({ U with heap := s₂.heap, slotsUsed := s₂.slotsUsed } : State) L mc ms := by
      refine ⟨?_, q2, q3, q4, q5, q6⟩
      obtain ⟨t, ht, -⟩ := State.frames_cons hr
      show ({ U with heap := s₂.heap, slotsUsed := s₂.slotsUsed } : State) = { U.setFrames U.frames with heap := s₂.heap, slotsUsed := s₂.slotsUsed }
      rw [State.setFrames_self ht]
    subst hg
    refine Or.inr ⟨q, ⟨(({ U with heap := s₂.heap, slotsUsed := s₂.slotsUsed } : State).setVm s₂.vm), Ls ++ L, c0 + mc, s0 + ms⟩,
      ⟨X.admits, X.cas, X.clock, X.frames, X.room, X.hears, X.method, X.code, (X.here.setHeapUsed s₂.heap s₂.slotsUsed).setVm hW'.alike, X.tail, State.WarmedH.trans X.warmed hW', X.limits, X.bytes, X.same.trans (hsame.setVm s.vm)⟩,
      ⟨g, mk, s₂, L, E, ce, rfl, rfl, hx, hce, hcv, hcl, rfl, hL, rfl, rfl⟩, ?_⟩
    show Steps p.tables e below _ (((({ U with heap := s₂.heap, slotsUsed := s₂.slotsUsed } : State).setVm s₂.vm).setTop g).pushFrame (.throwing q))
    rw [← hs₂]
    exact hsteps
end
def vq_Run (p : Program) (l : Launch) (e : Env) (R : Room) (s : State) (m : MethodId) (args : Array Value) (below : List Frame) (meth : Method) (c : Code) (H : Heap) (locs : List Loc) (cells slots mc ms : Nat) (g : JFrame) (rest : List Value) (Qa : State → Outcome → State → Prop) (XC : String → Addr → State → State → Prop) (free : Addr → Prop) : Prop :=
  ∀ T : State, T.heap = H → Stand p l e R s m args below meth c T locs cells slots →
    (∃ (v : Option Value) (st₀ t T' : State) (L : List Loc), st₀.heap = H ∧ Stand p l e R s m args below meth c T' (locs ++ L) (cells + mc) (slots + ms) ∧ (∀ q ∈ L, free q.base) ∧ T'.heap = t.heap ∧ T'.vm = t.vm ∧ Qa st₀ (.returned v) t ∧
      Goes p e below T g T' { g with pc := g.pc + 3, stack := v.toList ++ rest }) ∨
    (∃ (q : Addr) (st₀ t T' : State) (L : List Loc) (E : String) (ce : Cell), st₀.heap = H ∧ Stand p l e R s m args below meth c T' (locs ++ L) (cells + mc) (slots + ms) ∧ (∀ z ∈ L, free z.base) ∧ T'.heap = t.heap ∧ T'.vm = t.vm ∧ XC E q st₀ t ∧ t.heap[q]? = some ce ∧ ce.vm = .none ∧ s.vm.findClass E = some ce.cls ∧
      Steps p.tables e below (T.setTop g) ((T'.setTop { g with stack := rest }).pushFrame (.throwing q)))

section
variable {p : Program} {l : Launch} {e : Env} {R : Room} {s : State} {m : MethodId} {args : Array Value} {below : List Frame} {meth : Method} {c : Code} {H : Heap} {locs : List Loc} {cells slots : Nat}
variable {y : MethodName} {bytes cc : ByteArray} {maxL nL mc ms n index : Nat} {ret : Option FieldType} {ws : List Cond} {rm : Room} {Pc : Array Value → State → Prop} {Qc : Array Value → State → Outcome → State → Prop} {XC : String → Addr → State → State → Prop} {free : Addr → Prop} {Ts : List Cond} {own C : String} {b : Addr} {As rest : List Value} {g : JFrame}
theorem vq_callBack (cb : CallB R s args own index y bytes maxL ret ws rm mc ms n) (hM : vq_Met l y ws rm Pc Qc XC mc ms free) (hbl : FrameBlind Pc) : vx_Back l R p e below s args y 3 8 (PreOf R mc ms Pc) (PostOf Qc mc ms free) (vq_Post XC mc ms free) := by
  obtain ⟨hrc, hrs, hfr, hlo, hws, hcw, -, hini, -⟩ := cb
  exact vq_back (bytes := bytes) (maxL := maxL) (ret := ret) hM hbl hrc hrs hfr hlo hws hcw (fun a' U hW => word_at hW (Or.inl (by first | rfl | simp [Cond.onTables, Cond.keeps, Cond.steady])) hini)
theorem vq_runV (S : CallFix p m c cc nL s args Ts own) (hM : vq_Met l y ws rm Pc Qc XC mc ms free) (cw : CallW R s args own C index y bytes maxL ret ws rm mc ms n) (hp : PreV s H C b Pc As)
    (hg : g.method = m) (hn : As.length = n) (hsize : g.locals.size = nL) (hstack : g.stack = As.reverse ++ .ref b :: rest) (hW : 2 * g.monitorRoom + (rest.map fun v => v.category).sum ≤ 8) (hdg : decode cc g.pc = .ok (.invokevirtual index, 3)) (hf : cells + mc ≤ R.cells ∧ slots + ms ≤ R.slots) :
    vq_Run p l e R s m args below meth c H locs cells slots mc ms g rest (Qc (Value.ref b :: As).toArray) XC free := by
  have hK : vx_Back l R p e below s args y 3 8 (PreOf R mc ms Pc) (PostOf Qc mc ms free) (vq_Post XC mc ms free) := vq_callBack cw.1 hM hp.1
  obtain ⟨⟨-, -, -, -, -, -, hcode, -, hy, hlen, hl⟩, hin, hse⟩ := cw
  obtain ⟨hx, hb, hml, ho, -⟩ := S
  obtain ⟨-, ⟨cellB, hcB, hoB, hclB⟩, hPc⟩ := hp
  intro T hT X
  rcases vx_callV X hx (C := C) (bytes := bytes) (maxL := maxL) (ret := ret) ho hl hin hse hcode hy hK (by rw [hT]; exact hcB) hoB hclB hg (hsize.trans hml.symm) (argsL := As) (rest := rest) (fun sig h => hn.trans (hlen sig h)) hstack hW (by rw [hb]; exact hdg)
    (fun vm₁ hW₁ => ⟨hf.1, hf.2, hPc (T.setVm vm₁) hT hW₁⟩) with ⟨v, vm₁, ⟨U', l2, c2, s2⟩, hW₁, X', ⟨g', mk, t, L, e1, e2, hq, h1, hL, h2, h3⟩, st⟩ | ⟨q, vm₁, ⟨U', l2, c2, s2⟩, hW₁, X', ⟨g', mk, t, L, E, ce, e1, e2, hq, hce, hcv, hcl, h1, hL, h2, h3⟩, st⟩
  · dsimp only [Pt.U, Pt.locs, Pt.cells, Pt.slots] at X' e1 e2 h1 h2 h3 st
    subst h1; subst h2; subst h3
    exact Or.inl ⟨v, (T.setVm vm₁).calling g' mk (Value.ref b :: As).toArray, t, U', L, hT, X', hL, e1, e2, hq, st⟩
  · dsimp only [Pt.U, Pt.locs, Pt.cells, Pt.slots] at X' e1 e2 h1 h2 h3 st hcl
    subst h1; subst h2; subst h3
    exact Or.inr ⟨q, (T.setVm vm₁).calling g' mk (Value.ref b :: As).toArray, t, U', L, E, ce, hT, X', hL, e1, e2, hq, hce, hcv, vx_cls hW₁ hcl, st⟩
end
section
variable {p : Program} {l : Launch} {e : Env} {R : Room} {s : State} {m : MethodId} {args : Array Value} {below : List Frame} {meth : Method} {c : Code} {H : Heap} {locs : List Loc} {cells slots : Nat} {Q : State → Prop}
variable {ls : Array Slot} {rest : List Value}
variable {mc ms : Nat} {free : Addr → Prop} {Qc : Array Value → State → Outcome → State → Prop} {XC : String → Addr → State → State → Prop}
def vq_MQ (below : List Frame) (Qc : Array Value → State → Outcome → State → Prop) (XC : String → Addr → State → State → Prop) (a : Array Value) (s : State) (mc ms : Nat) (free : Addr → Prop) : State → Prop := fun t =>
  ∃ o, t.status = .running ∧ Ended t below o ∧ vq_Q Qc XC mc ms free a s o t
theorem vq_ret {g : JFrame} {mc ms : Nat} (k : W p l e R s m args below meth c H locs cells slots (MQ below Qc args s mc ms free) g) : W p l e R s m args below meth c H locs cells slots (vq_MQ below Qc XC args s mc ms free) g := by
  intro T hT X
  obtain ⟨t, a1, o, b1, b2, b3, b4⟩ := k T hT X
  exact ⟨t, a1, o, b1, b2, Or.inl ⟨b3, b4⟩⟩
theorem vq_out {pc : Nat} {E : String} {ce : Cell} {q : Addr} {mc ms : Nat} (hout : ∀ x ∈ c.exceptionTable.toList, covers x pc = false) (hlocks : meth.locks = false) (hcell : H[q]? = some ce) (hv : ce.vm = .none) (hcl : s.vm.findClass E = some ce.cls)
    (hx : ∀ t : State, t.heap = H → s.vm.Alike t.vm → XC E q s t) (hf : ∀ z ∈ locs, free z.base) (hc : cells ≤ mc) (hs : slots ≤ ms) :
    vx_W p l e R s m args below meth c H locs cells slots (vq_MQ below Qc XC args s mc ms free) (F0 m pc ls rest) q := by
  intro T hT X
  obtain ⟨st1, hrun, hend, hW, hsm⟩ := X.leaveThrown q (g := F0 m pc ls rest) rfl rfl rfl hout hlocks
  have hcell9 : (T.setFrames (.throwing q :: below)).heap[q]? = some ce := by
    show T.heap[q]? = some ce
    rw [hT]; exact hcell
  exact ⟨_, st1, .threw q, hrun, hend, Or.inr ⟨q, rfl, E, ce, locs, hx _ hT hW.alike, hcell9, hv, hcl, hW, hsm.mono hc hs, hf⟩⟩
end
section
variable {l : Launch}
theorem vq_ofW {y : MethodName} {ws ws' : List Cond} {rm : Room} {Pc : Array Value → State → Prop} {Qc : Array Value → State → Outcome → State → Prop} {XC : String → Addr → State → State → Prop} {mc ms : Nat} {free : Addr → Prop} {cc : ByteArray} {maxL : Nat} {ret : Option FieldType}
    (hy : plainName y.cls = true) (hw : ws = Cond.code y cc maxL ret :: ws')
    (body : ∀ p e s m args below meth c s₁, BodyLoose p l y (headSpec ws rm) cc maxL ret e s m args below meth c s₁ → c.maxLocals = maxL → (∀ x ∈ c.exceptionTable.toList, False) → Pc args s →
      W p l e (headSpec ws rm).room s m args below meth c s.heap [] 0 0 (vq_MQ below Qc XC args s mc ms free) (entryFrame m args maxL)) : vq_Met l y ws rm Pc Qc XC mc ms free := by
  refine MetFree.of_bodyS (code := cc) (maxLocals := maxL) (ret := ret) hy ?_ ?_
  · intro args s m h hn
    obtain ⟨meth, c, h1, h2, h3, h4, h5, h6, -, -⟩ := Cond.code_spec hn (atoms_spec (ws := ws) h _ (by rw [hw]; exact List.mem_cons_self))
    exact ⟨meth, c, h1, h2, h3, h4, h5, h6⟩
  · intro p e s m args below meth c s₁ B hml hP _
    have hh0 : s₁.heap = s.heap := by rw [B.state]; rfl
    have ht : ∀ x ∈ c.exceptionTable.toList, False := by
      obtain ⟨meth9, c9, h1, h2, -, -, -, -, h7, -⟩ := Cond.code_spec B.named (atoms_spec (ws := ws) B.pre _ (by rw [hw]; exact List.mem_cons_self))
      cases Option.some.inj (h1.symm.trans B.method)
      cases Option.some.inj (h2.symm.trans (Stand.of_body B).code)
      intro x hx
      rw [Array.isEmpty_iff.mp h7] at hx
      cases hx
    obtain ⟨t, a1, o, b1, b2, b3⟩ := body p e s m args below meth c s₁ B hml ht hP s₁ hh0 (Stand.of_body B)
    exact ⟨t, o, a1, b1, b2, b3⟩
end
end VQA
theorem vq_ofx {p : Program} {l : Launch} {e : Env} {R : Room} {s : State} {m : MethodId} {args : Array Value} {below : List Frame} {meth : Method} {c : Code} {H : Heap} {locs : List Loc} {cells slots : Nat} {mc ms : Nat} {free : Addr → Prop} {Qc : Array Value → State → Outcome → State → Prop} {XC : String → Addr → State → State → Prop} {g : JFrame} (k : W p l e R s m args below meth c H locs cells slots (vx_MQ below Qc (fun C st t => ∀ q, XC C q st t) args s mc ms free) g) : W p l e R s m args below meth c H locs cells slots (vq_MQ below Qc XC args s mc ms free) g := by
  intro T hT X
  obtain ⟨t, a1, o, b1, b2, b3⟩ := k T hT X
  refine ⟨t, a1, o, b1, b2, ?_⟩
  rcases b3 with h | ⟨q, ho, Cn, ce, L, hx, h2⟩
  · exact Or.inl h
  · exact Or.inr ⟨q, ho, Cn, ce, L, hx q, h2⟩
/-! ===== in the layer's words ===== -/
def q_XC (E : x_E) (Cn : String) (px : Int → x_Ka → x_X → Prop) : String → Addr → State → State → Prop := fun C q st t => ∃ (z : Int) (κ' : x_Ka) (X' : x_X), C = Cn ∧ 0 ≤ z ∧ q = E.1 + z.toNat ∧ px z κ' X' ∧ x_H E κ' X' t.heap ∧ va_F (fun q => E.1 ≤ q) st t
/-- A CONTRACT of a method that returns with post, or throws a Cn at z with px z -/
def x_MetX (l : Launch) (y : MethodName) (bytes : ByteArray) (maxL : Nat) (ret : Option FieldType) (lv mc ms : Nat) (E : x_E) (κ : x_Ka) (X : x_X) (av : List Value) (Cn : String) (post : Option Value → x_Ka → x_X → Prop) (px : Int → x_Ka → x_X → Prop) : Prop :=
  vq_Met l y (ws_ y bytes maxL ret) (x_rm lv mc ms) (va_Pc av (x_S E κ X)) (x_QK E post) (q_XC E Cn px) mc ms (fun q => E.1 ≤ q)
theorem x_MetX.of {l : Launch} {y : MethodName} {bytes : ByteArray} {maxL : Nat} {ret : Option FieldType} {lv mc ms : Nat} {E : x_E} {κ : x_Ka} {X : x_X} {av : List Value} {Cn : String} {post : Option Value → x_Ka → x_X → Prop} {px : Int → x_Ka → x_X → Prop} {own : String} (q : List (Bool × Value)) (L : List (Option Value)) (k : Nat) (hy : plainName y.cls = true) (hown : y.cls = own) (hq : q.map Prod.snd = av) (hc : x_cats q) (hL : x_ls q ++ List.replicate k none = L) (hn : L.length = maxL)
    (body : ∀ p e s m args below meth c, args = av.toArray → meth.name = y.name → x_B p s m args meth c bytes own maxL ret E → (∀ x ∈ c.exceptionTable.toList, False) → x_G p l e (x_rm lv mc ms) s m args below meth c maxL E 0 0 (vq_MQ below (x_QK E post) (q_XC E Cn px) args s mc ms (fun q => E.1 ≤ q)) κ 0 L [] X) : x_MetX l y bytes maxL ret lv mc ms E κ X av Cn post px := by
  refine vq_ofW (cc := bytes) (maxL := maxL) (ret := ret) hy rfl ?_
  intro p e s m args below meth c s₁ B hml hxt hv
  obtain ⟨hargs, hH, hKn, hE⟩ := hv
  have hts := atoms_spec (ws := ws_ y bytes maxL ret) B.pre
  have hts : ∀ w ∈ lw_all, w.before args s = true := fun w h => hts w (List.mem_cons_of_mem _ h)
  have h := body p e s m args below meth c hargs (name_of_methodNamed B.named B.method).1 ⟨⟨B.exec, B.bytes, hml, by rw [← hown]; exact findClass_of_methodNamed B.named, hts⟩, B.returns, B.notSynchronized, hKn, hE⟩ hxt
  rw [hargs, lg_entry_eq]
  rw [hargs] at h
  exact h s.heap [] _ hH va_S.rf (x_entry hq hc hL hn)
section XQ
variable {p : Program} {l : Launch} {e : Env} {R : Room} {s : State} {m : MethodId} {args : Array Value} {below : List Frame} {meth : Method} {c : Code} {nL : Nat} {E : x_E} {cells slots : Nat} {Q : State → Prop} {κ : x_Ka}
variable {cc : ByteArray} {own : String} {ret : Option FieldType} {pc : Nat} {L : List (Option Value)} {st : List Value} {X : x_X}
variable {Cn : String} {post : Option Value → x_Ka → x_X → Prop} {px : Int → x_Ka → x_X → Prop}
theorem x_aretX {rt : FieldType} (B : x_B p s m args meth c cc own nL (some rt) E) (hrt : (∃ n, rt = .object n) ∨ ∃ t, rt = .array t) {z : Int} (hp : post (some (x_rf E z)) κ X) (d : decode cc pc = .ok (.areturn, 1)) : x_G p l e R s m args below meth c nL E cells slots (vq_MQ below (x_QK E post) (q_XC E Cn px) args s cells slots (fun q => E.1 ≤ q)) κ pc L ([x_rf E z]) X :=
  fun H locs ls hH hS hL => vq_ret (W.aret B.1.1 B.1.2.1 B.2.1 hrt (x_rf_or E z) (fun t ht hW => ⟨⟨_, κ, X, rfl, hp, by rw [ht]; exact hH⟩, hS.F ht⟩) hS.2.2 d B.2.2.1)
theorem x_vretX (B : x_B p s m args meth c cc own nL none E) (hp : post none κ X) (d : decode cc pc = .ok (.return_, 1)) : x_G p l e R s m args below meth c nL E cells slots (vq_MQ below (x_QK E post) (q_XC E Cn px) args s cells slots (fun q => E.1 ≤ q)) κ pc L ([]) X :=
  fun H locs ls hH hS hL => vq_ret (W.vret B.1.1 B.1.2.1 B.2.1 (fun t ht hW => ⟨⟨_, κ, X, rfl, hp, by rw [ht]; exact hH⟩, hS.F ht⟩) hS.2.2 d B.2.2.1)
theorem x_iretX (B : x_B p s m args meth c cc own nL (some .int) E) {z : Int} (hp : post (some (vi z)) κ X) (d : decode cc pc = .ok (.ireturn, 1)) : x_G p l e R s m args below meth c nL E cells slots (vq_MQ below (x_QK E post) (q_XC E Cn px) args s cells slots (fun q => E.1 ≤ q)) κ pc L ([vi z]) X :=
  fun H locs ls hH hS hL => vq_ret (W.iret B.1.1 B.1.2.1 B.2.1 (fun t ht hW => ⟨⟨_, κ, X, rfl, hp, by rw [ht]; exact hH⟩, hS.F ht⟩) hS.2.2 d B.2.2.1)
theorem x_lretX (B : x_B p s m args meth c cc own nL (some .long) E) {z : Int} (hp : post (some (vl z)) κ X) (d : decode cc pc = .ok (.lreturn, 1)) : x_G p l e R s m args below meth c nL E cells slots (vq_MQ below (x_QK E post) (q_XC E Cn px) args s cells slots (fun q => E.1 ≤ q)) κ pc L ([vl z]) X :=
  fun H locs ls hH hS hL => vq_ret (W.lret B.1.1 B.1.2.1 B.2.1 (fun t ht hW => ⟨⟨_, κ, X, rfl, hp, by rw [ht]; exact hH⟩, hS.F ht⟩) hS.2.2 d B.2.2.1)
/-- thrown, and not caught here -/
theorem x_throwX (B : x_B p s m args meth c cc own nL ret E) {z : Int} {ci b : Nat} {rC : vw_C} (hκ : κ z = some (.inl (ci, b))) (hcl : x_cl[ci]? = some rC) (hn : rC.1 = Cn) (hxt : ∀ x ∈ c.exceptionTable.toList, False) (hp : px z κ X) (d : decode cc pc = .ok (.athrow, 1)) : x_G p l e R s m args below meth c nL E cells slots (vq_MQ below (x_QK E post) (q_XC E Cn px) args s cells slots (fun q => E.1 ≤ q)) κ pc L (x_rf E z :: st) X := by
  intro H locs ls hH hS hL
  obtain ⟨ha, ⟨r, hr, cell, q1, q2, q3, q4⟩, -⟩ := hH.2 z _ hκ
  cases hcl.symm.trans hr
  rw [x_rf_pos E ha]
  have q2' : cell.cls = E.2.2.1.1 ci := q2
  exact vx_athrow B.1.1 B.1.2.1 d (vq_out (E := Cn) (fun x hx => (hxt x hx).elim) B.2.2.1 q1 q3 (by rw [q2', ← hn]; exact (B.2.2.2.1.1.1 ci _ hcl).2.1) (fun t ht hW => ⟨z, κ, X, rfl, ha, rfl, hp, by rw [ht]; exact hH, hS.F ht⟩) hS.2.2 (Nat.le_refl _) (Nat.le_refl _))
/-- thrown by a callee, over this frame -/
def x_GX (p : Program) (l : Launch) (e : Env) (R : Room) (s : State) (m : MethodId) (args : Array Value) (below : List Frame) (meth : Method) (c : Code) (nL : Nat) (E : x_E) (cells slots : Nat) (Q : State → Prop) (κ : x_Ka) (pc : Nat) (L : List (Option Value)) (st : List Value) (X : x_X) (Cn : String) (z : Int) : Prop :=
  ∀ (H : Heap) (locs : List Loc) (ls : Array Slot) (ce : Cell), x_H E κ X H → va_S (fun q => E.1 ≤ q) s.heap H locs → x_L ls nL L → H[E.1 + z.toNat]? = some ce → ce.vm = .none → s.vm.findClass Cn = some ce.cls → vx_W p l e R s m args below meth c H locs cells slots Q (F0 m pc ls st) (E.1 + z.toNat)
theorem x_GX.wide {cells' slots' : Nat} {z : Int} (h1 : cells ≤ cells') (h2 : slots ≤ slots') (k : x_GX p l e R s m args below meth c nL E cells' slots' Q κ pc L st X Cn z) : x_GX p l e R s m args below meth c nL E cells slots Q κ pc L st X Cn z := fun H locs ls ce hH hS hL a1 a2 a3 => vx_widen h1 h2 (k H locs ls ce hH hS hL a1 a2 a3)
/-- it goes on to the caller -/
theorem x_outX (B : x_B p s m args meth c cc own nL ret E) {z : Int} (hz : 0 ≤ z) (hxt : ∀ x ∈ c.exceptionTable.toList, False) (hp : px z κ X) : x_GX p l e R s m args below meth c nL E cells slots (vq_MQ below (x_QK E post) (q_XC E Cn px) args s cells slots (fun q => E.1 ≤ q)) κ pc L st X Cn z := by
  intro H locs ls ce hH hS hL a1 a2 a3
  exact vq_out (E := Cn) (fun x hx => (hxt x hx).elim) B.2.2.1 a1 a2 a3 (fun t ht hW => ⟨z, κ, X, rfl, hz, rfl, hp, by rw [ht]; exact hH, hS.F ht⟩) hS.2.2 (Nat.le_refl _) (Nat.le_refl _)
/-- caught by the row x of this method's table -/
theorem x_catchX (B : x_B p s m args meth c cc own nL ret E) {z : Int} {x : ExceptionTableEntry} {name : String} (hz : 0 ≤ z) (hsplit : c.exceptionTable.toList = [x]) (hx : covers x pc = true) (h0 : x.catchType ≠ 0) (hlink : Cond.classLink own x.catchType name ∈ lw_all) (hcast : Cond.castable Cn name ∈ lw_tbl) {tgt : Nat} (ht : x.handlerPc = tgt) (k : x_G p l e R s m args below meth c nL E cells slots Q κ tgt L ([x_rf E z]) X) : x_GX p l e R s m args below meth c nL E cells slots Q κ pc L st X Cn z := by
  intro H locs ls ce hH hS hL a1 a2 a3
  have kk := k H locs ls hH hS hL
  rw [x_rf_pos E hz, ← ht] at kk
  exact vx_catch B.1.2.2.2.1 [] x [] hsplit (fun z hz => nomatch hz) hx h0 (B.1.2.2.2.2 _ hlink) (va_Nw.use (A := args) rfl (B.2.2.2.1.2.1 _ hcast rfl)) a1 a2 a3 kk
def x_RnX (p : Program) (l : Launch) (e : Env) (R : Room) (s : State) (m : MethodId) (args : Array Value) (below : List Frame) (meth : Method) (c : Code) (nL : Nat) (E : x_E) (cells slots : Nat) (κ : x_Ka) (pc : Nat) (L : List (Option Value)) (st : List Value) (X : x_X) (mc ms : Nat) (rest : List Value) (Cn : String) (post : Option Value → x_Ka → x_X → Prop) (px : Int → x_Ka → x_X → Prop) : Prop :=
  ∀ (H : Heap) (locs : List Loc) (ls : Array Slot), x_H E κ X H → va_S (fun q => E.1 ≤ q) s.heap H locs → x_L ls nL L → ∃ a, vq_Run p l e R s m args below meth c H locs cells slots mc ms (F0 m pc ls st) rest (x_QK E post a) (q_XC E Cn px) (fun q => E.1 ≤ q)
theorem x_goX {mc ms : Nat} {rest : List Value} (hr : x_RnX p l e R s m args below meth c nL E cells slots κ pc L st X mc ms rest Cn post px) (kx : ∀ (z : Int) (κ' : x_Ka) (X' : x_X), 0 ≤ z → px z κ' X' → x_GX p l e R s m args below meth c nL E (cells + mc) (slots + ms) Q κ' pc L rest X' Cn z) (kk : ∀ (v : Option Value) (κ' : x_Ka) (X' : x_X), post v κ' X' → x_G p l e R s m args below meth c nL E (cells + mc) (slots + ms) Q κ' (pc + 3) L (v.toList ++ rest) X') : x_G p l e R s m args below meth c nL E cells slots Q κ pc L (st) X := by
  intro H locs ls hH hS hL T hT XX
  obtain ⟨a, hr⟩ := hr H locs ls hH hS hL
  have hSx : ∀ {st₀ t T' : State} {L' : List Loc}, st₀.heap = H → T'.heap = t.heap → (∀ q ∈ L', E.1 ≤ q.base) → va_F (fun q => E.1 ≤ q) st₀ t → va_S (fun q => E.1 ≤ q) s.heap T'.heap (locs ++ L') := by
    intro st₀ t T' L' h0 e1 hLc hF
    obtain ⟨hz, hk⟩ := hF
    rw [h0] at hz hk
    refine ⟨Nat.le_trans hS.1 (by rw [e1]; exact hz), fun q h1 h2 => ?_, fun q hq => ?_⟩
    · rw [e1, hk q (Nat.lt_of_lt_of_le h1 hS.1) h2]
      exact hS.2.1 q h1 h2
    · rcases List.mem_append.mp hq with h | h
      · exact hS.2.2 q h
      · exact hLc q h
  rcases hr T hT XX with ⟨v, st₀, t, T', L', h0, XX', hLc, e1, e2, ⟨⟨v', κ', X', hv, hp, hb⟩, hF⟩, stp⟩ | ⟨q, st₀, t, T', L', C9, ce, h0, XX', hLc, e1, e2, ⟨z, κ', X', hC, hz, hq, hp, hb, hF⟩, hce, hcv, hcl, stp⟩
  · cases hv
    obtain ⟨t2, a1, b1⟩ := kk v κ' X' hp T'.heap (locs ++ L') ls (by rw [e1]; exact hb) (hSx h0 e1 hLc hF) hL T' rfl XX'
    exact ⟨t2, stp t2 a1, b1⟩
  · subst hC
    subst hq
    obtain ⟨t2, a1, b1⟩ := kx z κ' X' hz hp T'.heap (locs ++ L') ls ce (by rw [e1]; exact hb) (hSx h0 e1 hLc hF) hL (by rw [e1]; exact hce) hcv hcl T' rfl XX'
    exact ⟨t2, stp.trans a1, b1⟩
theorem x_rVX (B : x_B p s m args meth c cc own nL ret E) {y : MethodName} {idx lv mc ms n maxL : Nat} {bytes : ByteArray} {rt : Option FieldType} {As rest : List Value} {a : Int} {ci b : Nat} {rC : vw_C} (hκ : κ a = some (.inl (ci, b))) (hcl : x_cl[ci]? = some rC) (hM : x_MetX l y bytes maxL rt lv mc ms E κ X (x_rf E a :: As) Cn post px) (hw : GoodIn lw_all (wsV own idx rC.1 y (ws_ y bytes maxL rt))) (hd : y.cls = rC.1 ∧ y.cls ≠ "java/lang/invoke/MethodHandle" ∧ y.cls ≠ "java/lang/invoke/VarHandle" ∧ (parseMethodDescriptor y.desc).map (fun d => d.parameters.length) = some n) (hR : lv + 1 + 1 ≤ R.frames ∧ 8 + (maxL + 11) + 64 * (lv + 1) ≤ R.locals) (hf : cells + mc ≤ R.cells ∧ slots + ms ≤ R.slots) (hn : As.length = n) (hst : st = As.reverse ++ x_rf E a :: rest) (hW : (rest.map fun v => v.category).sum ≤ 8) (d : decode cc pc = .ok (.invokevirtual idx, 3)) : x_RnX p l e R s m args below meth c nL E cells slots κ pc L st X mc ms rest Cn post px := by
  intro H locs ls hH hS hL
  have ha := (hH.2 a _ hκ).1
  refine ⟨_, vq_runV (As := As) (rest := rest) (b := E.1 + a.toNat) B.1 hM (cwV n B.1.2.2.2.2 hw rfl rfl rfl hd hR) ⟨x_blind _ _ _ _, x_recv B hκ hcl hH, fun U hU hW => ⟨by rw [x_rf_pos E ha], by rw [hU]; exact hH, B.2.2.2.1.at hS hU hW, by rw [hU]; exact Nat.le_trans B.2.2.2.2 hS.1⟩⟩ rfl hn hL.1 (by rw [hst, x_rf_pos E ha]) (lv_room hW) d hf⟩
/-- Throwable's two statics -/
theorem x_getUS (B : x_B p s m args meth c cc own nL ret E) {idx : Nat} (hl : Cond.fieldLink own idx "java/lang/Throwable" "UNASSIGNED_STACK" "[Ljava/lang/StackTraceElement;" ∈ lw_all) (d : decode cc pc = .ok (.getstatic idx, 3)) (k : ∀ z : Int, x_G p l e R s m args below meth c nL E cells slots Q κ (pc + 3) L (x_rf E z :: st) X) : x_G p l e R s m args below meth c nL E cells slots Q κ pc L (st) X := by
  obtain ⟨z, hz⟩ := B.2.2.2.1.2.2.2.2.1
  exact fun H locs ls hH hS hL => va_gets B.1.1 B.1.2.1 hz hS B.1.2.2.2.1 (B.1.2.2.2.2 _ hl) (fun _ h => h) d (k z H locs ls hH hS hL)
theorem x_getSS (B : x_B p s m args meth c cc own nL ret E) {idx : Nat} (hl : Cond.fieldLink own idx "java/lang/Throwable" "SUPPRESSED_SENTINEL" "Ljava/util/List;" ∈ lw_all) (d : decode cc pc = .ok (.getstatic idx, 3)) (k : ∀ z : Int, x_G p l e R s m args below meth c nL E cells slots Q κ (pc + 3) L (x_rf E z :: st) X) : x_G p l e R s m args below meth c nL E cells slots Q κ pc L (st) X := by
  obtain ⟨z, hz⟩ := B.2.2.2.1.2.2.2.2.2.1
  exact fun H locs ls hH hS hL => va_gets B.1.1 B.1.2.1 hz hS B.1.2.2.2.1 (B.1.2.2.2.2 _ hl) (fun _ h => h) d (k z H locs ls hH hS hL)
end XQ
