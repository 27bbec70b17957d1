/-! ===== contracts of methods whose class the tables don't call initialised (the bodies of the two results): the same walk, entered without asking it ===== -/
def x_MetN (l : Launch) (y : MethodName) (bytes : ByteArray) (maxL : Nat) (ret : Option FieldType) (lv mc ms : Nat) (E : x_E) (κ : x_Ka) (X : x_X) (av : List Value) (κ' : x_Ka) (post : Option Value → x_X → Prop) : Prop :=
  ∀ (p : Program) (e : Env), l.admits e → FairCas e.choices → FairClock e.choices → ∀ (s : State) (m : MethodId) (args : Array Value) (below : List Frame),
    s.frames = .invoking m args :: below → s.goesOn → s.methodNamed? y = some m → s.hears m below = true → s.hasRoom e.platform (x_rm lv mc ms) = true → (∀ w ∈ ws_ y bytes maxL ret, w.before args s = true) → va_Pc av (x_S E κ X) args s →
    ∃ n o, (∀ k, k < n → Within (stepsAlone p.tables e k s) below) ∧ (stepsAlone p.tables e n s).status = .running ∧ Ended (stepsAlone p.tables e n s) below o ∧ x_Q E κ' post args s o (stepsAlone p.tables e n s) ∧ ∃ L, FrameEnd s o (stepsAlone p.tables e n s) L mc ms ∧ ∀ q ∈ L, E.1 ≤ q.base
theorem x_MetN.of {l : Launch} {y : MethodName} {bytes : ByteArray} {maxL : Nat} {ret : Option FieldType} {lv mc ms : Nat} {E : x_E} {κ : x_Ka} {X : x_X} {av : List Value} {κ' : x_Ka} {post : Option Value → x_X → Prop} {own : String} (q : List (Bool × Value)) (L : List (Option Value)) (k : Nat) (hy : plainName y.cls = true) (hown : y.cls = own) (hq : q.map Prod.snd = av) (hc : x_cats q) (hL : x_ls q ++ List.replicate k none = L) (hn : L.length = maxL)
    (body : ∀ p e s m args below meth c, args = av.toArray → meth.name = y.name → x_B p s m args meth c bytes own maxL ret E → x_G p l e (x_rm lv mc ms) s m args below meth c maxL E 0 0 (MQ below (x_Q E κ' post) args s mc ms (fun q => E.1 ≤ q)) κ 0 L [] X) : x_MetN l y bytes maxL ret lv mc ms E κ X av κ' post := by
  intro p e ha hcas hclk s m args below hf hgo hname hhears hroom hts0 hv
  obtain ⟨hrun, hable, halone⟩ := hgo
  obtain ⟨hargs, hH, hKn, hE⟩ := hv
  obtain ⟨meth, c, hmeth, hcode, hbytes, hlocals, hret, hlocks, -⟩ := Cond.code_spec hname (hts0 _ List.mem_cons_self)
  have hts : ∀ w ∈ lw_all, w.before args s = true := fun w h => hts0 w (List.mem_cons_of_mem _ h)
  have hcur := State.cur_lt_of_frames hf
  have hf1 : (s.setFrames (.java (entryFrame m args maxL) :: below)).frames = .java (entryFrame m args maxL) :: below := State.frames_setFrames _ hcur
  have ht1 := State.topJava?_of_frames hf1
  have hplain : (s.setFrames (.java (entryFrame m args maxL) :: below)).plainMethod m := State.plainMethod.of_named (s := s) (plainFor_of_name hy) hname hmeth
  have hAt : At (s.setFrames (.java (entryFrame m args maxL) :: below)) m c below :=
    ⟨by rw [ht1]; rfl, ⟨[], by rw [hf1]; rfl⟩, hrun, by simpa using hable, by simpa using halone, by rw [State.code?_eq]; simp [State.setFrames, hmeth, hcode], hplain⟩
  have hstep : (stepThread p.tables e s).1 = (s.setFrames (.java (entryFrame m args maxL) :: below)).setTop (entryFrame m args maxL) := by
    have hfull : e.platform.stackFull (s.setFrames below).me (s.setFrames below).frames c.maxLocals = false := by
      obtain ⟨-, h1, -, h2⟩ := State.hasRoom_stack hroom
      rw [hf, List.length_cons] at h1
      rw [State.localsInUse_invoking hf hmeth hcode] at h2
      have hw := stackUse_le_stackWeight below
      rw [State.frames_setFrames _ hcur]
      exact Platform.stackFull_eq_false (by rw [State.stackLimits_setFrames]; omega) (by rw [State.stackLimits_setFrames]; omega)
    rw [stepThread_invoking hf, (doInvoke_java (s := s.setFrames below) (e := e) (meth := meth) (code := c) hmeth hcode hlocks hfull).1, State.setTop_self ht1]
    simp only [State.pushFrame, State.frames_setFrames _ hcur, State.setFrames_setFrames, hlocals, entryFrame]
  obtain ⟨t, ht, -⟩ := State.frames_cons hf
  have hsame := (State.sameButNew.refl s ht).setFrames (.java (entryFrame m args maxL) :: below) hcur
  have X₀ : Stand p l e (x_rm lv mc ms) s m args below meth c (s.setFrames (.java (entryFrame m args maxL) :: below)) [] 0 0 :=
    ⟨ha, hcas, hclk, hf, hroom, hhears, hmeth, hcode, hAt, by rw [hf1]; rfl, State.WarmedH.refl s, by rw [State.stackLimits_setFrames], by rw [State.stackBytes_setFrames], hsame⟩
  have h := body p e s m args below meth c hargs (name_of_methodNamed hname hmeth).1 ⟨⟨by cases p <;> rfl, hbytes, hlocals, by rw [← hown]; exact findClass_of_methodNamed hname, hts⟩, hret, hlocks, hKn, hE⟩
  have hW : W p l e (x_rm lv mc ms) s m args below meth c s.heap [] 0 0 (MQ below (x_Q E κ' post) args s mc ms (fun q => E.1 ≤ q)) (entryFrame m args maxL) := by
    rw [hargs, lg_entry_eq]
    rw [hargs] at h
    exact h s.heap [] _ hH va_S.rf (x_entry hq hc hL hn)
  obtain ⟨s₂, hs, o, hr, he, hp⟩ := hW (s.setFrames (.java (entryFrame m args maxL) :: below)) rfl X₀
  obtain ⟨n, hn2, hw⟩ := Steps.head (tb := p.tables) (e := e) ⟨hrun, hable, halone⟩ ⟨[.invoking m args], hf, by simp, by simp⟩ (hstep ▸ hs)
  exact ⟨n, o, hw, hn2 ▸ hr, hn2 ▸ he, hn2 ▸ hp⟩
section XN
variable {p : Program} {l : Launch} {e : Env} {R : Room} {s : State} {sargs : Array Value} {below : List Frame} {E : x_E} {κ κ' : x_Ka} {X : x_X} {post : Option Value → x_X → Prop}
theorem x_backN {y : MethodName} {bytes : ByteArray} {maxL lv mc ms : Nat} {ret : Option FieldType} {av : List Value} (hN : x_MetN l y bytes maxL ret lv mc ms E κ X av κ' post) (hts : ∀ w ∈ lw_all, w.before sargs s = true) (hq : Cond.code y bytes maxL ret ∈ lw_all) (hR : lv + 1 + 1 ≤ R.frames ∧ 8 + (maxL + 11) + 64 * (lv + 1) ≤ R.locals) :
    Back l R p e below s sargs y 3 8 (PreOf R mc ms (va_Pc av (x_S E κ X))) (PostOf (x_Q E κ' post) mc ms (fun q => E.1 ≤ q)) := by
  intro m meth c A g ig mk a XX hg hsize hdg hW hn hp
  obtain ⟨U, Ls, c0, s0⟩ := A
  obtain ⟨h4, h5, hPc⟩ := hp
  dsimp only [Pt.U, Pt.locs, Pt.cells, Pt.slots] at XX hn h4 h5 hPc ⊢
  have hws : ∀ w ∈ ws_ y bytes maxL ret, w.before a U = true := fun w h => pay_in hts (lw_meth hq) w h a U XX.warmed
  obtain ⟨methY, cY, hmY, hcY, -, hlY, -, -, -, -⟩ := Cond.code_spec hn (hws _ List.mem_cons_self)
  have h : At U g.method c below := by rw [hg]; exact XX.here
  have hroom := XX.room_calling (g := g) (R' := x_rm lv mc ms) (args' := a) hsize hmY hcY hR.1 (by rw [hlY]; have h1 := hR.2; have h2 : (x_rm lv mc ms).locals = 64 * (lv + 1) := rfl; omega) h4 h5
  have hcode : (U.calling g mk a).code? g.method = some c := by
    have := h.code
    rw [State.code?_eq] at this ⊢
    simpa [State.calling, State.pushFrame, State.setFrames] using this
  have hf' : (U.calling g mk a).frames = .invoking mk a :: (U.setTop g).frames := by
    rw [State.frames_calling h.top g mk a, State.frames_setTop' g h.top]
  have hgo : (U.calling g mk a).goesOn := ⟨h.running, by simpa [State.calling] using h.runnable, by simpa [State.calling] using h.alone⟩
  have hhears : (U.calling g mk a).hears mk (U.setTop g).frames = true := by
    rw [State.frames_setTop' g h.top]
    simp [State.hears, hcode, hdg, Except.toOption]
  obtain ⟨n, o, hw, hr, hend, hq', L, hfe, hL⟩ := hN p e XX.admits XX.cas XX.clock (U.calling g mk a) mk a (U.setTop g).frames hf' hgo hn hhears hroom (fun w hw => by rw [State.calling_eq h.top, Cond.before_setFrames]; exact hws w hw) (x_blind _ _ _ _ a U g mk hPc)
  obtain ⟨mid, hmid⟩ := h.above
  have hfr : (U.setTop g).frames = (.java g :: mid) ++ below := by rw [State.frames_setTop' g h.top, hmid]; rfl
  obtain ⟨t0, ht0⟩ : ∃ t, (U.setTop g).threads[(U.setTop g).cur]? = some t := by
    obtain ⟨t, ht, -⟩ := State.frames_cons hfr
    exact ⟨t, ht⟩
  have hstep : (stepThread p.tables e (U.calling g mk a)).1 = (doInvoke e (U.setTop g) [] mk a).1 := by
    rw [stepThread_invoking hf', doInvoke_state e (U.setTop g) []]
    show (doInvoke e (((U.setTop g).pushFrame (.invoking mk a)).setFrames (U.setTop g).frames) [] mk a).1 = _
    rw [State.pushFrame, State.setFrames_setFrames, State.setFrames_self ht0, doInvoke_state]
  have hsteps : Steps p.tables e below (doInvoke e (U.setTop g) [] mk a).1 (stepsAlone p.tables e n (U.calling g mk a)) := by
    cases n with
    | zero => exact absurd ⟨[.invoking mk a], hf', by simp, by simp⟩ hend.not_within
    | succ j =>
      refine ⟨j, by rw [stepsAlone_succ _ hgo, hstep], fun i hi => ?_⟩
      have := hw (i + 1) (by omega)
      rw [stepsAlone_succ _ hgo, hstep, hfr] at this
      exact this.weaken
  generalize stepsAlone p.tables e n (U.calling g mk a) = s₂ at hend hq' hfe hsteps
  rw [State.frames_setTop' g h.top] at hend
  obtain ⟨⟨v, rfl⟩, hW₂, e2, q2, q3, q4, q5, q6⟩ := id hfe
  have e3 : s₂ = ({ (U.calling g mk a).setFrames s₂.frames with heap := s₂.heap, slotsUsed := s₂.slotsUsed } : State).setVm s₂.vm := by
    have : s₂ = ({ s₂ with vm := (U.calling g mk a).vm } : State).setVm s₂.vm := rfl
    rw [e2] at this
    exact this
  obtain ⟨c₂, i₂, len₂, hc₂, hd₂, hf₂⟩ := hend
  have hW' : U.WarmedH s₂.vm := hW₂
  have hcc : c₂ = c := by
    have h1 : s₂.code? g.method = U.code? g.method := by rw [State.code?_eq, State.code?_eq, hW'.alike.method?]
    exact Option.some.inj (hc₂.symm.trans (h1.trans h.code))
  subst hcc
  have hlen : len₂ = 3 := by rw [hdg] at hd₂; cases hd₂; rfl
  subst hlen
  obtain ⟨g₀, hg0⟩ := Option.isSome_iff_exists.mp h.top
  obtain ⟨r, hr0⟩ := State.topJava?_eq_some.mp hg0
  have hs₂ : s₂ = (({ U with heap := s₂.heap, slotsUsed := s₂.slotsUsed } : State).setVm s₂.vm).setTop { g with pc := g.pc + 3, stack := v.toList ++ g.stack } := by
    have hr' : (({ U with heap := s₂.heap, slotsUsed := s₂.slotsUsed } : State).setVm s₂.vm).frames = .java g₀ :: r := hr0
    refine e3.trans ?_
    rw [hf₂, State.calling_eq h.top, State.setFrames_setFrames, State.setTop_of_frames _ hr', hr0]
    rfl
  have hsame : U.sameButNew ({ U with heap := s₂.heap, slotsUsed := s₂.slotsUsed } : State) L mc ms := by
    refine ⟨?_, q2, q3, q4, q5, q6⟩
    obtain ⟨t, ht, -⟩ := State.frames_cons hr0
    show ({ U with heap := s₂.heap, slotsUsed := s₂.slotsUsed } : State) = { U.setFrames U.frames with heap := s₂.heap, slotsUsed := s₂.slotsUsed }
    rw [State.setFrames_self ht]
  subst hg
  refine ⟨v, ⟨(({ U with heap := s₂.heap, slotsUsed := s₂.slotsUsed } : State).setVm s₂.vm), Ls ++ L, c0 + mc, s0 + ms⟩,
    ⟨XX.admits, XX.cas, XX.clock, XX.frames, XX.room, XX.hears, XX.method, XX.code, (XX.here.setHeapUsed s₂.heap s₂.slotsUsed).setVm hW'.alike, XX.tail, State.WarmedH.trans XX.warmed hW', XX.limits, XX.bytes, XX.same.trans (hsame.setVm s.vm)⟩,
    ⟨g, mk, s₂, L, rfl, rfl, hq', rfl, hL, rfl, rfl⟩, ?_⟩
  show Steps p.tables e below _ ((({ U with heap := s₂.heap, slotsUsed := s₂.slotsUsed } : State).setVm s₂.vm).setTop { g with pc := g.pc + 3, stack := v.toList ++ g.stack })
  rw [← hs₂]
  exact hsteps
variable {m : MethodId} {meth : Method} {c : Code} {nL : Nat} {cells slots : Nat} {args : Array Value} {cc : ByteArray} {own : String} {rt0 : Option FieldType} {pc : Nat} {L : List (Option Value)} {st : List Value}
theorem x_rAN (B : x_B p s m args meth c cc own nL rt0 E) {y x : MethodName} {idx lv mc ms n maxL : Nat} {bytes : ByteArray} {rt : Option FieldType} {As rest : List Value} {a : Int} {C owner : String} (hrc : x_Rc s E κ X a C) (hM : x_MetN l y bytes maxL rt lv mc ms E κ X (x_rf E a :: As) κ' post) (hl : Cond.methodLink own idx x ∈ lw_all) (hsm : Cond.sameMethod x.cls owner x.name x.desc ∈ lw_all) (hsel : Cond.selects C x y ∈ lw_all) (hin : Cond.instanceMethod y ∈ lw_all) (hcd : Cond.code y bytes maxL rt ∈ lw_all) (hz : Cond.declares ⟨owner, x.name, x.desc⟩ ∈ lw_tbl) (hd : owner ≠ "java/lang/invoke/MethodHandle" ∧ owner ≠ "java/lang/invoke/VarHandle" ∧ (parseMethodDescriptor x.desc).map (fun d => d.parameters.length) = some n) (hR : lv + 1 + 1 ≤ R.frames ∧ 8 + (maxL + 11) + 64 * (lv + 1) ≤ R.locals) (hf : cells + mc ≤ R.cells ∧ slots + ms ≤ R.slots) (hn : As.length = n) (hst : st = As.reverse ++ x_rf E a :: rest) (hW : (rest.map fun v => v.category).sum ≤ 8) (d : decode cc pc = .ok (.invokevirtual idx, 3)) : x_Rn p l e R s m args below meth c nL E cells slots κ pc L (st) X mc ms rest κ' post := by
  intro H locs ls hH hS hL
  obtain ⟨adr, ha, cellB, hcB, hoB, hclB⟩ := hrc H locs hH hS
  have hts := B.1.2.2.2.2
  refine ⟨(x_rf E a :: As).toArray, fun T hT XX => ?_⟩
  obtain ⟨v, vm₁, ⟨U', l2, c2, s2⟩, hW₁, X', ⟨g', mk, t, L', e1, e2, hq, h1, hL', h2, h3⟩, stp⟩ := va_callVU XX B.1.1 (C := C) (bytes := bytes) (maxL := maxL) (ret := rt) B.1.2.2.2.1 (hts _ hl) (hts _ hsm) (va_Decl.abs (B.2.2.2.1.2.1 _ hz rfl)) ⟨hd.1, hd.2.1⟩ (hts _ hsel) (hts _ hin) (hts _ hcd) (x_backN hM hts hcd hR) (by rw [hT]; exact hcB) hoB hclB (g := F0 m pc ls st) rfl (hL.1.trans B.1.2.2.1.symm) (argsL := As) (rest := rest) (fun sig h => by have h2 := hd.2.2; rw [h] at h2; exact hn.trans (Option.some.inj h2).symm) (by rw [hst, ha]) (lv_room hW) (by rw [B.1.2.1]; exact d)
    (fun vm₁ hW₁ => ⟨hf.1, hf.2, by rw [ha], by show x_H E κ X T.heap; rw [hT]; exact hH, B.2.2.2.1.at (U := T.setVm vm₁) hS hT hW₁, by show E.1 ≤ T.heap.size; rw [hT]; exact Nat.le_trans B.2.2.2.2 hS.1⟩)
  dsimp only [Pt.U, Pt.locs, Pt.cells, Pt.slots] at X' e1 e2 h1 h2 h3 stp
  subst h1; subst h2; subst h3
  rw [← ha] at hq
  exact ⟨v, (T.setVm vm₁).calling g' mk (x_rf E a :: As).toArray, t, U', L', by rw [ha]; exact hT, X', hL', e1, e2, by rw [ha] at hq ⊢; exact hq, stp⟩
end XN
