theorem ao_moved {u U : State} {t : FieldType} (hal : u.vm.Alike U.vm) (h : (Cond.arrayOver (.array t)).before #[] u = true) : (Cond.arrayOver (.array t)).before #[] U = true := by
  simp only [Cond.before, Cond.holds, Cond.value] at h ⊢
  rw [hal.findClass]
  cases hf : u.vm.findClass (FieldType.array t).toString with
  | none => rw [hf] at h; simp at h
  | some comp =>
    rw [hf] at h
    simp only [Option.bind_some] at h ⊢
    rw [hal.findIdx_congr _ (fun _ _ _ _ => rfl)]
    generalize hF : (u.vm.classes.findIdx? _) = fi at h ⊢
    cases fi with
    | none => simp at h
    | some c =>
      simp only [Option.bind_some] at h ⊢
      cases hk : u.vm.classes[c]? with
      | none => rw [hk] at h; simp at h
      | some k =>
        obtain ⟨k', hk', ek⟩ := hal.2.2 _ _ hk
        rw [hk] at h
        rw [hk', hal.findClass]
        have ekind : k'.kind = k.kind := by rw [ek]
        simp only [Option.map_some] at h ⊢
        rw [ekind]
        exact h
theorem outerC_eq (c : ClassId) (N h0 : Nat) : ∀ i, Jvm.Free.Multi.outerC c N h0 i = { cls := c, slots := (Jvm.Free.Multi.outerC c N h0 i).slots, vm := .none }
  | 0 => rfl
  | i + 1 => by
    have ih := outerC_eq c N h0 i
    show (Jvm.Free.Multi.outerC c N h0 i).setSlot i (.ref (h0 + 1 + i)) = { cls := c, slots := ((Jvm.Free.Multi.outerC c N h0 i).setSlot i (.ref (h0 + 1 + i))).slots, vm := .none }
    rw [ih]
    rfl
def x_AO (U : State) : Prop := (Cond.arrayOver (.array .long)).before #[] U = true ∧ (Cond.arrayOver (.array .int)).before #[] U = true
theorem x_AO.moved {u U : State} (hvm : u.vm.Alike U.vm) (h : x_AO u) : x_AO U := ⟨ao_moved hvm h.1, ao_moved hvm h.2⟩
def x_SA (E : x_E) (κ : x_Ka) (X : x_X) (U : State) : Prop := x_S E κ X U ∧ x_AO U
theorem x_blindA (E : x_E) (κ : x_Ka) (X : x_X) (av : List Value) : FrameBlind (va_Pc av (x_SA E κ X)) := fun a U g mk q => ⟨q.1, ⟨q.2.1.1, q.2.1.2.1.call g mk a, q.2.1.2.2⟩, q.2.2.moved (u := U) (U := U.calling g mk a) (Vm.Alike.refl U.vm)⟩
/-- a contract whose start knows the classes of arrays of arrays -/
def x_MetA (l : Launch) (y : MethodName) (bytes : ByteArray) (maxL : Nat) (ret : Option FieldType) (lv mc ms : Nat) (E : x_E) (κ : x_Ka) (X : x_X) (av : List Value) (κ' : x_Ka) (post : Option Value → x_X → Prop) : Prop :=
  Met l y (ws_ y bytes maxL ret) (x_rm lv mc ms) (va_Pc av (x_SA E κ X)) (x_Q E κ' post) mc ms (fun q => E.1 ≤ q)
theorem x_MetA.of {l : Launch} {y : MethodName} {bytes : ByteArray} {maxL : Nat} {ret : Option FieldType} {lv mc ms : Nat} {E : x_E} {κ : x_Ka} {X : x_X} {av : List Value} {κ' : x_Ka} {post : Option Value → x_X → Prop} {own : String} (q : List (Bool × Value)) (L : List (Option Value)) (k : Nat) (hy : plainName y.cls = true) (hown : y.cls = own) (hq : q.map Prod.snd = av) (hc : x_cats q) (hL : x_ls q ++ List.replicate k none = L) (hn : L.length = maxL)
    (body : ∀ p e s m args below meth c, args = av.toArray → meth.name = y.name → x_B p s m args meth c bytes own maxL ret E → x_AO s → x_G p l e (x_rm lv mc ms) s m args below meth c maxL E 0 0 (MQ below (x_Q E κ' post) args s mc ms (fun q => E.1 ≤ q)) κ 0 L [] X) : x_MetA l y bytes maxL ret lv mc ms E κ X av κ' post := by
  refine Met.ofW (cc := bytes) (maxL := maxL) (ret := ret) hy rfl ?_
  intro p e s m args below meth c s₁ B hml hv
  obtain ⟨hargs, ⟨hH, hKn, hE⟩, hAO⟩ := hv
  have hts := atoms_spec (ws := ws_ y bytes maxL ret) B.pre
  have hts : ∀ w ∈ lw_all, w.before args s = true := fun w h => hts w (List.mem_cons_of_mem _ h)
  have h := body p e s m args below meth c hargs (name_of_methodNamed B.named B.method).1 ⟨⟨B.exec, B.bytes, hml, by rw [← hown]; exact findClass_of_methodNamed B.named, hts⟩, B.returns, B.notSynchronized, hKn, hE⟩ hAO
  rw [hargs, lg_entry_eq]
  rw [hargs] at h
  exact h s.heap [] _ hH va_S.rf (x_entry hq hc hL hn)
def x_km (κ : x_Ka) (a n : Int) (t t2 : Nat) (k : Int) : x_Ka := fun b => if b = a then some (.inr (t, n)) else if a + 1 ≤ b ∧ b ≤ a + n then some (.inr (t2, k)) else κ b
def x_mn (X : x_X) (n : Int) : x_X := fun b i => if b = -1 ∧ i = 0 then X (-1) 0 + 1 + n else if b = X (-1) 0 then X (-1) 0 + 1 + 1 * i else if X (-1) 0 + 1 ≤ b ∧ b ≤ X (-1) 0 + n then 0 else X b i
section XM
variable {p : Program} {l : Launch} {e : Env} {R : Room} {s : State} {m : MethodId} {args : Array Value} {below : List Frame} {meth : Method} {c : Code} {nL : Nat} {E : x_E} {cells slots : Nat} {Q : State → Prop} {κ : x_Ka}
variable {cc : ByteArray} {own : String} {ret : Option FieldType} {pc : Nat} {L : List (Option Value)} {st : List Value} {X : x_X}
variable {κ' : x_Ka} {post : Option Value → x_X → Prop}
theorem x_rIA (B : x_B p s m args meth c cc own nL ret E) (hAO : x_AO s) {y : MethodName} {idx lv mc ms n maxL : Nat} {bytes : ByteArray} {As rest : List Value} {a : Int} (ha : 0 ≤ a) (hM : x_MetA l y bytes maxL none lv mc ms E κ X (x_rf E a :: As) κ' post) (hl : Cond.methodLink own idx y ∈ lw_all) (hq1 : Cond.instanceMethod y ∈ lw_all) (hq3 : Cond.initialized y.cls ∈ lw_all) (hq4 : Cond.code y bytes maxL none ∈ lw_all) (hy1 : y.name = "<init>") (hd : y.cls ≠ "java/lang/invoke/MethodHandle" ∧ y.cls ≠ "java/lang/invoke/VarHandle" ∧ (parseMethodDescriptor y.desc).map (fun d => d.parameters.length) = some n) (hR : lv + 1 + 1 ≤ R.frames ∧ 8 + (maxL + 11) + 64 * (lv + 1) ≤ R.locals) (hf : cells + mc ≤ R.cells ∧ slots + ms ≤ R.slots) (hn : As.length = n) (hst : st = As.reverse ++ x_rf E a :: rest) (hW : (rest.map fun v => v.category).sum ≤ 8) (d : decode cc pc = .ok (.invokespecial idx, 3)) : x_Rn p l e R s m args below meth c nL E cells slots κ pc L (st) X mc ms rest κ' post := by
  intro H locs ls hH hS hL
  have hts := B.1.2.2.2.2
  refine ⟨_, va_runI (As := As) (rest := rest) (b := E.1 + a.toNat) B.1 hM (cwI n hts (lw_meth hq4) rfl rfl rfl (hts _ hq3) (hts _ hl) (hts _ hq1) hy1 hd hR) ⟨x_blindA _ _ _ _, fun U hU hW => ⟨by rw [x_rf_pos E ha], ⟨by rw [hU]; exact hH, B.2.2.2.1.at hS hU hW, by rw [hU]; exact Nat.le_trans B.2.2.2.2 hS.1⟩, hAO.moved hW.alike⟩⟩ rfl hn hL.1 (by rw [hst, x_rf_pos E ha]) (lv_room hW) d hf⟩
theorem x_rINA (B : x_B p s m args meth c cc own nL ret E) (hAO : x_AO s) {y : MethodName} {idx lv mc ms n maxL : Nat} {bytes : ByteArray} {As rest : List Value} {a : Int} (ha : 0 ≤ a) (hM : x_MetA l y bytes maxL none lv mc ms E κ X (x_rf E a :: As) κ' post) (hl : Cond.methodLinkNest own idx y "NextLoad" ∈ lw_tbl) (hq1 : Cond.instanceMethod y ∈ lw_all) (hq3 : Cond.initialized y.cls ∈ lw_all) (hq4 : Cond.code y bytes maxL none ∈ lw_all) (hy1 : y.name = "<init>") (hd : y.cls ≠ "java/lang/invoke/MethodHandle" ∧ y.cls ≠ "java/lang/invoke/VarHandle" ∧ (parseMethodDescriptor y.desc).map (fun d => d.parameters.length) = some n) (hR : lv + 1 + 1 ≤ R.frames ∧ 8 + (maxL + 11) + 64 * (lv + 1) ≤ R.locals) (hf : cells + mc ≤ R.cells ∧ slots + ms ≤ R.slots) (hn : As.length = n) (hst : st = As.reverse ++ x_rf E a :: rest) (hW : (rest.map fun v => v.category).sum ≤ 8) (d : decode cc pc = .ok (.invokespecial idx, 3)) : x_Rn p l e R s m args below meth c nL E cells slots κ pc L (st) X mc ms rest κ' post := by
  intro H locs ls hH hS hL
  have hts := B.1.2.2.2.2
  refine ⟨_, va_runIN (As := As) (rest := rest) (b := E.1 + a.toNat) B.1 hM ⟨va_cnB n hts (lw_meth hq4) rfl rfl rfl (B.2.2.2.1.2.1 _ hl rfl) (hts _ hq3) hd hR, hy1, hts _ hq1⟩ ⟨x_blindA _ _ _ _, fun U hU hW => ⟨by rw [x_rf_pos E ha], ⟨by rw [hU]; exact hH, B.2.2.2.1.at hS hU hW, by rw [hU]; exact Nat.le_trans B.2.2.2.2 hS.1⟩, hAO.moved hW.alike⟩⟩ rfl hn hL.1 (by rw [hst, x_rf_pos E ha]) (lv_room hW) d hf⟩
theorem x_mnew (B : x_B p s m args meth c cc own nL ret E) {t t2 : Nat} {ty : FieldType} {idx : Nat} {n k : Int} (hAO : (Cond.arrayOver (.array ty)).before #[] s = true) (hl : Cond.classLink own idx ("[" ++ (FieldType.array ty).toString) ∈ lw_all) (hac : Cond.arrayClass ty ∈ lw_all) (ht : (x_tyl E)[x_ac t]? = some (E.2.2.2 (x_ac t), .array ty)) (hat : x_at t = 2) (haf : x_af t = some (1, 1, .inr (t2, k))) (ht2 : (x_tyl E)[x_ac t2]? = some (E.2.2.2 (x_ac t2), ty)) (hra : va_RA s (E.2.2.2 (x_ac t2)) ty → s.vm.findClass ("[" ++ ty.toString) = some (E.2.2.2 (x_ac t2))) (hts2 : (FieldType.array ty).toString = "[" ++ ty.toString) (hdf : defaultValue ty = x_sv E (x_at t2) 0) (hrg : x_rg (x_at t2) 0) (haf2 : x_af t2 = none) (hft : fits ty (defaultValue ty) = true) (hdd : (defaultValue ty).isDefault = true) (hn : 0 ≤ n ∧ n ≤ 1000) (hk : 0 ≤ k ∧ k ≤ 100000) (hb : k.toNat * componentBytes ty ≤ 536870912) (hcells : cells + (1 + n.toNat) ≤ R.cells) (hslots : slots + (n.toNat + n.toNat * k.toNat) ≤ R.slots) (d : decode cc pc = .ok (.multianewarray idx 2, 4))
    (kk : 0 ≤ X (-1) 0 → (∀ b kd, κ b = some kd → b < X (-1) 0) → x_G p l e R s m args below meth c nL E (cells + 1 + n.toNat) (slots + n.toNat + n.toNat * k.toNat) Q (x_km κ (X (-1) 0) n t t2 k) (pc + 4) L (x_rf E (X (-1) 0) :: st) (x_mn X n)) : x_G p l e R s m args below meth c nL E cells slots Q κ pc L (vi k :: vi n :: st) X := by
  intro H locs ls hH hS hL T hT XX
  have h0 : 0 ≤ X (-1) 0 := by have h1 := hH.1; have h2 := B.2.2.2.2; have h3 := hS.1; omega
  have hlow : ∀ b kd, κ b = some kd → b < X (-1) 0 := fun b kd q => (hH.low q).2
  have hts := B.1.2.2.2.2
  have cn : (xI n).toNatClampNeg = n.toNat := xI_clamp ⟨by omega, by omega⟩
  have ck : (xI k).toNatClampNeg = k.toNat := xI_clamp ⟨by omega, by omega⟩
  have ng : ∀ z : Int, 0 ≤ z → z ≤ 100000 → ¬ xI z < 0 := fun z z1 z2 h => by rw [show (0 : Int32) = xI 0 from rfl, xI_lt ⟨by omega, by omega⟩ (by decide)] at h; omega
  obtain ⟨vm₁, cA, comp, hW, hfA, hfC, -, -, X1, stp⟩ := XX.multianewarray2F B.1.1 (own := own) (index := idx) (ty := ty) B.1.2.2.2.1 (hts _ hl) hAO (hts _ hac) (g := F0 m pc ls (vi k :: vi n :: st)) rfl (by show decode c.code pc = _; rw [B.1.2.1]; exact d) (n := xI n) (k := xI k) (rest := st) rfl (ng n hn.1 (by omega)) (ng k hk.1 hk.2) (by rw [cn]; omega) (by rw [ck]; exact hb) (by rw [ck]; omega) hft hdd (by rw [cn]; exact hcells) (by rw [cn, ck]; exact hslots)
  rw [cn, ck] at X1 stp
  obtain ⟨f1, f2, f3, f4⟩ := Jvm.Free.Multi.fill_facts (T.setVm vm₁) cA comp n.toNat k.toNat (defaultValue ty) n.toNat
  have fo := fun (a : Addr) (ha : a < T.heap.size) => Jvm.Free.Multi.fill_old (T.setVm vm₁) cA comp n.toNat k.toNat (defaultValue ty) (a := a) ha n.toNat
  have fi := fun (j : Nat) (hj : j < n.toNat) => Jvm.Free.Multi.fill_inner (T.setVm vm₁) cA comp n.toNat k.toNat (defaultValue ty) n.toNat j hj
  obtain ⟨o1, o2, o3⟩ := Jvm.Free.Multi.outerC_facts cA n.toNat T.heap.size n.toNat
  have os := fun (j : Nat) (hj : j < n.toNat) => Jvm.Free.Multi.outerC_slot cA n.toNat T.heap.size n.toNat j hj
  have hz : T.heap.size = E.1 + (X (-1) 0).toNat := by rw [hT]; have := hH.1; omega
  have eA : cA = E.2.2.2 (x_ac t) := Option.some.inj (hfA.symm.trans (B.2.2.2.1.1.2 _ _ ht).2)
  have eC : comp = E.2.2.2 (x_ac t2) := by
    have h9 := hra (B.2.2.2.1.1.2 _ _ ht2).2
    rw [← hts2] at h9
    exact Option.some.inj (hfC.symm.trans h9)
  have hout : Jvm.Free.Multi.outerC cA n.toNat T.heap.size n.toNat = arrV (E.2.2.2 (x_ac t)) n.toNat (fun j => x_sv E (x_at t) (x_mn X n (X (-1) 0) j)) := by
    have hs : (Jvm.Free.Multi.outerC cA n.toNat T.heap.size n.toNat).slots = (arrV (E.2.2.2 (x_ac t)) n.toNat (fun j => x_sv E (x_at t) (x_mn X n (X (-1) 0) j))).slots := by
      refine Array.ext_getElem? fun j => ?_
      by_cases hj : j < n.toNat
      · rw [os j hj, if_pos hj, arrV_read _ _ hj, hat]
        have e1 : x_mn X n (X (-1) 0) j = X (-1) 0 + 1 + 1 * j := by unfold x_mn; rw [if_neg (by omega), if_pos rfl]
        rw [e1]
        show some (Value.ref _) = some (x_rf E _)
        have e9 : T.heap.size + 1 + j = E.1 + (X (-1) 0 + 1 + 1 * (j : Int)).toNat := by rw [hz]; omega
        rw [x_rf_pos E (by omega), e9]
      · rw [Array.getElem?_eq_none (by rw [o3]; omega), Array.getElem?_eq_none (by rw [arrV_size]; omega)]
    rw [outerC_eq, hs, eA]
    rfl
  have hin : Jvm.Free.Multi.innerC comp k.toNat (defaultValue ty) = arrV (E.2.2.2 (x_ac t2)) k.toNat (fun _ => x_sv E (x_at t2) 0) := by
    unfold Jvm.Free.Multi.innerC
    rw [eC, hdf, arrV_new]
  have hH' : x_H E (x_km κ (X (-1) 0) n t t2 k) (x_mn X n) (Jvm.Free.Multi.fill (T.setVm vm₁) cA comp n.toNat k.toNat (defaultValue ty) n.toNat).heap := by
    refine ⟨?_, fun b kd hb => ?_⟩
    · have e1 : x_mn X n (-1) 0 = X (-1) 0 + 1 + n := by unfold x_mn; rw [if_pos ⟨rfl, rfl⟩]
      rw [e1, f1]
      show ((T.heap.size + 1 + n.toNat : Nat) : Int) = _
      omega
    · unfold x_km at hb
      by_cases q1 : b = X (-1) 0
      · rw [if_pos q1] at hb
        cases hb
        subst q1
        refine ⟨h0, ?_, fun j j1 j2 => by rw [hat]; trivial, ⟨hn.1, by omega⟩, fun q hq j j1 j2 => ?_⟩
        · rw [← hz, ← hout]; exact f2
        · rw [haf] at hq; cases hq
          show x_mn X n (X (-1) 0) j = X (-1) 0 + 1 + 1 * j
          unfold x_mn; rw [if_neg (by omega), if_pos rfl]
      · rw [if_neg q1] at hb
        by_cases q2 : X (-1) 0 + 1 ≤ b ∧ b ≤ X (-1) 0 + n
        · rw [if_pos q2] at hb
          cases hb
          have e2 : x_mn X n b = fun _ => 0 := by funext j; unfold x_mn; rw [if_neg (by omega), if_neg q1, if_pos q2]
          rw [e2]
          have hj : (b - X (-1) 0 - 1).toNat < n.toNat := by omega
          have h9 := fi _ hj
          rw [hin] at h9
          have e3 : E.1 + b.toNat = T.heap.size + 1 + (b - X (-1) 0 - 1).toNat := by omega
          refine ⟨by omega, ?_, fun j j1 j2 => hrg, hk, fun q hq => by rw [haf2] at hq; cases hq⟩
          rw [e3]
          exact h9
        · rw [if_neg q2] at hb
          obtain ⟨r1, r2⟩ := hH.2 b kd hb
          have hlt := hlow b kd hb
          have e2 : x_mn X n b = X b := by funext j; unfold x_mn; rw [if_neg (by omega), if_neg q1, if_neg q2]
          rw [e2]
          refine ⟨r1, r2.kept ?_⟩
          rw [fo _ (by rw [hT]; exact r2.lt), ← hT]
          rfl
  have hS' : va_S (fun q => E.1 ≤ q) s.heap (Jvm.Free.Multi.fill (T.setVm vm₁) cA comp n.toNat k.toNat (defaultValue ty) n.toNat).heap locs := by
    refine ⟨?_, fun q q1 q2 => ?_, hS.2.2⟩
    · rw [f1]; show s.heap.size ≤ T.heap.size + 1 + n.toNat; rw [hT]; have := hS.1; omega
    · rw [fo q (by rw [hT]; exact Nat.lt_of_lt_of_le q1 hS.1)]
      show T.heap[q]? = _
      rw [hT]; exact hS.2.1 q q1 q2
  obtain ⟨t9, a1, b1⟩ := kk h0 hlow _ locs ls hH' hS' hL _ rfl X1
  refine ⟨t9, stp t9 ?_, b1⟩
  rw [x_rf_pos E h0, ← hz] at a1
  exact a1
end XM
