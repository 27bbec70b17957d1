section XSU
variable {p : Program} {l : Launch} {e : Env} {R : Room} {s : State} {m : MethodId} {args : Array Value} {below : List Frame} {meth : Method} {c : Code} {nL : Nat} {E : x_E} {cells slots : Nat} {Q : State → Prop} {κ : x_Ka}
variable {cc : ByteArray} {own : String} {ret : Option FieldType} {pc : Nat} {L : List (Option Value)} {st : List Value} {X : x_X}
variable {κ' : x_Ka} {post : Option Value → x_X → Prop}
theorem lw_SU {own : String} {idx : Nat} {y : MethodName} {b : ByteArray} {L : Nat} {r : Option FieldType} (h1 : Cond.methodLink own idx y ∈ lw_all) (h2 : Cond.sameMethod y.cls y.cls y.name y.desc ∈ lw_all) (h3 : Cond.superclass own y.cls ∈ lw_all) (h4 : Cond.instanceMethod y ∈ lw_all) (h5 : Cond.initialized y.cls ∈ lw_all) (h6 : Cond.code y b L r ∈ lw_all) : GoodIn lw_all (va_wsSU own idx y (ws_ y b L r)) := by
  refine lw_app ?_ (lw_meth h6)
  intro w hw
  simp only [List.mem_cons, List.not_mem_nil, or_false] at hw
  rcases hw with rfl | rfl | rfl | rfl | rfl <;> assumption
theorem x_rSU (B : x_B p s m args meth c cc own nL ret E) {y : MethodName} {idx lv mc ms n maxL : Nat} {bytes : ByteArray} {rt : Option FieldType} {As rest : List Value} {a : Int} {ci b : Nat} {rC : vw_C} (hκ : κ a = some (.inl (ci, b))) (hcl : x_cl[ci]? = some rC) (hM : x_Met l y bytes maxL rt lv mc ms E κ X (x_rf E a :: As) κ' post) (hw : GoodIn lw_all (va_wsSU own idx y (ws_ y bytes maxL rt))) (hd : y.name ≠ "<init>" ∧ (parseMethodDescriptor y.desc).map (fun d => d.parameters.length) = some n) (hR : lv + 1 + 1 ≤ R.frames ∧ 8 + (maxL + 11) + 64 * (lv + 1) ≤ R.locals) (hf : cells + mc ≤ R.cells ∧ slots + ms ≤ R.slots) (hn : As.length = n) (hst : st = As.reverse ++ x_rf E a :: rest) (hW : (rest.map fun v => v.category).sum ≤ 8) (d : decode cc pc = .ok (.invokespecial idx, 3)) : x_Rn p l e R s m args below meth c nL E cells slots κ pc L (st) X mc ms rest κ' post := by
  intro H locs ls hH hS hL
  have ha := (hH.2 a _ hκ).1
  refine ⟨_, va_runSU (As := As) (rest := rest) (b := E.1 + a.toNat) (B.2.2.2.1.1.1 ci _ hcl).2 B.1 hM (va_cwSU n B.1.2.2.2.2 hw rfl rfl rfl hd hR) ⟨x_blind _ _ _ _, x_recv B hκ hcl hH, fun U hU hW => ⟨by rw [x_rf_pos E ha], by rw [hU]; exact hH, B.2.2.2.1.at hS hU hW, by rw [hU]; exact Nat.le_trans B.2.2.2.2 hS.1⟩⟩ rfl hn hL.1 (by rw [hst, x_rf_pos E ha]) (lv_room hW) d hf⟩
end XSU
/-! ===== freely ===== -/
/-- the first greatest of V from x on, n of them -/
def f_sc (V : Int → Int) : Nat → Int → Int → Int → Int × Int
  | 0, _, most, at_ => (most, at_)
  | n + 1, x, most, at_ => if V x > most then f_sc V n (x + 1) (V x) x else f_sc V n (x + 1) most at_
def f_mx (V : Int → Int) (least : Int) : Int × Int := f_sc V (41 - least).toNat least (-1) 0
def f_w (O : Int → Int → Int → Int) (A : Int → Int) : Nat → Int → Int → Int → Int → Int → Int → Int
  | 0, _, _, _, _, _, _ => 0
  | k + 1, t, sum, tr, fl, best, least => if tr = 3 ∨ least > 40 then (if best = 0 then A 0 else if t = 2 then A (sum + best) else f_w O A k (t + 1) (sum + best) 0 0 0 1) else (f_mx (fun x => p_mix (O t x fl) (f_w O A k t sum (tr + 1) fl x (x + 1)) (f_w O A k t sum (tr + 1) (fl + 1) best x)) least).1
/-- worth of a try at x -/
def f_v (O : Int → Int → Int → Int) (A : Int → Int) (t sum tr fl best x : Int) : Int := p_mix (O t x fl) (f_w O A 12 t sum (tr + 1) fl x (x + 1)) (f_w O A 12 t sum (tr + 1) (fl + 1) best x)
/-- the load that is best -/
def f_d (O : Int → Int → Int → Int) (A : Int → Int) (t sum tr fl best least : Int) : Int := (f_mx (f_v O A t sum tr fl best) least).2
theorem f_w_m {O : Int → Int → Int → Int} {A : Int → Int} : ∀ (k : Nat) (t sum tr fl best least : Int), (0 ≤ t ∧ t ≤ 2) → (0 ≤ tr ∧ tr ≤ 3) → 4 * (2 - t) + (3 - tr) < k → f_w O A k t sum tr fl best least = f_w O A (k + 1) t sum tr fl best least
  | 0, t, sum, tr, fl, best, least, h1, h2, h3 => by omega
  | k + 1, t, sum, tr, fl, best, least, h1, h2, h3 => by
    conv => lhs; unfold f_w
    conv => rhs; unfold f_w
    by_cases q : tr = 3 ∨ least > 40
    · rw [if_pos q, if_pos q]
      by_cases q2 : best = 0
      · rw [if_pos q2, if_pos q2]
      · rw [if_neg q2, if_neg q2]
        by_cases q3 : t = 2
        · rw [if_pos q3, if_pos q3]
        · rw [if_neg q3, if_neg q3]
          exact f_w_m k _ _ _ _ _ _ (by omega) (by omega) (by omega)
    · rw [if_neg q, if_neg q]
      refine congrArg (fun V : Int → Int => (f_mx V least).1) (funext fun x => ?_)
      rw [f_w_m k _ _ _ _ _ _ h1 (by omega) (by omega), f_w_m k _ _ _ _ _ _ h1 (by omega) (by omega)]
theorem f_wE {O : Int → Int → Int → Int} {A : Int → Int} {t sum tr fl best least : Int} (h1 : 0 ≤ t ∧ t ≤ 2) (h2 : 0 ≤ tr ∧ tr ≤ 3) : f_w O A 12 t sum tr fl best least = if tr = 3 ∨ least > 40 then (if best = 0 then A 0 else if t = 2 then A (sum + best) else f_w O A 12 (t + 1) (sum + best) 0 0 0 1) else (f_mx (f_v O A t sum tr fl best) least).1 := by
  conv => lhs; unfold f_w
  by_cases q : tr = 3 ∨ least > 40
  · rw [if_pos q, if_pos q]
    by_cases q2 : best = 0
    · rw [if_pos q2, if_pos q2]
    · rw [if_neg q2, if_neg q2]
      by_cases q3 : t = 2
      · rw [if_pos q3, if_pos q3]
      · rw [if_neg q3, if_neg q3]
        exact f_w_m 11 _ _ _ _ _ _ (by omega) (by omega) (by omega)
  · rw [if_neg q, if_neg q]
    refine congrArg (fun V : Int → Int => (f_mx V least).1) (funext fun x => ?_)
    unfold f_v
    rw [f_w_m 11 _ _ _ _ _ _ h1 (by omega) (by omega), f_w_m 11 _ _ _ _ _ _ h1 (by omega) (by omega)]
theorem f_sc_r {V : Int → Int} : ∀ (n : Nat) (x most at_ : Int), (∀ y, x ≤ y → y < x + n → 0 ≤ V y ∧ V y ≤ 1000000) → (-1 ≤ most ∧ most ≤ 1000000) → (-1 ≤ (f_sc V n x most at_).1 ∧ (f_sc V n x most at_).1 ≤ 1000000) ∧ (0 ≤ most ∨ 0 < n → 0 ≤ (f_sc V n x most at_).1) ∧ ((f_sc V n x most at_).2 = at_ ∨ (x ≤ (f_sc V n x most at_).2 ∧ (f_sc V n x most at_).2 < x + n)) ∧ (most < 0 → 0 < n → x ≤ (f_sc V n x most at_).2 ∧ (f_sc V n x most at_).2 < x + n)
  | 0, x, most, at_, hV, hm => by unfold f_sc; exact ⟨hm, fun h => by omega, Or.inl rfl, fun _ h => by omega⟩
  | n + 1, x, most, at_, hV, hm => by
    have hx := hV x (by omega) (by omega)
    unfold f_sc
    by_cases q : V x > most
    · rw [if_pos q]
      have ih := f_sc_r n (x + 1) (V x) x (fun y y1 y2 => hV y (by omega) (by omega)) ⟨by omega, hx.2⟩
      exact ⟨ih.1, fun _ => ih.2.1 (Or.inl hx.1), Or.inr (by have := ih.2.2.1; omega), fun _ _ => by have := ih.2.2.1; omega⟩
    · rw [if_neg q]
      have ih := f_sc_r n (x + 1) most at_ (fun y y1 y2 => hV y (by omega) (by omega)) hm
      exact ⟨ih.1, fun _ => ih.2.1 (Or.inl (by omega)), by have := ih.2.2.1; omega, fun h => by omega⟩
theorem f_mx_r {V : Int → Int} {least : Int} (hl : least ≤ 40) (hV : ∀ y, least ≤ y → y ≤ 40 → 0 ≤ V y ∧ V y ≤ 1000000) : (0 ≤ (f_mx V least).1 ∧ (f_mx V least).1 ≤ 1000000) ∧ (least ≤ (f_mx V least).2 ∧ (f_mx V least).2 ≤ 40) := by
  have h := f_sc_r (V := V) (41 - least).toNat least (-1) 0 (fun y y1 y2 => hV y y1 (by omega)) (by omega)
  have h2 := h.2.1 (Or.inr (by omega))
  have h3 := h.2.2.2 (by omega) (by omega)
  unfold f_mx
  exact ⟨⟨h2, h.1.2⟩, h3.1, by omega⟩
theorem f_w_r {O : Int → Int → Int → Int} {A : Int → Int} (hO : ∀ t x f, 0 ≤ t → t ≤ 2 → 0 ≤ f → 0 ≤ O t x f ∧ O t x f ≤ 1000) (hA : ∀ v, 0 ≤ v → v ≤ 120 → 0 ≤ A v ∧ A v ≤ 1000000) : ∀ (k : Nat) (t sum tr fl best least : Int), (0 ≤ t ∧ t ≤ 2) → (0 ≤ sum ∧ sum ≤ 40 * t) → (0 ≤ best ∧ best ≤ 40) → 0 ≤ fl → 0 ≤ least → 0 ≤ f_w O A k t sum tr fl best least ∧ f_w O A k t sum tr fl best least ≤ 1000000
  | 0, _, _, _, _, _, _, _, _, _, _, _ => by simp [f_w]
  | k + 1, t, sum, tr, fl, best, least, h1, h2, h3, h4, h5 => by
    unfold f_w
    by_cases q : tr = 3 ∨ least > 40
    · rw [if_pos q]
      by_cases q2 : best = 0
      · rw [if_pos q2]; exact hA _ (by omega) (by omega)
      · rw [if_neg q2]
        by_cases q3 : t = 2
        · rw [if_pos q3]; exact hA _ (by omega) (by omega)
        · rw [if_neg q3]; exact f_w_r hO hA k _ _ _ _ _ _ (by omega) (by omega) (by omega) (by omega) (by omega)
    · rw [if_neg q]
      exact (f_mx_r (by omega) (fun y y1 y2 => (p_mix_r (hO _ _ _ h1.1 h1.2 h4) (f_w_r hO hA k _ _ _ _ _ _ h1 h2 (by omega) h4 (by omega)) (f_w_r hO hA k _ _ _ _ _ _ h1 h2 h3 (by omega) (by omega))).2)).1
def f_cl (tr fl best least : Int) : Int := ((3 * tr + fl) * 41 + best) * 42 + least
theorem f_cl_r {tr fl best least : Int} (h1 : 0 ≤ tr ∧ tr ≤ 2) (h2 : 0 ≤ fl ∧ fl ≤ tr) (h3 : 0 ≤ best ∧ best ≤ 40) (h4 : 0 ≤ least ∧ least ≤ 41) : 0 ≤ f_cl tr fl best least ∧ f_cl tr fl best least < 15498 := by unfold f_cl; omega
theorem f_cl_i {tr fl best least tr2 fl2 best2 least2 : Int} (h2 : 0 ≤ fl ∧ fl ≤ 2) (h3 : 0 ≤ best ∧ best ≤ 40) (h4 : 0 ≤ least ∧ least ≤ 41) (g2 : 0 ≤ fl2 ∧ fl2 ≤ 2) (g3 : 0 ≤ best2 ∧ best2 ≤ 40) (g4 : 0 ≤ least2 ∧ least2 ≤ 41) (e : f_cl tr fl best least = f_cl tr2 fl2 best2 least2) : tr = tr2 ∧ fl = fl2 ∧ best = best2 ∧ least = least2 := by
  unfold f_cl at e
  have e1 : least = least2 := by omega
  have e2 : best = best2 := by omega
  have e3 : fl = fl2 := by omega
  exact ⟨by omega, e3, e2, e1⟩
/-- what the free looker keeps -/
def f_I (X : x_X) (W D : Int → Int → Int → Int → Int → Int → Int) : Prop :=
  (∀ t, 0 ≤ t → t ≤ 2 → ∀ k, 0 ≤ k → k < 15498 → X (38 + 11 + 1 + 1 * t) k ≤ X 38 8 + 120) ∧
  (∀ t sum tr fl best least, (0 ≤ t ∧ t ≤ 2) → (0 ≤ sum ∧ sum ≤ 40 * t) → (0 ≤ tr ∧ tr ≤ 2) → (0 ≤ fl ∧ fl ≤ tr) → (0 ≤ best ∧ best ≤ 40) → (1 ≤ least ∧ least ≤ 40) → X (38 + 11 + 1 + 1 * t) (f_cl tr fl best least) = X 38 8 + sum → X (38 + 3 + 1 + 1 * t) (f_cl tr fl best least) = W t sum tr fl best least ∧ X (38 + 7 + 1 + 1 * t) (f_cl tr fl best least) = D t sum tr fl best least) ∧
  (∀ t sum, (0 ≤ t ∧ t ≤ 2) → (0 ≤ sum ∧ sum ≤ 40 * t) → X (38 + 2) (121 * t + sum) = 1 → X (38 + 1) (121 * t + sum) = W t sum 0 0 0 1)
def g_fr (X Y : x_X) : Prop := ∀ a, (a < 39 ∨ 52 < a) → Y a = X a
theorem g_fr.rf (X : x_X) : g_fr X X := fun _ _ => rfl
theorem g_fr.trans {X Y Z : x_X} (h : g_fr X Y) (h2 : g_fr Y Z) : g_fr X Z := fun a ha => (h2 a ha).trans (h a ha)
theorem g_fr.up {X Y : x_X} (h : g_fr X Y) {a i z : Int} (ha : 39 ≤ a ∧ a ≤ 52) : g_fr X (x_up Y a i z) := fun b hb => by rw [x_up_o Y (by omega)]; exact h b hb
/-- what the free looker stands on -/
def f_H (κ : x_Ka) (X : x_X) (O : Int → Int → Int → Int) (A : Int → Int) : Prop := p_H κ X 38 A ∧ (88 ≤ X 38 0 ∧ (0 ≤ X 38 8 ∧ X 38 8 ≤ 1000000)) ∧ ∀ t x f, 0 ≤ t → t ≤ 2 → l_odds X (X 38 0) t x f = O t x f
theorem f_H.fr {κ : x_Ka} {X Y : x_X} {O : Int → Int → Int → Int} {A : Int → Int} (h : f_H κ X O A) (hf : g_fr X Y) : f_H κ Y O A := by
  obtain ⟨hp, h88, hO⟩ := h
  have k38 := hp.k38
  obtain ⟨hT, h0, hL, hw, hti, hpl, hA⟩ := hp
  have e38 : Y 38 = X 38 := hf 38 (by omega)
  have e0 : Y 0 = X 0 := hf 0 (by omega)
  have eL : ∀ j, 0 ≤ j → j < 14 → Y (X 38 0 + j) = X (X 38 0 + j) := fun j j1 j2 => hf _ (by omega)
  have ka : ∀ (j : Nat) (q : Nat × Int × x_k), x_fx 5 j = some q → κ (x_z q 38) = some q.2.2 := fun j q hq => hT.1 38 5 k38 j q hq
  have k39 : κ 39 = some (.inr (1, 363)) := ka 3 (1, 1, .inr (1, 363)) rfl
  have k40 : κ 40 = some (.inr (2, 363)) := ka 4 (1, 2, .inr (2, 363)) rfl
  have k41 : κ 41 = some (.inr (12, 3)) := ka 5 (1, 3, .inr (12, 3)) rfl
  have k45 : κ 45 = some (.inr (13, 3)) := ka 6 (1, 7, .inr (13, 3)) rfl
  have k49 : κ 49 = some (.inr (13, 3)) := ka 7 (1, 11, .inr (13, 3)) rfl
  have kw : ∀ j : Int, 0 ≤ j → j < 3 → κ (41 + 1 + 1 * j) = some (.inr (1, 15498)) := fun j j1 j2 => hT.2 41 12 3 k41 _ rfl j j1 j2
  have kl : ∀ j : Int, 0 ≤ j → j < 3 → κ (45 + 1 + 1 * j) = some (.inr (0, 15498)) := fun j j1 j2 => hT.2 45 13 3 k45 _ rfl j j1 j2
  have ks : ∀ j : Int, 0 ≤ j → j < 3 → κ (49 + 1 + 1 * j) = some (.inr (0, 15498)) := fun j j1 j2 => hT.2 49 13 3 k49 _ rfl j j1 j2
  have hAm : ∀ a k, κ a = some k → a_kd k → Y a = X a := by
    intro a k hk hd
    refine hf a ?_
    refine Decidable.byContradiction fun hn => ?_
    have hr : 39 ≤ a ∧ a ≤ 52 := by omega
    have key : ∀ k2, κ a = some k2 → ¬ a_kd k2 → False := fun k2 h2 h3 => by
      rw [h2] at hk; cases hk; exact h3 hd
    by_cases q : a = 39
    · subst q; exact key _ k39 (by unfold a_kd; simp)
    by_cases q : a = 40
    · subst q; exact key _ k40 (by unfold a_kd; simp)
    by_cases q : a = 41
    · subst q; exact key _ k41 (by unfold a_kd; simp)
    by_cases q : a = 45
    · subst q; exact key _ k45 (by unfold a_kd; simp)
    by_cases q : a = 49
    · subst q; exact key _ k49 (by unfold a_kd; simp)
    by_cases q : a ≤ 44
    · exact key _ (by have := kw (a - 42) (by omega) (by omega); rwa [show 41 + 1 + 1 * (a - 42) = a by omega] at this) (by unfold a_kd; simp)
    by_cases q : a ≤ 48
    · exact key _ (by have := kl (a - 46) (by omega) (by omega); rwa [show 45 + 1 + 1 * (a - 46) = a by omega] at this) (by unfold a_kd; simp)
    · exact key _ (by have := ks (a - 50) (by omega) (by omega); rwa [show 49 + 1 + 1 * (a - 50) = a by omega] at this) (by unfold a_kd; simp)
  have eo : ∀ t x f, 0 ≤ t → t ≤ 2 → l_odds Y (X 38 0) t x f = l_odds X (X 38 0) t x f := fun t x f t1 t2 => l_odds_c eL (by rw [e0]) ⟨t1, by omega⟩
  refine ⟨⟨hT, h0, by rw [e38]; exact hL, ?_, by rw [e0]; exact hti, ?_, by rw [e38]; exact hA.fr hAm⟩, by rw [e38]; exact h88, fun t x f t1 t2 => by rw [e38, eo t x f t1 t2]; exact hO t x f t1 t2⟩
  · rw [e38]
    intro t t1 t2
    have c := hw t t1 t2
    have e1 := eL (1 + 1 + 3 * t + 1) (by omega) (by omega)
    have e2 := eL (1 + 1 + 3 * t + 2) (by omega) (by omega)
    have e3 := eL (1 + 1 + 3 * t) (by omega) (by omega)
    rw [show X 38 0 + (1 + 1 + 3 * t + 1) = X 38 0 + 1 + 1 + 3 * t + 1 by omega] at e1
    rw [show X 38 0 + (1 + 1 + 3 * t + 2) = X 38 0 + 1 + 1 + 3 * t + 2 by omega] at e2
    rw [show X 38 0 + (1 + 1 + 3 * t) = X 38 0 + 1 + 1 + 3 * t by omega] at e3
    rw [e1, e2, e3]
    exact c
  · intro t t1 t2
    rw [e38, eL 11 (by omega) (by omega), eL 12 (by omega) (by omega), eL 13 (by omega) (by omega)]
    exact hpl t t1 t2
theorem f_H.o {κ : x_Ka} {X : x_X} {O : Int → Int → Int → Int} {A : Int → Int} (h : f_H κ X O A) : (∀ t x f, 0 ≤ t → t ≤ 2 → 0 ≤ f → 0 ≤ O t x f ∧ O t x f ≤ 1000) ∧ ∀ v, 0 ≤ v → v ≤ 120 → 0 ≤ A v ∧ A v ≤ 1000000 :=
  ⟨fun t x f t1 t2 f0 => by rw [← h.2.2 t x f t1 t2]; exact l_odds_r h.1.2.2.2.1 ⟨t1, by omega⟩ f0 h.1.2.2.2.2.1.1, fun v v1 v2 => h.1.2.2.2.2.2.2.rng v1 v2⟩
/-- the memo behind worth -/
theorem f_I.put {X : x_X} {W D : Int → Int → Int → Int → Int → Int → Int} (h : f_I X W D) {t sum tr fl best least w d : Int} (ht : 0 ≤ t ∧ t ≤ 2) (hs : 0 ≤ sum ∧ sum ≤ 40 * t) (h3 : 0 ≤ tr ∧ tr ≤ 2) (hf : 0 ≤ fl ∧ fl ≤ tr) (hb : 0 ≤ best ∧ best ≤ 40) (hl : 1 ≤ least ∧ least ≤ 40) (ew : W t sum tr fl best least = w) (ed : D t sum tr fl best least = d) :
    f_I (x_up (x_up (x_up X (38 + 11 + 1 + 1 * t) (f_cl tr fl best least) (X 38 8 + sum)) (38 + 3 + 1 + 1 * t) (f_cl tr fl best least) w) (38 + 7 + 1 + 1 * t) (f_cl tr fl best least) d) W D := by
  obtain ⟨h1, h2, h4⟩ := h
  have key : ∀ a i, x_up (x_up (x_up X (38 + 11 + 1 + 1 * t) (f_cl tr fl best least) (X 38 8 + sum)) (38 + 3 + 1 + 1 * t) (f_cl tr fl best least) w) (38 + 7 + 1 + 1 * t) (f_cl tr fl best least) d a i = if a = 38 + 7 + 1 + 1 * t ∧ i = f_cl tr fl best least then d else if a = 38 + 3 + 1 + 1 * t ∧ i = f_cl tr fl best least then w else if a = 38 + 11 + 1 + 1 * t ∧ i = f_cl tr fl best least then X 38 8 + sum else X a i := fun a i => rfl
  refine ⟨fun t' a1 a2 k k1 k2 => ?_, fun t' s' tr' fl' b' l' q1 q2 q3 q4 q5 q6 => ?_, fun t' s' q1 q2 => ?_⟩
  · rw [key, key, if_neg (by omega), if_neg (by omega), if_neg (show ¬ ((38 : Int) = 38 + 7 + 1 + 1 * t ∧ (8 : Int) = _) by omega), if_neg (show ¬ ((38 : Int) = 38 + 3 + 1 + 1 * t ∧ (8 : Int) = _) by omega), if_neg (show ¬ ((38 : Int) = 38 + 11 + 1 + 1 * t ∧ (8 : Int) = _) by omega)]
    split
    · omega
    · exact h1 t' a1 a2 k k1 k2
  · rw [key, key, key, key, if_neg (show ¬ (38 + 11 + 1 + 1 * t' = 38 + 7 + 1 + 1 * t ∧ _) by omega), if_neg (show ¬ (38 + 11 + 1 + 1 * t' = 38 + 3 + 1 + 1 * t ∧ _) by omega), if_neg (show ¬ ((38 : Int) = 38 + 7 + 1 + 1 * t ∧ (8 : Int) = _) by omega), if_neg (show ¬ ((38 : Int) = 38 + 3 + 1 + 1 * t ∧ (8 : Int) = _) by omega), if_neg (show ¬ ((38 : Int) = 38 + 11 + 1 + 1 * t ∧ (8 : Int) = _) by omega), if_neg (show ¬ (38 + 3 + 1 + 1 * t' = 38 + 7 + 1 + 1 * t ∧ _) by omega), if_neg (show ¬ (38 + 3 + 1 + 1 * t' = 38 + 11 + 1 + 1 * t ∧ _) by omega), if_neg (show ¬ (38 + 7 + 1 + 1 * t' = 38 + 3 + 1 + 1 * t ∧ _) by omega), if_neg (show ¬ (38 + 7 + 1 + 1 * t' = 38 + 11 + 1 + 1 * t ∧ _) by omega)]
    by_cases e : t' = t ∧ f_cl tr' fl' b' l' = f_cl tr fl best least
    · obtain ⟨rfl, e⟩ := e
      obtain ⟨rfl, rfl, rfl, rfl⟩ := f_cl_i (by omega) (by omega) (by omega) (by omega) (by omega) (by omega) e
      rw [if_pos ⟨rfl, rfl⟩, if_pos ⟨rfl, rfl⟩, if_pos ⟨rfl, rfl⟩]
      intro hh
      obtain rfl : sum = s' := by omega
      exact ⟨ew.symm, ed.symm⟩
    · rw [if_neg (by omega), if_neg (by omega), if_neg (by omega)]
      exact h2 t' s' tr' fl' b' l' q1 q2 q3 q4 q5 q6
  · rw [key, key, if_neg (by omega), if_neg (by omega), if_neg (by omega), if_neg (by omega), if_neg (by omega), if_neg (by omega)]
    exact h4 t' s' q1 q2
theorem f_I.putb {X : x_X} {W D : Int → Int → Int → Int → Int → Int → Int} (h : f_I X W D) {t sum w : Int} (ht : 0 ≤ t ∧ t ≤ 2) (hs : 0 ≤ sum ∧ sum ≤ 40 * t) (ew : W t sum 0 0 0 1 = w) : f_I (x_up (x_up X (38 + 1) (121 * t + sum) w) (38 + 2) (121 * t + sum) 1) W D := by
  obtain ⟨h1, h2, h4⟩ := h
  refine ⟨fun t' a1 a2 k k1 k2 => ?_, fun t' s' tr' fl' b' l' q1 q2 q3 q4 q5 q6 => ?_, fun t' s' q1 q2 => ?_⟩
  · rw [x_up_o _ (by omega), x_up_o _ (by omega), x_up_o _ (by omega), x_up_o _ (by omega)]; exact h1 t' a1 a2 k k1 k2
  · rw [x_up_o _ (by omega), x_up_o _ (by omega), x_up_o _ (by omega), x_up_o _ (by omega), x_up_o _ (by omega), x_up_o _ (by omega), x_up_o _ (by omega), x_up_o _ (by omega)]; exact h2 t' s' tr' fl' b' l' q1 q2 q3 q4 q5 q6
  · by_cases e : 121 * t' + s' = 121 * t + sum
    · obtain rfl : t' = t := by omega
      obtain rfl : s' = sum := by omega
      intro _
      rw [x_up_o _ (by omega), x_up_s]; exact ew.symm
    · rw [x_up_n _ (Or.inr e), x_up_o _ (by omega), x_up_o _ (by omega), x_up_n _ (Or.inr e)]
      exact h4 t' s' q1 q2
theorem g_fr.e38 {X Y : x_X} (h : g_fr X Y) : Y 38 = X 38 := h 38 (by omega)
