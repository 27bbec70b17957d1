def x_g (G : Int → Int) (i z : Int) : Int → Int := fun j => if j = i then z else G j
theorem x_up_f (X : x_X) (a i z : Int) : x_up X a i z a = x_g (X a) i z := by
  funext j
  unfold x_up x_g
  by_cases e : j = i
  · rw [if_pos ⟨rfl, e⟩, if_pos e]
  · rw [if_neg (fun q => e q.2), if_neg e]
theorem x_mn_sz (X : x_X) (n : Int) : x_mn X n (-1) 0 = X (-1) 0 + 1 + n := by unfold x_mn; rw [if_pos ⟨rfl, rfl⟩]
theorem x_mn_o (X : x_X) {n b : Int} (h1 : b ≠ -1) (h2 : b ≠ X (-1) 0) (h3 : ¬ (X (-1) 0 + 1 ≤ b ∧ b ≤ X (-1) 0 + n)) : x_mn X n b = X b := by
  funext j; unfold x_mn; rw [if_neg (by omega), if_neg h2, if_neg h3]
theorem x_mn_in (X : x_X) {n b : Int} (h1 : 0 ≤ X (-1) 0) (h3 : X (-1) 0 + 1 ≤ b ∧ b ≤ X (-1) 0 + n) : x_mn X n b = fun _ => 0 := by
  funext j; unfold x_mn; rw [if_neg (by omega), if_neg (by omega), if_pos h3]
theorem x_km_s (κ : x_Ka) (a n : Int) (t t2 : Nat) (k : Int) : x_km κ a n t t2 k a = some (.inr (t, n)) := by unfold x_km; rw [if_pos rfl]
theorem x_km_i {κ : x_Ka} {a n : Int} {t t2 : Nat} {k b : Int} (h : a + 1 ≤ b ∧ b ≤ a + n) : x_km κ a n t t2 k b = some (.inr (t2, k)) := by unfold x_km; rw [if_neg (by omega), if_pos h]
theorem x_km_o {κ : x_Ka} {a n : Int} {t t2 : Nat} {k b : Int} (h : b < a ∨ a + n < b) (hn : 0 ≤ n) : x_km κ a n t t2 k b = κ b := by unfold x_km; rw [if_neg (by omega), if_neg (by omega)]
section XP2
variable {p : Program} {l : Launch} {e : Env} {R : Room} {s : State} {m : MethodId} {args : Array Value} {below : List Frame} {meth : Method} {c : Code} {nL : Nat} {E : x_E} {cells slots : Nat} {Q : State → Prop} {κ : x_Ka}
variable {cc : ByteArray} {own : String} {ret : Option FieldType} {pc : Nat} {L : List (Option Value)} {st : List Value} {X : x_X}
/-- a final field put in a constructor; another field bears the same name: it may lie in the same slot -/
theorem x_putF2 (B : x_B p s m args meth c cc own nL ret E) {ci k k2 N idx : Nat} {C ref : String} {T : u_T} {ty : Nat → FieldType} {a z : Int} {v : Value} (hv : v = x_sv E (x_tg ci k) z) (htg : x_tg ci k2 = x_tg ci k) (hz : x_rg (x_tg ci k) z) (hn : narrow (ty k) v = v) (hfit : fits (ty k) v = true) (hc : x_ci ci C T N ty) (hk : k < N) (hk2 : k2 < N) (hne : k2 ≠ k) (hfin : (T k).2.2.2 = true) (hin : meth.name = "<init>") (hdecl : (T k).1 = own) (hnm : ∀ y, y < N → y ≠ k → y ≠ k2 → (T y).2.1 ≠ (T k).2.1) (hκ : κ a = some (.inl (ci, 0))) (hlk : Cond.fieldLink own idx ref (T k).2.1 (T k).2.2.1 ∈ lw_all) (hsame : ∀ x, s.fieldFound? (T k).1 (T k).2.1 (T k).2.2.1 = some x → s.fieldFound? ref (T k).2.1 (T k).2.2.1 = some x) (d : decode cc pc = .ok (.putfield idx, 3)) (kk : ∀ w, (w = X a k2 ∨ w = z) → x_G p l e R s m args below meth c nL E cells slots Q κ (pc + 3) L (st) (x_up (x_up X a k z) a k2 w)) : x_G p l e R s m args below meth c nL E cells slots Q κ pc L (v :: x_rf E a :: st) X := by
  intro H locs ls hH hS hL
  obtain ⟨ha, ⟨r, hr, cell, q1, q2, q3, q4⟩, hrg, hfx⟩ := hH.2 a _ hκ
  have hr' : r = (C, T, N) := Option.some.inj (hr.symm.trans hc.1)
  subst hr'
  obtain ⟨hSl, hfc, kC, hkC, hkind⟩ := B.2.2.2.1.1.1 ci _ hc.1
  have hts := B.1.2.2.2.2
  have hap : ∀ y, y < N → y ≠ k → y ≠ k2 → E.2.2.1.2 ci y ≠ E.2.2.1.2 ci k := by
    intro y hy hyk hyk2
    obtain ⟨_, _, _, fa, hia, ea⟩ := hSl y hy
    obtain ⟨_, _, _, fb, hib, eb⟩ := hSl k hk
    rw [← ea, ← eb]
    refine u_apart (u_lays hts hc.2.1 hy) (u_lays hts hc.2.1 hk) hia hib ?_
    rw [(State.fieldFound?_type hia (hc.2.2 y hy)).1, (State.fieldFound?_type hib (hc.2.2 k hk)).1]
    exact hnm y hy hyk hyk2
  obtain ⟨cf, kf, fi, f, hi, hsl⟩ := hSl k hk
  have hlay := hts _ (hc.2.1 _ (u_in_lay hk))
  unfold u_lay at hlay
  rw [if_pos hfin] at hlay
  have hst := (u_facts hfc hkC (u_lays hts hc.2.1 hk) hi).1
  have hcf : m.cls = cf := by
    obtain ⟨_, _, c', _, _, _, -, -, hf', -, -, -, hown2, -⟩ := Cond.laysFinal_spec hlay
    have e1 : c' = cf := by have := hi.symm.trans hf'; simp at this; exact this.1.symm
    rw [hdecl] at hown2
    rw [← e1]; exact Option.some.inj (B.1.2.2.2.1.symm.trans hown2)
  have h6 := u_fits hfc hkC hkind (Or.inr hlay) hi (hc.2.2 k hk) hn hfit
  rw [x_rf_pos E ha]
  refine W.putFinK B.1.1 B.1.2.1 B.1.2.2.2.1 (hts _ hlk) (hsame _ hi) hst hcf hin (by rw [q2]; exact h6) q1 q3 (by rw [hsl]; exact k2_hasslot (q4 k hk)) rfl rfl d fun H' e1 e2 e3 => ?_
  rw [hsl, hv] at e1
  obtain ⟨w, hw⟩ : ∃ w, w = (if E.2.2.1.2 ci k2 = E.2.2.1.2 ci k then z else X a k2) := ⟨_, rfl⟩
  have hw2 : w = X a k2 ∨ w = z := by rw [hw]; split; exact Or.inr rfl; exact Or.inl rfl
  have hok : x_ok E (.inl (ci, 0)) a (x_up (x_up X a k z) a k2 w a) H' := by
    refine ⟨⟨_, hc.1, _, e1, q2, q3, fun y hy => ?_⟩, fun y => ?_, fun hb => by cases hb⟩
    · show (cell.setSlot (E.2.2.1.2 ci k) (x_sv E (x_tg ci k) z)).slots[E.2.2.1.2 ci y]? = some (x_sv E (x_tg ci y) (x_up (x_up X a k z) a k2 w a y))
      by_cases h2 : y = k2
      · subst h2
        rw [x_up_s, hw]
        by_cases hs : E.2.2.1.2 ci y = E.2.2.1.2 ci k
        · rw [if_pos hs, hs, htg, Cell.slots_setSlot_self _ (k2_hasslot (q4 k hk))]
        · rw [if_neg hs, Cell.slots_setSlot_ne _ (Ne.symm hs)]
          exact q4 y hy
      · rw [x_up_n _ (Or.inr (show (y : Int) ≠ (k2 : Int) by omega))]
        by_cases h : y = k
        · subst h
          rw [x_up_s, Cell.slots_setSlot_self _ (k2_hasslot (q4 y hy))]
        · rw [x_up_n X (Or.inr (show (y : Int) ≠ (k : Int) by omega)), Cell.slots_setSlot_ne _ (Ne.symm (hap y hy h h2))]
          exact q4 y hy
    · by_cases h2 : y = k2
      · subst h2
        rw [x_up_s, htg]
        rcases hw2 with e | e
        · rw [e, ← htg]; exact hrg y
        · rw [e]; exact hz
      · rw [x_up_n _ (Or.inr (by omega))]
        by_cases h : y = k
        · subst h; rw [x_up_s]; exact hz
        · rw [x_up_n X (Or.inr (by omega))]; exact hrg y
  exact kk w hw2 H' _ ls (hH.set e2 e3 hκ hok (fun a' h => by rw [x_up_o _ h, x_up_o _ h])) (x_S_put hS e2 e3 (Nat.le_add_right _ _)) hL
end XP2
theorem c_J0_init {l : Launch} {E : x_E} {κ : x_Ka} {X : x_X} {a : Int} (ha : 0 ≤ a) : x_Vo l yJ0_init cJ0_init 1 1 E κ X [x_rf E a] (X) := by
  refine x_Met.of [(false, x_rf E a)] [some (x_rf E a)] 0 (by decide) rfl rfl ⟨x_cr E (a), trivial⟩ rfl rfl ?_
  intro p e s m args below meth c hargs hin B
  refine x_aload_n B dJ0_init_0 rfl ?_
  refine x_objI B (ha := by omega) q161 dJ0_init_1 (by decide) (by simp [x_cr, x_c1, x_c2]) ?_
  refine x_vret B (fun _ _ h => h) ?_ dJ0_init_4
  exact ⟨rfl, rfl⟩
theorem c_J1_init {l : Launch} {E : x_E} {κ : x_Ka} {X : x_X} {a : Int} (ha : 0 ≤ a) (hk : κ a = some (.inl (1, 0))) : x_Vo l yJ1_init cJ1_init 1 2 E κ X [x_rf E a] (x_up X a 0 0) := by
  refine x_Met.of [(false, x_rf E a)] [some (x_rf E a)] 0 (by decide) rfl rfl ⟨x_cr E (a), trivial⟩ rfl rfl ?_
  intro p e s m args below meth c hargs hin B
  refine x_aload_n B dJ1_init_0 rfl ?_
  refine x_goV (x_rI B (by omega) (c_J0_init (by omega)) q158 q159 q111 q160 rfl hd_J0_init ⟨by decide, by decide⟩ ⟨by decide, by decide⟩ rfl rfl (by simp [x_cr, x_c1, x_c2]) dJ1_init_1) ?_
  refine x_aload_n B dJ1_init_4 rfl ?_
  refine x_iconst B dJ1_init_5 ?_
  refine x_putI B (k := 0) 0 rfl rfl rfl ⟨by omega, by omega⟩ xc_1 (by decide) rfl nn_1_0 (fun _ => rfl) hk (Or.inl q168) (fun _ h => h) dJ1_init_6 ?_
  refine x_vret B (fun _ _ h => h) ?_ dJ1_init_9
  exact ⟨rfl, rfl⟩
theorem c_J2_init {l : Launch} {E : x_E} {κ : x_Ka} {X : x_X}  (hk : κ 1 = some (.inl (1, 0))) (sz : X (-1) 0 = 2) : x_Met l yJ2_init cJ2_init 2 none 3 1 6 E κ X [x_rf E 1, vi 6] (x_ku (x_ku κ 2 (.inr (4, 6))) 1 (.inl (1, 1))) (fun v_ Y_ => v_ = none ∧ Y_ = (x_up (x_nw (x_up X 1 0 0) (fun _ => -1)) 1 1 2)) := by
  refine x_Met.of [(false, x_rf E 1), (false, vi 6)] [some (x_rf E 1), some (vi 6)] 0 (by decide) rfl rfl ⟨x_cr E (1), rfl, trivial⟩ rfl rfl ?_
  intro p e s m args below meth c hargs hin B
  refine x_aload_n B dJ2_init_0 rfl ?_
  refine x_goV (x_rI B (by omega) (c_J1_init (by omega) (by assumption)) q155 q156 q112 q157 rfl hd_J1_init ⟨by decide, by decide⟩ ⟨by decide, by decide⟩ rfl rfl (by simp [x_cr, x_c1, x_c2]) dJ2_init_1) ?_
  have e1 : x_up X 1 0 0 (-1) 0 = 2 := by rw [x_up_o _ (by omega)]; exact sz
  refine x_iload_n B dJ2_init_4 rfl ?_
  refine x_if_le B (tgt := 19) dJ2_init_5 (by decide) ⟨by omega, by omega⟩ (fun h_5 => (by exfalso; omega)) (fun h_5 => ?_)
  refine x_aload_n B dJ2_init_8 rfl ?_
  refine x_iload_n B dJ2_init_9 rfl ?_
  refine x_newq B (t := 4) q162 q163 rfl rfl rfl ⟨by omega, by omega⟩ (by decide) (by decide) dJ2_init_10 (fun z_10 n_10 => ?_)
  rw [e1] at n_10 ⊢
  have hk := x_ku_le (kd := .inr (4, 6)) n_10 _ _ hk
  refine x_putA B (k := 1) 1 rfl rfl rfl xc_1 (by decide) rfl nn_1_1 (fun h => absurd h (by decide)) hk (Or.inl q166) (fun _ h => h) dJ2_init_13 ?_
  refine x_goto B (tgt := 60) dJ2_init_16 (by decide) ?_
  refine x_rip B (a := 1) (ci := 1) hk (fun j q hq => ?_) ?_
  · match j, hq with
    | 0, hq => cases hq
    | 1, hq => cases hq; show (x_up (x_nw (x_up X 1 0 0) (fun _ => -1)) 1 1 2) 1 1 = 2; exact x_up_s _ _ _ _
    | 2, hq => cases hq
    | j + 3, hq => cases (show x_fx 1 (j + 3) = none from rfl).symm.trans hq
  refine x_wide (cells' := 1) (slots' := 6) (by omega) (by omega) ?_
  refine x_vret B (fun _ _ h => h) ?_ dJ2_init_60
  exact ⟨rfl, rfl⟩
theorem c_X4_init_P {l : Launch} {E : x_E} {κ : x_Ka} {X : x_X} {a : Int} (ha : 0 ≤ a) (hk : κ a = some (.inl (4, 0))) : x_Met l yX4_init cX4_init 2 none 1 0 0 E κ X [x_rf E a, x_rf E 0] κ (fun v_ Y_ => v_ = none ∧ ∃ w_, (w_ = X a 3 ∨ w_ = 0) ∧ Y_ = x_up (x_up X a 2 0) a 3 w_) := by
  refine x_Met.of [(false, x_rf E a), (false, x_rf E 0)] [some (x_rf E a), some (x_rf E 0)] 0 (by decide) rfl rfl ⟨x_cr E (a), x_cr E (0), trivial⟩ rfl rfl ?_
  intro p e s m args below meth c hargs hin B
  refine x_aload_n B dX4_init_0 rfl ?_
  refine x_aload_n B dX4_init_1 rfl ?_
  refine x_putF2 B (ci := 4) (k := 2) (k2 := 3) (z := 0) rfl rfl trivial (x_rfn E _ 0).1 (x_rfn E _ 0).2 xc_4 (by decide) (by decide) (by decide) rfl hin rfl (by decide) hk q280 (fun _ h => h) dX4_init_2 (fun w_2 hw_2 => ?_)
  refine x_aload_n B dX4_init_5 rfl ?_
  refine x_objI B (ha := by omega) q274 dX4_init_6 (by decide) (by simp [x_cr, x_c1, x_c2]) ?_
  refine x_vret B (fun _ _ h => h) ?_ dX4_init_9
  exact ⟨rfl, w_2, hw_2, rfl⟩
theorem c_X4_init_F {l : Launch} {E : x_E} {κ : x_Ka} {X : x_X} {a : Int} (ha : 0 ≤ a) (hk : κ a = some (.inl (5, 0))) : x_Met l yX4_init cX4_init 2 none 1 0 0 E κ X [x_rf E a, x_rf E 0] κ (fun v_ Y_ => v_ = none ∧ ∃ w_, (w_ = X a 9 ∨ w_ = 0) ∧ Y_ = x_up (x_up X a 2 0) a 9 w_) := by
  refine x_Met.of [(false, x_rf E a), (false, x_rf E 0)] [some (x_rf E a), some (x_rf E 0)] 0 (by decide) rfl rfl ⟨x_cr E (a), x_cr E (0), trivial⟩ rfl rfl ?_
  intro p e s m args below meth c hargs hin B
  refine x_aload_n B dX4_init_0 rfl ?_
  refine x_aload_n B dX4_init_1 rfl ?_
  refine x_putF2 B (ci := 5) (k := 2) (k2 := 9) (z := 0) rfl rfl trivial (x_rfn E _ 0).1 (x_rfn E _ 0).2 xc_5 (by decide) (by decide) (by decide) rfl hin rfl (by decide) hk q280 (fun _ h => h) dX4_init_2 (fun w_2 hw_2 => ?_)
  refine x_aload_n B dX4_init_5 rfl ?_
  refine x_objI B (ha := by omega) q274 dX4_init_6 (by decide) (by simp [x_cr, x_c1, x_c2]) ?_
  refine x_vret B (fun _ _ h => h) ?_ dX4_init_9
  exact ⟨rfl, w_2, hw_2, rfl⟩
theorem c_X5_init {l : Launch} {E : x_E} {κ : x_Ka} {X : x_X} {a : Int} (ha : 0 ≤ a) (hk : κ a = some (.inl (4, 0))) : x_Met l yX5_init cX5_init 2 none 2 0 0 E κ X [x_rf E a, x_rf E 0] (x_ku κ a (.inl (4, 1))) (fun v_ Y_ => v_ = none ∧ ∀ b, b ≠ a → Y_ b = X b) := by
  refine x_Met.of [(false, x_rf E a), (false, x_rf E 0)] [some (x_rf E a), some (x_rf E 0)] 0 (by decide) rfl rfl ⟨x_cr E (a), x_cr E (0), trivial⟩ rfl rfl ?_
  intro p e s m args below meth c hargs hin B
  refine x_aload_n B dX5_init_0 rfl ?_
  refine x_aload_n B dX5_init_1 rfl ?_
  refine x_putF2 B (ci := 4) (k := 3) (k2 := 2) (z := 0) rfl rfl trivial (x_rfn E _ 0).1 (x_rfn E _ 0).2 xc_4 (by decide) (by decide) (by decide) rfl hin rfl (by decide) hk q275 (fun _ h => h) dX5_init_2 (fun w_2 hw_2 => ?_)
  refine x_aload_n B dX5_init_5 rfl ?_
  refine x_aload_n B dX5_init_6 rfl ?_
  refine x_go (x_rIN B (by omega) (c_X4_init_P (by omega) (by assumption)) q271 q272 q116 q273 rfl hd_X4_init ⟨by decide, by decide⟩ ⟨by decide, by decide⟩ rfl rfl (by simp [x_cr, x_c1, x_c2]) dX5_init_7) (fun v_7 X_7 p_7 => ?_)
  obtain ⟨rfl, w7, hw7, rfl⟩ := p_7
  have e3 : x_up (x_up X a 3 0) a 2 w_2 a 3 = 0 := by rw [x_up_n _ (Or.inr (by omega)), x_up_s]
  have e7 : w7 = 0 := by rcases hw7 with q | q; exact q.trans e3; exact q
  refine x_rip B (a := a) (ci := 4) hk (fun j q hq => ?_) ?_
  · match j, hq with
    | 0, hq => cases hq
    | 1, hq => cases hq
    | 2, hq => cases hq; show x_up (x_up _ a 2 0) a 3 w7 a 2 = 0; rw [x_up_n _ (Or.inr (by omega)), x_up_s]
    | 3, hq => cases hq; show x_up (x_up _ a 2 0) a 3 w7 a 3 = 0; rw [x_up_s, e7]
    | j + 4, hq => cases (show x_fx 4 (j + 4) = none from rfl).symm.trans hq
  refine x_vret B (fun _ _ h => h) ?_ dX5_init_10
  exact ⟨rfl, fun b hb => by rw [x_up_o _ hb, x_up_o _ hb, x_up_o _ hb, x_up_o _ hb]⟩
def k_duel (κ : x_Ka) (a : Int) : x_Ka := x_ku (x_ku (x_ku (x_ku κ (a + 1) (.inr (0, 15129))) (a + 2) (.inr (0, 15129))) (a + 3) (.inr (2, 15129))) a (.inl (6, 1))
theorem c_X7_init {l : Launch} {E : x_E} {κ : x_Ka} {X : x_X} {a : Int} (ha : 0 ≤ a) (sz : X (-1) 0 = a + 1) (hk : κ a = some (.inl (6, 0))) : x_Met l yX7_init cX7_init 2 none 1 3 45387 E κ X [x_rf E a, x_rf E 0] (k_duel κ a) (fun v_ Y_ => v_ = none ∧ (∀ b, b ≠ -1 → (b < a ∨ a + 3 < b) → Y_ b = X b) ∧ Y_ (-1) 0 = a + 4) := by
  refine x_Met.of [(false, x_rf E a), (false, x_rf E 0)] [some (x_rf E a), some (x_rf E 0)] 0 (by decide) rfl rfl ⟨x_cr E (a), x_cr E (0), trivial⟩ rfl rfl ?_
  intro p e s m args below meth c hargs hin B
  have ka := hk
  have fr : ∀ b, b ≠ -1 → (b < a ∨ a + 3 < b) → X b = X b := fun _ _ _ => rfl
  have f0 : X a = X a := rfl
  refine x_aload_n B dX7_init_0 rfl ?_
  refine x_aload_n B dX7_init_1 rfl ?_
  refine x_putFO B (k := 5) 5 rfl rfl rfl xc_6 (by decide) rfl hin rfl nn_6_5 (fun h => absurd h (by decide)) ka q341 (fun _ h => h) dX7_init_2 ?_
  replace fr : ∀ b, b ≠ -1 → (b < a ∨ a + 3 < b) → (x_up X (a) 5 (0)) b = X b := fun b b1 b2 => (x_up_o X (by omega)).trans (fr b b1 b2)
  have sz1 : (x_up X (a) 5 (0)) (-1) 0 = a + 1 := by rw [x_up_o _ (by omega)]; exact sz
  replace f0 : (x_up X (a) 5 (0)) (a) = (x_g (X a) 5 (0)) := (x_up_f _ _ _ _).trans (congrArg (fun g => x_g g 5 (0)) f0)
  generalize (x_up X (a) 5 (0)) = S1 at fr sz1 f0 ⊢
  replace sz := sz1
  clear sz1
  refine x_aload_n B dX7_init_5 rfl ?_
  refine x_objI B (ha := by omega) q334 dX7_init_6 (by decide) (by simp [x_cr, x_c1, x_c2]) ?_
  refine x_aload_n B dX7_init_9 rfl ?_
  refine x_sipush B dX7_init_10 (by decide) ?_
  refine x_newa B (t := 0) (atype := .int) (n := 15129) rfl q241 (fun h => h) rfl ⟨by decide, by decide⟩ rfl ⟨by omega, by omega⟩ (by decide) (Nat.le_of_ble_eq_true rfl) (Nat.le_of_ble_eq_true rfl) dX7_init_13 (fun z_13 n_13 => ?_)
  rw [sz] at n_13 ⊢
  obtain ⟨κ1, hκ1⟩ : ∃ k_, k_ = x_ku κ (a + 1) (.inr (0, 15129)) := ⟨_, rfl⟩
  rw [← hκ1]
  replace ka : κ1 (a) = some (.inl (6, 0)) := by rw [hκ1]; rw [x_ku_ne (by omega)]; exact ka
  replace fr : ∀ b, b ≠ -1 → (b < a ∨ a + 3 < b) → (x_nw S1 (fun _ => 0)) b = X b := fun b b1 b2 => (x_nw_oth S1 (fun _ => 0) (by omega) (by omega)).trans (fr b b1 b2)
  have sz1 : (x_nw S1 (fun _ => 0)) (-1) 0 = a + 2 := by rw [x_nw_sz, sz]; omega
  replace f0 : (x_nw S1 (fun _ => 0)) (a) = (x_g (X a) 5 (0)) := (x_nw_oth S1 (fun _ => 0) (by omega) (by omega)).trans f0
  generalize (x_nw S1 (fun _ => 0)) = S2 at fr sz1 f0 ⊢
  replace sz := sz1
  clear sz1
  refine x_putFA B (k := 0) 0 rfl rfl rfl xc_6 (by decide) rfl hin rfl nn_6_0 (fun h => absurd h (by decide)) ka q335 (fun _ h => h) dX7_init_15 ?_
  replace fr : ∀ b, b ≠ -1 → (b < a ∨ a + 3 < b) → (x_up S2 (a) 0 (a + 1)) b = X b := fun b b1 b2 => (x_up_o S2 (by omega)).trans (fr b b1 b2)
  have sz1 : (x_up S2 (a) 0 (a + 1)) (-1) 0 = a + 2 := by rw [x_up_o _ (by omega)]; exact sz
  replace f0 : (x_up S2 (a) 0 (a + 1)) (a) = (x_g (x_g (X a) 5 (0)) 0 (a + 1)) := (x_up_f _ _ _ _).trans (congrArg (fun g => x_g g 0 (a + 1)) f0)
  generalize (x_up S2 (a) 0 (a + 1)) = S3 at fr sz1 f0 ⊢
  replace sz := sz1
  clear sz1
  refine x_aload_n B dX7_init_18 rfl ?_
  refine x_sipush B dX7_init_19 (by decide) ?_
  refine x_newa B (t := 0) (atype := .int) (n := 15129) rfl q241 (fun h => h) rfl ⟨by decide, by decide⟩ rfl ⟨by omega, by omega⟩ (by decide) (Nat.le_of_ble_eq_true rfl) (Nat.le_of_ble_eq_true rfl) dX7_init_22 (fun z_22 n_22 => ?_)
  rw [sz] at n_22 ⊢
  obtain ⟨κ2, hκ2⟩ : ∃ k_, k_ = x_ku κ1 (a + 2) (.inr (0, 15129)) := ⟨_, rfl⟩
  rw [← hκ2]
  replace ka : κ2 (a) = some (.inl (6, 0)) := by rw [hκ2]; rw [x_ku_ne (by omega)]; exact ka
  replace fr : ∀ b, b ≠ -1 → (b < a ∨ a + 3 < b) → (x_nw S3 (fun _ => 0)) b = X b := fun b b1 b2 => (x_nw_oth S3 (fun _ => 0) (by omega) (by omega)).trans (fr b b1 b2)
  have sz1 : (x_nw S3 (fun _ => 0)) (-1) 0 = a + 3 := by rw [x_nw_sz, sz]; omega
  replace f0 : (x_nw S3 (fun _ => 0)) (a) = (x_g (x_g (X a) 5 (0)) 0 (a + 1)) := (x_nw_oth S3 (fun _ => 0) (by omega) (by omega)).trans f0
  generalize (x_nw S3 (fun _ => 0)) = S4 at fr sz1 f0 ⊢
  replace sz := sz1
  clear sz1
  refine x_putFA B (k := 1) 1 rfl rfl rfl xc_6 (by decide) rfl hin rfl nn_6_1 (fun h => absurd h (by decide)) ka q336 (fun _ h => h) dX7_init_24 ?_
  replace fr : ∀ b, b ≠ -1 → (b < a ∨ a + 3 < b) → (x_up S4 (a) 1 (a + 2)) b = X b := fun b b1 b2 => (x_up_o S4 (by omega)).trans (fr b b1 b2)
  have sz1 : (x_up S4 (a) 1 (a + 2)) (-1) 0 = a + 3 := by rw [x_up_o _ (by omega)]; exact sz
  replace f0 : (x_up S4 (a) 1 (a + 2)) (a) = (x_g (x_g (x_g (X a) 5 (0)) 0 (a + 1)) 1 (a + 2)) := (x_up_f _ _ _ _).trans (congrArg (fun g => x_g g 1 (a + 2)) f0)
  generalize (x_up S4 (a) 1 (a + 2)) = S5 at fr sz1 f0 ⊢
  replace sz := sz1
  clear sz1
  refine x_aload_n B dX7_init_27 rfl ?_
  refine x_sipush B dX7_init_28 (by decide) ?_
  refine x_newa B (t := 2) (atype := .boolean) (n := 15129) rfl q292 (fun h => h) rfl ⟨by decide, by decide⟩ rfl ⟨by omega, by omega⟩ (by decide) (Nat.le_of_ble_eq_true rfl) (Nat.le_of_ble_eq_true rfl) dX7_init_31 (fun z_31 n_31 => ?_)
  rw [sz] at n_31 ⊢
  obtain ⟨κ3, hκ3⟩ : ∃ k_, k_ = x_ku κ2 (a + 3) (.inr (2, 15129)) := ⟨_, rfl⟩
  rw [← hκ3]
  replace ka : κ3 (a) = some (.inl (6, 0)) := by rw [hκ3]; rw [x_ku_ne (by omega)]; exact ka
  replace fr : ∀ b, b ≠ -1 → (b < a ∨ a + 3 < b) → (x_nw S5 (fun _ => 0)) b = X b := fun b b1 b2 => (x_nw_oth S5 (fun _ => 0) (by omega) (by omega)).trans (fr b b1 b2)
  have sz1 : (x_nw S5 (fun _ => 0)) (-1) 0 = a + 4 := by rw [x_nw_sz, sz]; omega
  replace f0 : (x_nw S5 (fun _ => 0)) (a) = (x_g (x_g (x_g (X a) 5 (0)) 0 (a + 1)) 1 (a + 2)) := (x_nw_oth S5 (fun _ => 0) (by omega) (by omega)).trans f0
  generalize (x_nw S5 (fun _ => 0)) = S6 at fr sz1 f0 ⊢
  replace sz := sz1
  clear sz1
  refine x_putFA B (k := 2) 2 rfl rfl rfl xc_6 (by decide) rfl hin rfl nn_6_2 (fun h => absurd h (by decide)) ka q338 (fun _ h => h) dX7_init_33 ?_
  replace fr : ∀ b, b ≠ -1 → (b < a ∨ a + 3 < b) → (x_up S6 (a) 2 (a + 3)) b = X b := fun b b1 b2 => (x_up_o S6 (by omega)).trans (fr b b1 b2)
  have sz1 : (x_up S6 (a) 2 (a + 3)) (-1) 0 = a + 4 := by rw [x_up_o _ (by omega)]; exact sz
  replace f0 : (x_up S6 (a) 2 (a + 3)) (a) = (x_g (x_g (x_g (x_g (X a) 5 (0)) 0 (a + 1)) 1 (a + 2)) 2 (a + 3)) := (x_up_f _ _ _ _).trans (congrArg (fun g => x_g g 2 (a + 3)) f0)
  generalize (x_up S6 (a) 2 (a + 3)) = S7 at fr sz1 f0 ⊢
  replace sz := sz1
  clear sz1
  refine x_rip B (a := a) (ci := 6) ka (fun j q hq => ?_) ?_
  · match j, hq with
    | 0, hq => cases hq; rw [f0]; rfl
    | 1, hq => cases hq; rw [f0]; rfl
    | 2, hq => cases hq; rw [f0]; rfl
    | 3, hq => cases hq
    | 4, hq => cases hq
    | 5, hq => cases hq; rw [f0]; rfl
    | j + 6, hq => cases (show x_fx 6 (j + 6) = none from rfl).symm.trans hq
  refine x_wide (cells' := 3) (slots' := 45387) (by omega) (by omega) ?_
  refine x_vret B (by rw [hκ3]; rw [hκ2]; rw [hκ1]; unfold k_duel; exact fun _ _ h => h) ?_ dX7_init_36
  exact ⟨rfl, fr, sz⟩
def k_meet (κ : x_Ka) (a : Int) : x_Ka := x_ku (x_ku (x_ku (x_ku (x_ku (x_ku (x_ku (x_ku (x_ku (x_ku (x_ku (x_ku (x_ku (x_ku (x_ku (x_ku (x_ku (x_ku (x_ku (x_ku (x_ku κ (a + 1) (.inr (5, 6))) (a + 2) (.inl (3, 0))) (a + 2 + 1) (.inr (0, 3))) (a + 2) (.inl (3, 1))) (a + 4) (.inl (3, 0))) (a + 4 + 1) (.inr (0, 3))) (a + 4) (.inl (3, 1))) (a + 6) (.inl (3, 0))) (a + 6 + 1) (.inr (0, 3))) (a + 6) (.inl (3, 1))) (a + 8) (.inl (3, 0))) (a + 8 + 1) (.inr (0, 3))) (a + 8) (.inl (3, 1))) (a + 10) (.inl (3, 0))) (a + 10 + 1) (.inr (0, 3))) (a + 10) (.inl (3, 1))) (a + 12) (.inl (3, 0))) (a + 12 + 1) (.inr (0, 3))) (a + 12) (.inl (3, 1))) (a + 1) (.inr (10, 6))) a (.inl (2, 1))
theorem c_X2_init {l : Launch} {E : x_E} {κ : x_Ka} {X : x_X} {a : Int} (ha : 0 ≤ a) (sz : X (-1) 0 = a + 1) (hk : κ a = some (.inl (2, 0))) : x_Met l yX2_init cX2_init 2 none 2 13 72 E κ X [x_rf E a, x_rf E 0] (k_meet κ a) (fun v_ Y_ => v_ = none ∧ (∀ b, b ≠ -1 → (b < a ∨ a + 13 < b) → Y_ b = X b) ∧ Y_ (-1) 0 = a + 14) := by
  refine x_Met.of [(false, x_rf E a), (false, x_rf E 0)] [some (x_rf E a), some (x_rf E 0)] 0 (by decide) rfl rfl ⟨x_cr E (a), x_cr E (0), trivial⟩ rfl rfl ?_
  intro p e s m args below meth c hargs hin B
  have ka := hk
  have fr : ∀ b, b ≠ -1 → (b < a ∨ a + 13 < b) → X b = X b := fun _ _ _ => rfl
  have f0 : X a = X a := rfl
  refine x_aload_n B dX2_init_0 rfl ?_
  refine x_aload_n B dX2_init_1 rfl ?_
  refine x_putFO B (k := 4) 4 rfl rfl rfl xc_2 (by decide) rfl hin rfl nn_2_4 (fun h => absurd h (by decide)) ka q254 (fun _ h => h) dX2_init_2 ?_
  replace fr : ∀ b, b ≠ -1 → (b < a ∨ a + 13 < b) → (x_up X (a) 4 (0)) b = X b := fun b b1 b2 => (x_up_o X (by omega)).trans (fr b b1 b2)
  have sz1 : (x_up X (a) 4 (0)) (-1) 0 = a + 1 := by rw [x_up_o _ (by omega)]; exact sz
  replace f0 : (x_up X (a) 4 (0)) (a) = (x_g (X a) 4 (0)) := (x_up_f _ _ _ _).trans (congrArg (fun g => x_g g 4 (0)) f0)
  generalize (x_up X (a) 4 (0)) = S1 at fr sz1 f0 ⊢
  replace sz := sz1
  clear sz1
  refine x_aload_n B dX2_init_5 rfl ?_
  refine x_objI B (ha := by omega) q183 dX2_init_6 (by decide) (by simp [x_cr, x_c1, x_c2]) ?_
  refine x_aload_n B dX2_init_9 rfl ?_
  refine x_bipush B dX2_init_10 (by decide) ?_
  refine x_newq B (t := 5) q184 q185 rfl rfl rfl ⟨by omega, by omega⟩ (by decide) (by decide) dX2_init_12 (fun z_12 n_12 => ?_)
  rw [sz] at n_12 ⊢
  obtain ⟨κ1, hκ1⟩ : ∃ k_, k_ = x_ku κ (a + 1) (.inr (5, 6)) := ⟨_, rfl⟩
  rw [← hκ1]
  replace ka : κ1 (a) = some (.inl (2, 0)) := by rw [hκ1]; rw [x_ku_ne (by omega)]; exact ka
  have kb : κ1 (a + 1) = some (.inr (5, 6)) := by rw [hκ1]; exact x_ku_s _ _ _
  replace fr : ∀ b, b ≠ -1 → (b < a ∨ a + 13 < b) → (x_nw S1 (fun _ => -1)) b = X b := fun b b1 b2 => (x_nw_oth S1 (fun _ => -1) (by omega) (by omega)).trans (fr b b1 b2)
  have sz1 : (x_nw S1 (fun _ => -1)) (-1) 0 = a + 2 := by rw [x_nw_sz, sz]; omega
  replace f0 : (x_nw S1 (fun _ => -1)) (a) = (x_g (X a) 4 (0)) := (x_nw_oth S1 (fun _ => -1) (by omega) (by omega)).trans f0
  have f1 : (x_nw S1 (fun _ => -1)) (a + 1) = (fun _ => -1) := by have hh := x_nw_at S1 (fun _ => -1) (by omega); rw [sz] at hh; exact hh
  generalize (x_nw S1 (fun _ => -1)) = S2 at fr sz1 f0 f1 ⊢
  replace sz := sz1
  clear sz1
  refine x_dup B dX2_init_15 (by first | rfl | exact x_cr _ _) ?_
  refine x_iconst B dX2_init_16 ?_
  refine x_new B xc_3 q184 q186 q115 (xd_3 E) xe_3 (by decide) (by decide) dX2_init_17 (fun z_17 n_17 => ?_)
  rw [sz] at n_17 ⊢
  obtain ⟨κ2, hκ2⟩ : ∃ k_, k_ = x_ku κ1 (a + 2) (.inl (3, 0)) := ⟨_, rfl⟩
  rw [← hκ2]
  replace ka : κ2 (a) = some (.inl (2, 0)) := by rw [hκ2]; rw [x_ku_ne (by omega)]; exact ka
  replace kb : κ2 (a + 1) = some (.inr (5, 6)) := by rw [hκ2]; rw [x_ku_ne (by omega)]; exact kb
  have kt : κ2 (a + 2) = some (.inl (3, 0)) := by rw [hκ2]; exact x_ku_s _ _ _
  replace fr : ∀ b, b ≠ -1 → (b < a ∨ a + 13 < b) → (x_nw S2 (x_df 3)) b = X b := fun b b1 b2 => (x_nw_oth S2 (x_df 3) (by omega) (by omega)).trans (fr b b1 b2)
  have sz1 : (x_nw S2 (x_df 3)) (-1) 0 = a + 3 := by rw [x_nw_sz, sz]; omega
  replace f0 : (x_nw S2 (x_df 3)) (a) = (x_g (X a) 4 (0)) := (x_nw_oth S2 (x_df 3) (by omega) (by omega)).trans f0
  replace f1 : (x_nw S2 (x_df 3)) (a + 1) = (fun _ => -1) := (x_nw_oth S2 (x_df 3) (by omega) (by omega)).trans f1
  generalize (x_nw S2 (x_df 3)) = S3 at fr sz1 f0 f1 ⊢
  replace sz := sz1
  clear sz1
  refine x_dup B dX2_init_20 (by first | rfl | exact x_cr _ _) ?_
  refine x_go (x_rIN B (by omega) (c_X3_init (a := a + 2) (by omega) (by rw [sz]; omega) kt) q187 q188 q115 q189 rfl hd_X3_init ⟨by decide, by decide⟩ ⟨by decide, by decide⟩ rfl rfl (by simp [x_cr, x_c1, x_c2]) dX2_init_21) (fun v_21 X_21 p_21 => ?_)
  obtain ⟨κ3, hκ3⟩ : ∃ k_, k_ = x_ku (x_ku κ2 (a + 2 + 1) (.inr (0, 3))) (a + 2) (.inl (3, 1)) := ⟨_, rfl⟩
  rw [← hκ3]
  replace ka : κ3 (a) = some (.inl (2, 0)) := by rw [hκ3]; rw [x_ku_ne (by omega)]; rw [x_ku_ne (by omega)]; exact ka
  replace kb : κ3 (a + 1) = some (.inr (5, 6)) := by rw [hκ3]; rw [x_ku_ne (by omega)]; rw [x_ku_ne (by omega)]; exact kb
  have kt : κ3 (a + 2) = some (.inl (3, 1)) := by rw [hκ3]; exact x_ku_s _ _ _
  obtain ⟨rfl, t1, t2, -, -⟩ := p_21
  replace fr : ∀ b, b ≠ -1 → (b < a ∨ a + 13 < b) → X_21 b = X b := fun b b1 b2 => (t1 _ (by omega) (by omega) (by omega)).trans (fr b b1 b2)
  have sz1 : X_21 (-1) 0 = a + 4 := by rw [t2]; omega
  replace f0 : X_21 (a) = (x_g (X a) 4 (0)) := (t1 _ (by omega) (by omega) (by omega)).trans f0
  replace f1 : X_21 (a + 1) = (fun _ => -1) := (t1 _ (by omega) (by omega) (by omega)).trans f1
  generalize X_21 = S4 at fr sz1 f0 f1 ⊢
  replace sz := sz1
  clear sz1
  refine x_aast B (t := 5) (n := 6) (v := a + 2) (ci := 3) (b := 1) kb rfl rfl rfl kt (show x_cl[3]? = some _ from rfl) ⟨by omega, by omega⟩ dX2_init_24 ?_
  replace fr : ∀ b, b ≠ -1 → (b < a ∨ a + 13 < b) → (x_up S4 (a + 1) 0 (a + 2)) b = X b := fun b b1 b2 => (x_up_o S4 (by omega)).trans (fr b b1 b2)
  have sz1 : (x_up S4 (a + 1) 0 (a + 2)) (-1) 0 = a + 4 := by rw [x_up_o _ (by omega)]; exact sz
  replace f0 : (x_up S4 (a + 1) 0 (a + 2)) (a) = (x_g (X a) 4 (0)) := (x_up_o S4 (by omega)).trans f0
  replace f1 : (x_up S4 (a + 1) 0 (a + 2)) (a + 1) = (x_g (fun _ => -1) 0 (a + 2)) := (x_up_f _ _ _ _).trans (congrArg (fun g => x_g g 0 (a + 2)) f1)
  generalize (x_up S4 (a + 1) 0 (a + 2)) = S5 at fr sz1 f0 f1 ⊢
  replace sz := sz1
  clear sz1
  refine x_dup B dX2_init_25 (by first | rfl | exact x_cr _ _) ?_
  refine x_iconst B dX2_init_26 ?_
  refine x_new B xc_3 q184 q186 q115 (xd_3 E) xe_3 (by decide) (by decide) dX2_init_27 (fun z_27 n_27 => ?_)
  rw [sz] at n_27 ⊢
  obtain ⟨κ4, hκ4⟩ : ∃ k_, k_ = x_ku κ3 (a + 4) (.inl (3, 0)) := ⟨_, rfl⟩
  rw [← hκ4]
  replace ka : κ4 (a) = some (.inl (2, 0)) := by rw [hκ4]; rw [x_ku_ne (by omega)]; exact ka
  replace kb : κ4 (a + 1) = some (.inr (5, 6)) := by rw [hκ4]; rw [x_ku_ne (by omega)]; exact kb
  have kt : κ4 (a + 4) = some (.inl (3, 0)) := by rw [hκ4]; exact x_ku_s _ _ _
  replace fr : ∀ b, b ≠ -1 → (b < a ∨ a + 13 < b) → (x_nw S5 (x_df 3)) b = X b := fun b b1 b2 => (x_nw_oth S5 (x_df 3) (by omega) (by omega)).trans (fr b b1 b2)
  have sz1 : (x_nw S5 (x_df 3)) (-1) 0 = a + 5 := by rw [x_nw_sz, sz]; omega
  replace f0 : (x_nw S5 (x_df 3)) (a) = (x_g (X a) 4 (0)) := (x_nw_oth S5 (x_df 3) (by omega) (by omega)).trans f0
  replace f1 : (x_nw S5 (x_df 3)) (a + 1) = (x_g (fun _ => -1) 0 (a + 2)) := (x_nw_oth S5 (x_df 3) (by omega) (by omega)).trans f1
  generalize (x_nw S5 (x_df 3)) = S6 at fr sz1 f0 f1 ⊢
  replace sz := sz1
  clear sz1
  refine x_dup B dX2_init_30 (by first | rfl | exact x_cr _ _) ?_
  refine x_go (x_rIN B (by omega) (c_X3_init (a := a + 4) (by omega) (by rw [sz]; omega) kt) q187 q188 q115 q189 rfl hd_X3_init ⟨by decide, by decide⟩ ⟨by decide, by decide⟩ rfl rfl (by simp [x_cr, x_c1, x_c2]) dX2_init_31) (fun v_31 X_31 p_31 => ?_)
  obtain ⟨κ5, hκ5⟩ : ∃ k_, k_ = x_ku (x_ku κ4 (a + 4 + 1) (.inr (0, 3))) (a + 4) (.inl (3, 1)) := ⟨_, rfl⟩
  rw [← hκ5]
  replace ka : κ5 (a) = some (.inl (2, 0)) := by rw [hκ5]; rw [x_ku_ne (by omega)]; rw [x_ku_ne (by omega)]; exact ka
  replace kb : κ5 (a + 1) = some (.inr (5, 6)) := by rw [hκ5]; rw [x_ku_ne (by omega)]; rw [x_ku_ne (by omega)]; exact kb
  have kt : κ5 (a + 4) = some (.inl (3, 1)) := by rw [hκ5]; exact x_ku_s _ _ _
  obtain ⟨rfl, t1, t2, -, -⟩ := p_31
  replace fr : ∀ b, b ≠ -1 → (b < a ∨ a + 13 < b) → X_31 b = X b := fun b b1 b2 => (t1 _ (by omega) (by omega) (by omega)).trans (fr b b1 b2)
  have sz1 : X_31 (-1) 0 = a + 6 := by rw [t2]; omega
  replace f0 : X_31 (a) = (x_g (X a) 4 (0)) := (t1 _ (by omega) (by omega) (by omega)).trans f0
  replace f1 : X_31 (a + 1) = (x_g (fun _ => -1) 0 (a + 2)) := (t1 _ (by omega) (by omega) (by omega)).trans f1
  generalize X_31 = S7 at fr sz1 f0 f1 ⊢
  replace sz := sz1
  clear sz1
  refine x_aast B (t := 5) (n := 6) (v := a + 4) (ci := 3) (b := 1) kb rfl rfl rfl kt (show x_cl[3]? = some _ from rfl) ⟨by omega, by omega⟩ dX2_init_34 ?_
  replace fr : ∀ b, b ≠ -1 → (b < a ∨ a + 13 < b) → (x_up S7 (a + 1) 1 (a + 4)) b = X b := fun b b1 b2 => (x_up_o S7 (by omega)).trans (fr b b1 b2)
  have sz1 : (x_up S7 (a + 1) 1 (a + 4)) (-1) 0 = a + 6 := by rw [x_up_o _ (by omega)]; exact sz
  replace f0 : (x_up S7 (a + 1) 1 (a + 4)) (a) = (x_g (X a) 4 (0)) := (x_up_o S7 (by omega)).trans f0
  replace f1 : (x_up S7 (a + 1) 1 (a + 4)) (a + 1) = (x_g (x_g (fun _ => -1) 0 (a + 2)) 1 (a + 4)) := (x_up_f _ _ _ _).trans (congrArg (fun g => x_g g 1 (a + 4)) f1)
  generalize (x_up S7 (a + 1) 1 (a + 4)) = S8 at fr sz1 f0 f1 ⊢
  replace sz := sz1
  clear sz1
  refine x_dup B dX2_init_35 (by first | rfl | exact x_cr _ _) ?_
  refine x_iconst B dX2_init_36 ?_
  refine x_new B xc_3 q184 q186 q115 (xd_3 E) xe_3 (by decide) (by decide) dX2_init_37 (fun z_37 n_37 => ?_)
  rw [sz] at n_37 ⊢
  obtain ⟨κ6, hκ6⟩ : ∃ k_, k_ = x_ku κ5 (a + 6) (.inl (3, 0)) := ⟨_, rfl⟩
  rw [← hκ6]
  replace ka : κ6 (a) = some (.inl (2, 0)) := by rw [hκ6]; rw [x_ku_ne (by omega)]; exact ka
  replace kb : κ6 (a + 1) = some (.inr (5, 6)) := by rw [hκ6]; rw [x_ku_ne (by omega)]; exact kb
  have kt : κ6 (a + 6) = some (.inl (3, 0)) := by rw [hκ6]; exact x_ku_s _ _ _
  replace fr : ∀ b, b ≠ -1 → (b < a ∨ a + 13 < b) → (x_nw S8 (x_df 3)) b = X b := fun b b1 b2 => (x_nw_oth S8 (x_df 3) (by omega) (by omega)).trans (fr b b1 b2)
  have sz1 : (x_nw S8 (x_df 3)) (-1) 0 = a + 7 := by rw [x_nw_sz, sz]; omega
  replace f0 : (x_nw S8 (x_df 3)) (a) = (x_g (X a) 4 (0)) := (x_nw_oth S8 (x_df 3) (by omega) (by omega)).trans f0
  replace f1 : (x_nw S8 (x_df 3)) (a + 1) = (x_g (x_g (fun _ => -1) 0 (a + 2)) 1 (a + 4)) := (x_nw_oth S8 (x_df 3) (by omega) (by omega)).trans f1
  generalize (x_nw S8 (x_df 3)) = S9 at fr sz1 f0 f1 ⊢
  replace sz := sz1
  clear sz1
  refine x_dup B dX2_init_40 (by first | rfl | exact x_cr _ _) ?_
  refine x_go (x_rIN B (by omega) (c_X3_init (a := a + 6) (by omega) (by rw [sz]; omega) kt) q187 q188 q115 q189 rfl hd_X3_init ⟨by decide, by decide⟩ ⟨by decide, by decide⟩ rfl rfl (by simp [x_cr, x_c1, x_c2]) dX2_init_41) (fun v_41 X_41 p_41 => ?_)
  obtain ⟨κ7, hκ7⟩ : ∃ k_, k_ = x_ku (x_ku κ6 (a + 6 + 1) (.inr (0, 3))) (a + 6) (.inl (3, 1)) := ⟨_, rfl⟩
  rw [← hκ7]
  replace ka : κ7 (a) = some (.inl (2, 0)) := by rw [hκ7]; rw [x_ku_ne (by omega)]; rw [x_ku_ne (by omega)]; exact ka
  replace kb : κ7 (a + 1) = some (.inr (5, 6)) := by rw [hκ7]; rw [x_ku_ne (by omega)]; rw [x_ku_ne (by omega)]; exact kb
  have kt : κ7 (a + 6) = some (.inl (3, 1)) := by rw [hκ7]; exact x_ku_s _ _ _
  obtain ⟨rfl, t1, t2, -, -⟩ := p_41
  replace fr : ∀ b, b ≠ -1 → (b < a ∨ a + 13 < b) → X_41 b = X b := fun b b1 b2 => (t1 _ (by omega) (by omega) (by omega)).trans (fr b b1 b2)
  have sz1 : X_41 (-1) 0 = a + 8 := by rw [t2]; omega
  replace f0 : X_41 (a) = (x_g (X a) 4 (0)) := (t1 _ (by omega) (by omega) (by omega)).trans f0
  replace f1 : X_41 (a + 1) = (x_g (x_g (fun _ => -1) 0 (a + 2)) 1 (a + 4)) := (t1 _ (by omega) (by omega) (by omega)).trans f1
  generalize X_41 = S10 at fr sz1 f0 f1 ⊢
  replace sz := sz1
  clear sz1
  refine x_aast B (t := 5) (n := 6) (v := a + 6) (ci := 3) (b := 1) kb rfl rfl rfl kt (show x_cl[3]? = some _ from rfl) ⟨by omega, by omega⟩ dX2_init_44 ?_
  replace fr : ∀ b, b ≠ -1 → (b < a ∨ a + 13 < b) → (x_up S10 (a + 1) 2 (a + 6)) b = X b := fun b b1 b2 => (x_up_o S10 (by omega)).trans (fr b b1 b2)
  have sz1 : (x_up S10 (a + 1) 2 (a + 6)) (-1) 0 = a + 8 := by rw [x_up_o _ (by omega)]; exact sz
  replace f0 : (x_up S10 (a + 1) 2 (a + 6)) (a) = (x_g (X a) 4 (0)) := (x_up_o S10 (by omega)).trans f0
  replace f1 : (x_up S10 (a + 1) 2 (a + 6)) (a + 1) = (x_g (x_g (x_g (fun _ => -1) 0 (a + 2)) 1 (a + 4)) 2 (a + 6)) := (x_up_f _ _ _ _).trans (congrArg (fun g => x_g g 2 (a + 6)) f1)
  generalize (x_up S10 (a + 1) 2 (a + 6)) = S11 at fr sz1 f0 f1 ⊢
  replace sz := sz1
  clear sz1
  refine x_dup B dX2_init_45 (by first | rfl | exact x_cr _ _) ?_
  refine x_iconst B dX2_init_46 ?_
  refine x_new B xc_3 q184 q186 q115 (xd_3 E) xe_3 (by decide) (by decide) dX2_init_47 (fun z_47 n_47 => ?_)
  rw [sz] at n_47 ⊢
  obtain ⟨κ8, hκ8⟩ : ∃ k_, k_ = x_ku κ7 (a + 8) (.inl (3, 0)) := ⟨_, rfl⟩
  rw [← hκ8]
  replace ka : κ8 (a) = some (.inl (2, 0)) := by rw [hκ8]; rw [x_ku_ne (by omega)]; exact ka
  replace kb : κ8 (a + 1) = some (.inr (5, 6)) := by rw [hκ8]; rw [x_ku_ne (by omega)]; exact kb
  have kt : κ8 (a + 8) = some (.inl (3, 0)) := by rw [hκ8]; exact x_ku_s _ _ _
  replace fr : ∀ b, b ≠ -1 → (b < a ∨ a + 13 < b) → (x_nw S11 (x_df 3)) b = X b := fun b b1 b2 => (x_nw_oth S11 (x_df 3) (by omega) (by omega)).trans (fr b b1 b2)
  have sz1 : (x_nw S11 (x_df 3)) (-1) 0 = a + 9 := by rw [x_nw_sz, sz]; omega
  replace f0 : (x_nw S11 (x_df 3)) (a) = (x_g (X a) 4 (0)) := (x_nw_oth S11 (x_df 3) (by omega) (by omega)).trans f0
  replace f1 : (x_nw S11 (x_df 3)) (a + 1) = (x_g (x_g (x_g (fun _ => -1) 0 (a + 2)) 1 (a + 4)) 2 (a + 6)) := (x_nw_oth S11 (x_df 3) (by omega) (by omega)).trans f1
  generalize (x_nw S11 (x_df 3)) = S12 at fr sz1 f0 f1 ⊢
  replace sz := sz1
  clear sz1
  refine x_dup B dX2_init_50 (by first | rfl | exact x_cr _ _) ?_
  refine x_go (x_rIN B (by omega) (c_X3_init (a := a + 8) (by omega) (by rw [sz]; omega) kt) q187 q188 q115 q189 rfl hd_X3_init ⟨by decide, by decide⟩ ⟨by decide, by decide⟩ rfl rfl (by simp [x_cr, x_c1, x_c2]) dX2_init_51) (fun v_51 X_51 p_51 => ?_)
  obtain ⟨κ9, hκ9⟩ : ∃ k_, k_ = x_ku (x_ku κ8 (a + 8 + 1) (.inr (0, 3))) (a + 8) (.inl (3, 1)) := ⟨_, rfl⟩
  rw [← hκ9]
  replace ka : κ9 (a) = some (.inl (2, 0)) := by rw [hκ9]; rw [x_ku_ne (by omega)]; rw [x_ku_ne (by omega)]; exact ka
  replace kb : κ9 (a + 1) = some (.inr (5, 6)) := by rw [hκ9]; rw [x_ku_ne (by omega)]; rw [x_ku_ne (by omega)]; exact kb
  have kt : κ9 (a + 8) = some (.inl (3, 1)) := by rw [hκ9]; exact x_ku_s _ _ _
  obtain ⟨rfl, t1, t2, -, -⟩ := p_51
  replace fr : ∀ b, b ≠ -1 → (b < a ∨ a + 13 < b) → X_51 b = X b := fun b b1 b2 => (t1 _ (by omega) (by omega) (by omega)).trans (fr b b1 b2)
  have sz1 : X_51 (-1) 0 = a + 10 := by rw [t2]; omega
  replace f0 : X_51 (a) = (x_g (X a) 4 (0)) := (t1 _ (by omega) (by omega) (by omega)).trans f0
  replace f1 : X_51 (a + 1) = (x_g (x_g (x_g (fun _ => -1) 0 (a + 2)) 1 (a + 4)) 2 (a + 6)) := (t1 _ (by omega) (by omega) (by omega)).trans f1
  generalize X_51 = S13 at fr sz1 f0 f1 ⊢
  replace sz := sz1
  clear sz1
  refine x_aast B (t := 5) (n := 6) (v := a + 8) (ci := 3) (b := 1) kb rfl rfl rfl kt (show x_cl[3]? = some _ from rfl) ⟨by omega, by omega⟩ dX2_init_54 ?_
  replace fr : ∀ b, b ≠ -1 → (b < a ∨ a + 13 < b) → (x_up S13 (a + 1) 3 (a + 8)) b = X b := fun b b1 b2 => (x_up_o S13 (by omega)).trans (fr b b1 b2)
  have sz1 : (x_up S13 (a + 1) 3 (a + 8)) (-1) 0 = a + 10 := by rw [x_up_o _ (by omega)]; exact sz
  replace f0 : (x_up S13 (a + 1) 3 (a + 8)) (a) = (x_g (X a) 4 (0)) := (x_up_o S13 (by omega)).trans f0
  replace f1 : (x_up S13 (a + 1) 3 (a + 8)) (a + 1) = (x_g (x_g (x_g (x_g (fun _ => -1) 0 (a + 2)) 1 (a + 4)) 2 (a + 6)) 3 (a + 8)) := (x_up_f _ _ _ _).trans (congrArg (fun g => x_g g 3 (a + 8)) f1)
  generalize (x_up S13 (a + 1) 3 (a + 8)) = S14 at fr sz1 f0 f1 ⊢
  replace sz := sz1
  clear sz1
  refine x_dup B dX2_init_55 (by first | rfl | exact x_cr _ _) ?_
  refine x_iconst B dX2_init_56 ?_
  refine x_new B xc_3 q184 q186 q115 (xd_3 E) xe_3 (by decide) (by decide) dX2_init_57 (fun z_57 n_57 => ?_)
  rw [sz] at n_57 ⊢
  obtain ⟨κ10, hκ10⟩ : ∃ k_, k_ = x_ku κ9 (a + 10) (.inl (3, 0)) := ⟨_, rfl⟩
  rw [← hκ10]
  replace ka : κ10 (a) = some (.inl (2, 0)) := by rw [hκ10]; rw [x_ku_ne (by omega)]; exact ka
  replace kb : κ10 (a + 1) = some (.inr (5, 6)) := by rw [hκ10]; rw [x_ku_ne (by omega)]; exact kb
  have kt : κ10 (a + 10) = some (.inl (3, 0)) := by rw [hκ10]; exact x_ku_s _ _ _
  replace fr : ∀ b, b ≠ -1 → (b < a ∨ a + 13 < b) → (x_nw S14 (x_df 3)) b = X b := fun b b1 b2 => (x_nw_oth S14 (x_df 3) (by omega) (by omega)).trans (fr b b1 b2)
  have sz1 : (x_nw S14 (x_df 3)) (-1) 0 = a + 11 := by rw [x_nw_sz, sz]; omega
  replace f0 : (x_nw S14 (x_df 3)) (a) = (x_g (X a) 4 (0)) := (x_nw_oth S14 (x_df 3) (by omega) (by omega)).trans f0
  replace f1 : (x_nw S14 (x_df 3)) (a + 1) = (x_g (x_g (x_g (x_g (fun _ => -1) 0 (a + 2)) 1 (a + 4)) 2 (a + 6)) 3 (a + 8)) := (x_nw_oth S14 (x_df 3) (by omega) (by omega)).trans f1
  generalize (x_nw S14 (x_df 3)) = S15 at fr sz1 f0 f1 ⊢
  replace sz := sz1
  clear sz1
  refine x_dup B dX2_init_60 (by first | rfl | exact x_cr _ _) ?_
  refine x_go (x_rIN B (by omega) (c_X3_init (a := a + 10) (by omega) (by rw [sz]; omega) kt) q187 q188 q115 q189 rfl hd_X3_init ⟨by decide, by decide⟩ ⟨by decide, by decide⟩ rfl rfl (by simp [x_cr, x_c1, x_c2]) dX2_init_61) (fun v_61 X_61 p_61 => ?_)
  obtain ⟨κ11, hκ11⟩ : ∃ k_, k_ = x_ku (x_ku κ10 (a + 10 + 1) (.inr (0, 3))) (a + 10) (.inl (3, 1)) := ⟨_, rfl⟩
  rw [← hκ11]
  replace ka : κ11 (a) = some (.inl (2, 0)) := by rw [hκ11]; rw [x_ku_ne (by omega)]; rw [x_ku_ne (by omega)]; exact ka
  replace kb : κ11 (a + 1) = some (.inr (5, 6)) := by rw [hκ11]; rw [x_ku_ne (by omega)]; rw [x_ku_ne (by omega)]; exact kb
  have kt : κ11 (a + 10) = some (.inl (3, 1)) := by rw [hκ11]; exact x_ku_s _ _ _
  obtain ⟨rfl, t1, t2, -, -⟩ := p_61
  replace fr : ∀ b, b ≠ -1 → (b < a ∨ a + 13 < b) → X_61 b = X b := fun b b1 b2 => (t1 _ (by omega) (by omega) (by omega)).trans (fr b b1 b2)
  have sz1 : X_61 (-1) 0 = a + 12 := by rw [t2]; omega
  replace f0 : X_61 (a) = (x_g (X a) 4 (0)) := (t1 _ (by omega) (by omega) (by omega)).trans f0
  replace f1 : X_61 (a + 1) = (x_g (x_g (x_g (x_g (fun _ => -1) 0 (a + 2)) 1 (a + 4)) 2 (a + 6)) 3 (a + 8)) := (t1 _ (by omega) (by omega) (by omega)).trans f1
  generalize X_61 = S16 at fr sz1 f0 f1 ⊢
  replace sz := sz1
  clear sz1
  refine x_aast B (t := 5) (n := 6) (v := a + 10) (ci := 3) (b := 1) kb rfl rfl rfl kt (show x_cl[3]? = some _ from rfl) ⟨by omega, by omega⟩ dX2_init_64 ?_
  replace fr : ∀ b, b ≠ -1 → (b < a ∨ a + 13 < b) → (x_up S16 (a + 1) 4 (a + 10)) b = X b := fun b b1 b2 => (x_up_o S16 (by omega)).trans (fr b b1 b2)
  have sz1 : (x_up S16 (a + 1) 4 (a + 10)) (-1) 0 = a + 12 := by rw [x_up_o _ (by omega)]; exact sz
  replace f0 : (x_up S16 (a + 1) 4 (a + 10)) (a) = (x_g (X a) 4 (0)) := (x_up_o S16 (by omega)).trans f0
  replace f1 : (x_up S16 (a + 1) 4 (a + 10)) (a + 1) = (x_g (x_g (x_g (x_g (x_g (fun _ => -1) 0 (a + 2)) 1 (a + 4)) 2 (a + 6)) 3 (a + 8)) 4 (a + 10)) := (x_up_f _ _ _ _).trans (congrArg (fun g => x_g g 4 (a + 10)) f1)
  generalize (x_up S16 (a + 1) 4 (a + 10)) = S17 at fr sz1 f0 f1 ⊢
  replace sz := sz1
  clear sz1
  refine x_dup B dX2_init_65 (by first | rfl | exact x_cr _ _) ?_
  refine x_iconst B dX2_init_66 ?_
  refine x_new B xc_3 q184 q186 q115 (xd_3 E) xe_3 (by decide) (by decide) dX2_init_67 (fun z_67 n_67 => ?_)
  rw [sz] at n_67 ⊢
  obtain ⟨κ12, hκ12⟩ : ∃ k_, k_ = x_ku κ11 (a + 12) (.inl (3, 0)) := ⟨_, rfl⟩
  rw [← hκ12]
  replace ka : κ12 (a) = some (.inl (2, 0)) := by rw [hκ12]; rw [x_ku_ne (by omega)]; exact ka
  replace kb : κ12 (a + 1) = some (.inr (5, 6)) := by rw [hκ12]; rw [x_ku_ne (by omega)]; exact kb
  have kt : κ12 (a + 12) = some (.inl (3, 0)) := by rw [hκ12]; exact x_ku_s _ _ _
  replace fr : ∀ b, b ≠ -1 → (b < a ∨ a + 13 < b) → (x_nw S17 (x_df 3)) b = X b := fun b b1 b2 => (x_nw_oth S17 (x_df 3) (by omega) (by omega)).trans (fr b b1 b2)
  have sz1 : (x_nw S17 (x_df 3)) (-1) 0 = a + 13 := by rw [x_nw_sz, sz]; omega
  replace f0 : (x_nw S17 (x_df 3)) (a) = (x_g (X a) 4 (0)) := (x_nw_oth S17 (x_df 3) (by omega) (by omega)).trans f0
  replace f1 : (x_nw S17 (x_df 3)) (a + 1) = (x_g (x_g (x_g (x_g (x_g (fun _ => -1) 0 (a + 2)) 1 (a + 4)) 2 (a + 6)) 3 (a + 8)) 4 (a + 10)) := (x_nw_oth S17 (x_df 3) (by omega) (by omega)).trans f1
  generalize (x_nw S17 (x_df 3)) = S18 at fr sz1 f0 f1 ⊢
  replace sz := sz1
  clear sz1
  refine x_dup B dX2_init_70 (by first | rfl | exact x_cr _ _) ?_
  refine x_go (x_rIN B (by omega) (c_X3_init (a := a + 12) (by omega) (by rw [sz]; omega) kt) q187 q188 q115 q189 rfl hd_X3_init ⟨by decide, by decide⟩ ⟨by decide, by decide⟩ rfl rfl (by simp [x_cr, x_c1, x_c2]) dX2_init_71) (fun v_71 X_71 p_71 => ?_)
  obtain ⟨κ13, hκ13⟩ : ∃ k_, k_ = x_ku (x_ku κ12 (a + 12 + 1) (.inr (0, 3))) (a + 12) (.inl (3, 1)) := ⟨_, rfl⟩
  rw [← hκ13]
  replace ka : κ13 (a) = some (.inl (2, 0)) := by rw [hκ13]; rw [x_ku_ne (by omega)]; rw [x_ku_ne (by omega)]; exact ka
  replace kb : κ13 (a + 1) = some (.inr (5, 6)) := by rw [hκ13]; rw [x_ku_ne (by omega)]; rw [x_ku_ne (by omega)]; exact kb
  have kt : κ13 (a + 12) = some (.inl (3, 1)) := by rw [hκ13]; exact x_ku_s _ _ _
  obtain ⟨rfl, t1, t2, -, -⟩ := p_71
  replace fr : ∀ b, b ≠ -1 → (b < a ∨ a + 13 < b) → X_71 b = X b := fun b b1 b2 => (t1 _ (by omega) (by omega) (by omega)).trans (fr b b1 b2)
  have sz1 : X_71 (-1) 0 = a + 14 := by rw [t2]; omega
  replace f0 : X_71 (a) = (x_g (X a) 4 (0)) := (t1 _ (by omega) (by omega) (by omega)).trans f0
  replace f1 : X_71 (a + 1) = (x_g (x_g (x_g (x_g (x_g (fun _ => -1) 0 (a + 2)) 1 (a + 4)) 2 (a + 6)) 3 (a + 8)) 4 (a + 10)) := (t1 _ (by omega) (by omega) (by omega)).trans f1
  generalize X_71 = S19 at fr sz1 f0 f1 ⊢
  replace sz := sz1
  clear sz1
  refine x_aast B (t := 5) (n := 6) (v := a + 12) (ci := 3) (b := 1) kb rfl rfl rfl kt (show x_cl[3]? = some _ from rfl) ⟨by omega, by omega⟩ dX2_init_74 ?_
  replace fr : ∀ b, b ≠ -1 → (b < a ∨ a + 13 < b) → (x_up S19 (a + 1) 5 (a + 12)) b = X b := fun b b1 b2 => (x_up_o S19 (by omega)).trans (fr b b1 b2)
  have sz1 : (x_up S19 (a + 1) 5 (a + 12)) (-1) 0 = a + 14 := by rw [x_up_o _ (by omega)]; exact sz
  replace f0 : (x_up S19 (a + 1) 5 (a + 12)) (a) = (x_g (X a) 4 (0)) := (x_up_o S19 (by omega)).trans f0
  replace f1 : (x_up S19 (a + 1) 5 (a + 12)) (a + 1) = (x_g (x_g (x_g (x_g (x_g (x_g (fun _ => -1) 0 (a + 2)) 1 (a + 4)) 2 (a + 6)) 3 (a + 8)) 4 (a + 10)) 5 (a + 12)) := (x_up_f _ _ _ _).trans (congrArg (fun g => x_g g 5 (a + 12)) f1)
  generalize (x_up S19 (a + 1) 5 (a + 12)) = S20 at fr sz1 f0 f1 ⊢
  replace sz := sz1
  clear sz1
  refine x_putFA B (k := 0) 0 rfl rfl rfl xc_2 (by decide) rfl hin rfl nn_2_0 (fun h => absurd h (by decide)) ka q242 (fun _ h => h) dX2_init_75 ?_
  replace fr : ∀ b, b ≠ -1 → (b < a ∨ a + 13 < b) → (x_up S20 (a) 0 (a + 1)) b = X b := fun b b1 b2 => (x_up_o S20 (by omega)).trans (fr b b1 b2)
  have sz1 : (x_up S20 (a) 0 (a + 1)) (-1) 0 = a + 14 := by rw [x_up_o _ (by omega)]; exact sz
  replace f0 : (x_up S20 (a) 0 (a + 1)) (a) = (x_g (x_g (X a) 4 (0)) 0 (a + 1)) := (x_up_f _ _ _ _).trans (congrArg (fun g => x_g g 0 (a + 1)) f0)
  replace f1 : (x_up S20 (a) 0 (a + 1)) (a + 1) = (x_g (x_g (x_g (x_g (x_g (x_g (fun _ => -1) 0 (a + 2)) 1 (a + 4)) 2 (a + 6)) 3 (a + 8)) 4 (a + 10)) 5 (a + 12)) := (x_up_o S20 (by omega)).trans f1
  generalize (x_up S20 (a) 0 (a + 1)) = S21 at fr sz1 f0 f1 ⊢
  replace sz := sz1
  clear sz1
  refine x_ripA B (a := a + 1) (t := 5) (t2 := 10) (n := 6) kb rfl rfl (fun q hq j j1 j2 => ?_) ?_
  · cases hq
    rw [f1]
    rcases (show j = 0 ∨ j = 1 ∨ j = 2 ∨ j = 3 ∨ j = 4 ∨ j = 5 by omega) with e | e | e | e | e | e <;> rw [e]
    · show a + 2 = a + 1 + 1 + 2 * 0; omega
    · show a + 4 = a + 1 + 1 + 2 * 1; omega
    · show a + 6 = a + 1 + 1 + 2 * 2; omega
    · show a + 8 = a + 1 + 1 + 2 * 3; omega
    · show a + 10 = a + 1 + 1 + 2 * 4; omega
    · show a + 12 = a + 1 + 1 + 2 * 5; omega
  refine x_rip B (a := a) (ci := 2) (by rw [x_ku_ne (by omega)]; exact ka) (fun j q hq => ?_) ?_
  · match j, hq with
    | 0, hq => cases hq; rw [f0]; rfl
    | 1, hq => cases hq
    | 2, hq => cases hq
    | 3, hq => cases hq
    | 4, hq => cases hq; rw [f0]; rfl
    | j + 5, hq => cases (show x_fx 2 (j + 5) = none from rfl).symm.trans hq
  refine x_wide (cells' := 13) (slots' := 72) (by omega) (by omega) ?_
  refine x_vret B (by rw [hκ13]; rw [hκ12]; rw [hκ11]; rw [hκ10]; rw [hκ9]; rw [hκ8]; rw [hκ7]; rw [hκ6]; rw [hκ5]; rw [hκ4]; rw [hκ3]; rw [hκ2]; rw [hκ1]; unfold k_meet; exact fun _ _ h => h) ?_ dX2_init_78
  exact ⟨rfl, fr, sz⟩
