def z8 (X Y : x_X) : Prop := (∀ b, b ≠ 64 → b ≠ 83 → b ≠ 84 → Y b = X b) ∧ ∀ i, i ≠ 33 → Y 64 i = X 64 i
theorem z8.rf (X : x_X) : z8 X X := ⟨fun _ _ _ _ => rfl, fun _ _ => rfl⟩
theorem z8.trans {X Y Z : x_X} (h : z8 X Y) (h2 : z8 Y Z) : z8 X Z := ⟨fun b b1 b2 b3 => (h2.1 b b1 b2 b3).trans (h.1 b b1 b2 b3), fun i i1 => (h2.2 i i1).trans (h.2 i i1)⟩
theorem z8.up {X Y : x_X} (h : z8 X Y) {b i z : Int} (hb : b = 83 ∨ b = 84) : z8 X (x_up Y b i z) := ⟨fun c c1 c2 c3 => by rw [x_up_o _ (by omega)]; exact h.1 c c1 c2 c3, fun j j1 => by rw [x_up_o _ (by omega)]; exact h.2 j j1⟩
theorem z8.u64 {X Y : x_X} (h : z8 X Y) {i z : Int} (hi : i = 33) : z8 X (x_up Y 64 i z) := ⟨fun c c1 c2 c3 => by rw [x_up_o _ c1]; exact h.1 c c1 c2 c3, fun j j1 => by rw [x_up_n _ (Or.inr (by omega))]; exact h.2 j j1⟩
theorem z8.h {X Y : x_X} (h : z8 X Y) : h_eq X Y := ⟨fun b b1 b2 b3 => h.1 b b1 (by omega) (by omega), fun i i1 i2 i3 => h.2 i (by omega)⟩
theorem z8.r {X Y : x_X} (h : z8 X Y) : hr8 X Y := ⟨h.1 65 (by omega) (by omega) (by omega), h.2 1 (by omega)⟩
/-- what the free looker of the twin needs -/
def e8 (κ : x_Ka) (X : x_X) (O : Int → Int → Int → Int) (A : Int → Int) (a : Int) : Prop := t_K κ X ∧ t_Ow X ∧ (0 ≤ a ∧ a < X 64 3) ∧ t_O X a = O ∧ (∀ v, 0 ≤ v → v ≤ 120 → X 80 v = A v) ∧ (∀ v, 0 ≤ v → v ≤ 120 → 0 ≤ A v ∧ A v ≤ 1000000) ∧ ∀ t x f, 0 ≤ t → t ≤ 2 → 0 ≤ f → 0 ≤ O t x f ∧ O t x f ≤ 1000
theorem e8.h {κ : x_Ka} {X Y : x_X} {O : Int → Int → Int → Int} {A : Int → Int} {a : Int} (h : e8 κ X O A a) (hh : h_eq X Y) (h80 : Y 80 = X 80) : e8 κ Y O A a := by
  obtain ⟨h1, h2, h3, h4, h5, h6, h7⟩ := h
  obtain ⟨e3, eM, el, eli, ep, eO, eG⟩ := hh.v
  refine ⟨?_, ?_, by rw [e3]; exact h3, by rw [eO]; exact h4, fun v v1 v2 => by rw [h80]; exact h5 v v1 v2, h6, h7⟩
  · unfold t_K at *; rw [e3]; exact h1
  · unfold t_Ow at *; rw [e3, hh.2 10 (by omega) (by omega) (by omega), hh.1 68 (by omega) (by omega) (by omega), hh.1 69 (by omega) (by omega) (by omega), hh.1 70 (by omega) (by omega) (by omega)]; exact h2
theorem e8.z {κ : x_Ka} {X Y : x_X} {O : Int → Int → Int → Int} {A : Int → Int} {a : Int} (h : e8 κ X O A a) (hz : z8 X Y) : e8 κ Y O A a := h.h hz.h (hz.1 80 (by omega) (by omega) (by omega))
def b8_can (r fl least best : Int) : Int := if (fl = 0 ∧ best = least - 1) ∨ (fl ≠ 0 ∧ (fl < r ∨ best = 0)) then 1 else 0
/-- the table of round r is laid -/
def r8 (Y : x_X) (O : Int → Int → Int → Int) (A : Int → Int) (t sum r : Int) : Prop := ∀ fl least best, (0 ≤ fl ∧ fl ≤ r) → (1 ≤ least ∧ least ≤ 41) → (0 ≤ best ∧ best < least) → b8_can r fl least best = 1 → Y 84 (42 * (42 * (4 * r + fl) + least) + best) = f_w O A 12 t sum r fl best least
theorem r8.e {X Y : x_X} {O : Int → Int → Int → Int} {A : Int → Int} {t sum r : Int} (h : r8 X O A t sum r) (he : Y 84 = X 84) : r8 Y O A t sum r := fun fl least best h1 h2 h3 h4 => by rw [he]; exact h fl least best h1 h2 h3 h4
/-- part of round r is laid -/
def rp8 (Y : x_X) (O : Int → Int → Int → Int) (A : Int → Int) (t sum r fl0 le0 be0 : Int) : Prop := ∀ fl least best, (0 ≤ fl ∧ fl ≤ r) → (1 ≤ least ∧ least ≤ 41) → (0 ≤ best ∧ best < least) → b8_can r fl least best = 1 → (fl < fl0 ∨ (fl = fl0 ∧ (least < le0 ∨ (least = le0 ∧ best < be0)))) → Y 84 (42 * (42 * (4 * r + fl) + least) + best) = f_w O A 12 t sum r fl best least
theorem rp8.w {Y : x_X} {O : Int → Int → Int → Int} {A : Int → Int} {t sum r a b c a2 b2 c2 : Int} (h : rp8 Y O A t sum r a b c) (hs : ∀ fl least best : Int, (0 ≤ fl ∧ fl ≤ r) → (1 ≤ least ∧ least ≤ 41) → (0 ≤ best ∧ best < least) → b8_can r fl least best = 1 → (fl < a2 ∨ (fl = a2 ∧ (least < b2 ∨ (least = b2 ∧ best < c2)))) → (fl < a ∨ (fl = a ∧ (least < b ∨ (least = b ∧ best < c))))) : rp8 Y O A t sum r a2 b2 c2 := fun fl least best h1 h2 h3 h4 h5 => h fl least best h1 h2 h3 h4 (hs fl least best h1 h2 h3 h4 h5)
theorem b8_i {r r2 fl fl2 le le2 be be2 : Int} (h1 : 0 ≤ fl ∧ fl ≤ 3) (h2 : 0 ≤ fl2 ∧ fl2 ≤ 3) (h3 : 0 ≤ le ∧ le ≤ 41) (h4 : 0 ≤ le2 ∧ le2 ≤ 41) (h5 : 0 ≤ be ∧ be ≤ 41) (h6 : 0 ≤ be2 ∧ be2 ≤ 41) (e : 42 * (42 * (4 * r + fl) + le) + be = 42 * (42 * (4 * r2 + fl2) + le2) + be2) : be = be2 ∧ le = le2 ∧ fl = fl2 ∧ r = r2 := by
  have e1 : be = be2 := by omega
  have e2 : le = le2 := by omega
  refine ⟨e1, e2, by omega, by omega⟩
theorem rp8.put {Y : x_X} {O : Int → Int → Int → Int} {A : Int → Int} {t sum r fl le be z : Int} (h : rp8 Y O A t sum r fl le be) (hr : 0 ≤ r ∧ r ≤ 3) (h1 : 0 ≤ fl ∧ fl ≤ r) (h2 : 1 ≤ le ∧ le ≤ 41) (h3 : 0 ≤ be ∧ be < le) (hz : z = f_w O A 12 t sum r fl be le) : rp8 (x_up Y 84 (42 * (42 * (4 * r + fl) + le) + be) z) O A t sum r fl le (be + 1) := by
  intro fl2 le2 be2 g1 g2 g3 g4 g5
  by_cases q : fl2 = fl ∧ le2 = le ∧ be2 = be
  · obtain ⟨rfl, rfl, rfl⟩ := q
    rw [x_up_s, hz]
  · rw [x_up_n _ (Or.inr (fun e => q (by have := b8_i (by omega) (by omega) (by omega) (by omega) (by omega) (by omega) e; omega)))]
    exact h fl2 le2 be2 g1 g2 g3 g4 (by omega)
theorem r8.put {Y : x_X} {O : Int → Int → Int → Int} {A : Int → Int} {t sum r r2 fl le be z : Int} (h : r8 Y O A t sum r2) (hr2 : 0 ≤ r2 ∧ r2 ≤ 3) (hr : 0 ≤ r ∧ r < r2) (h1 : 0 ≤ fl ∧ fl ≤ r) (h2 : 1 ≤ le ∧ le ≤ 41) (h3 : 0 ≤ be ∧ be < le) : r8 (x_up Y 84 (42 * (42 * (4 * r + fl) + le) + be) z) O A t sum r2 := by
  intro fl2 le2 be2 g1 g2 g3 g4
  rw [x_up_n _ (Or.inr (fun e => by have := b8_i (by omega) (by omega) (by omega) (by omega) (by omega) (by omega) e; omega))]
  exact h fl2 le2 be2 g1 g2 g3 g4
def b8_w (O : Int → Int → Int → Int) (A : Int → Int) (t s : Int) : Int := if t = 3 then A s else f_w O A 12 t s 0 0 0 1
/-- the worths behind lift t are laid -/
def bh8 (Y : x_X) (O : Int → Int → Int → Int) (A : Int → Int) (t : Int) : Prop := ∀ s, 0 ≤ s → s ≤ 40 * t → Y 83 (121 * t + s) = b8_w O A t s
theorem f_e_b (O : Int → Int → Int → Int) (A : Int → Int) {t sum best : Int} (ht : 0 ≤ t ∧ t ≤ 2) : f_e O A t sum best = if best = 0 then A 0 else b8_w O A (t + 1) (sum + best) := by
  unfold f_e b8_w
  by_cases q : best = 0
  · rw [if_pos q, if_pos q]
  · rw [if_neg q, if_neg q]
    by_cases q2 : t = 2
    · rw [if_pos q2, if_pos (by omega)]
    · rw [if_neg q2, if_neg (by omega)]
theorem f_e_r {O : Int → Int → Int → Int} {A : Int → Int} (hO : ∀ t x f, 0 ≤ t → t ≤ 2 → 0 ≤ f → 0 ≤ O t x f ∧ O t x f ≤ 1000) (hA : ∀ v, 0 ≤ v → v ≤ 120 → 0 ≤ A v ∧ A v ≤ 1000000) {t sum best : Int} (ht : 0 ≤ t ∧ t ≤ 2) (hs : 0 ≤ sum ∧ sum ≤ 40 * t) (hb : 0 ≤ best ∧ best ≤ 40) : 0 ≤ f_e O A t sum best ∧ f_e O A t sum best ≤ 1000000 := by
  unfold f_e
  split
  · exact hA _ (by omega) (by omega)
  · split
    · exact hA _ (by omega) (by omega)
    · exact f_w_r hO hA 12 _ _ _ _ _ _ (by omega) (by omega) (by omega) (by omega) (by omega)
theorem c_X8_cell {l : Launch} {E : x_E} {κ : x_Ka} {X : x_X} {r fl least best : Int} (hr : 0 ≤ r ∧ r ≤ 3) (hf : 0 ≤ fl ∧ fl ≤ 3) (hl : 0 ≤ least ∧ least ≤ 41) (hb : 0 ≤ best ∧ best ≤ 41) : x_Pu l yX8_cell cX8_cell 4 (some .int) 0 E κ X [vi r, vi fl, vi least, vi best] (vi (42 * (42 * (4 * r + fl) + least) + best)) := by
  refine x_Met.of [(false, vi r), (false, vi fl), (false, vi least), (false, vi best)] [some (vi r), some (vi fl), some (vi least), some (vi best)] 0 (by decide) rfl rfl ⟨rfl, rfl, rfl, rfl, trivial⟩ rfl rfl ?_
  intro p e s m args below meth c hargs hin B
  refine x_bipush B dX8_cell_0 (by decide) ?_
  refine x_bipush B dX8_cell_2 (by decide) ?_
  refine x_iconst B dX8_cell_4 ?_
  refine x_iload_n B dX8_cell_5 rfl ?_
  refine x_imul B dX8_cell_6 ?_
  refine x_iload_n B dX8_cell_7 rfl ?_
  refine x_iadd B dX8_cell_8 ?_
  refine x_imul B dX8_cell_9 ?_
  refine x_iload_n B dX8_cell_10 rfl ?_
  refine x_iadd B dX8_cell_11 ?_
  refine x_imul B dX8_cell_12 ?_
  refine x_iload_n B dX8_cell_13 rfl ?_
  refine x_iadd B dX8_cell_14 ?_
  refine x_iret B (fun _ _ h => h) ?_ dX8_cell_15
  exact ⟨rfl, rfl⟩
theorem c_X8_canBe {l : Launch} {E : x_E} {κ : x_Ka} {X : x_X} {r fl least best : Int} (hr : 0 ≤ r ∧ r ≤ 3) (hf : 0 ≤ fl ∧ fl ≤ 3) (hl : 0 ≤ least ∧ least ≤ 41) (hb : 0 ≤ best ∧ best ≤ 41) : x_Pu l yX8_canBe cX8_canBe 4 (some .boolean) 0 E κ X [vi r, vi fl, vi least, vi best] (vi (b8_can r fl least best)) := by
  refine x_Met.of [(false, vi r), (false, vi fl), (false, vi least), (false, vi best)] [some (vi r), some (vi fl), some (vi least), some (vi best)] 0 (by decide) rfl rfl ⟨rfl, rfl, rfl, rfl, trivial⟩ rfl rfl ?_
  intro p e s m args below meth c hargs hin B
  refine x_iload_n B dX8_canBe_0 rfl ?_
  refine x_if_ne B (tgt := 19) dX8_canBe_1 (by decide) ⟨by omega, by omega⟩ (fun h_1 => ?_) (fun h_1 => ?_)
  · refine x_iload_n B dX8_canBe_19 rfl ?_
    refine x_iload_n B dX8_canBe_20 rfl ?_
    refine x_icmp_lt B (tgt := 28) dX8_canBe_21 (by decide) ⟨by omega, by omega⟩ ⟨by omega, by omega⟩ (fun h_21 => ?_) (fun h_21 => ?_)
    · refine x_iconst B dX8_canBe_28 ?_
      refine x_goto B (tgt := 33) dX8_canBe_29 (by decide) ?_
      refine x_zret B (fun _ _ h => h) ⟨by omega, by omega⟩ ?_ dX8_canBe_33
      exact ⟨congrArg (fun z => some (vi z)) (by unfold b8_can; first | (rw [if_pos (by omega)]; done) | (rw [if_neg (by omega)]; done)), rfl⟩
    · refine x_iload_n B dX8_canBe_24 rfl ?_
      refine x_if_ne B (tgt := 32) dX8_canBe_25 (by decide) ⟨by omega, by omega⟩ (fun h_25 => ?_) (fun h_25 => ?_)
      · refine x_iconst B dX8_canBe_32 ?_
        refine x_zret B (fun _ _ h => h) ⟨by omega, by omega⟩ ?_ dX8_canBe_33
        exact ⟨congrArg (fun z => some (vi z)) (by unfold b8_can; first | (rw [if_pos (by omega)]; done) | (rw [if_neg (by omega)]; done)), rfl⟩
      · refine x_iconst B dX8_canBe_28 ?_
        refine x_goto B (tgt := 33) dX8_canBe_29 (by decide) ?_
        refine x_zret B (fun _ _ h => h) ⟨by omega, by omega⟩ ?_ dX8_canBe_33
        exact ⟨congrArg (fun z => some (vi z)) (by unfold b8_can; first | (rw [if_pos (by omega)]; done) | (rw [if_neg (by omega)]; done)), rfl⟩
  · refine x_iload_n B dX8_canBe_4 rfl ?_
    refine x_iload_n B dX8_canBe_5 rfl ?_
    refine x_iconst B dX8_canBe_6 ?_
    refine x_isub B dX8_canBe_7 ?_
    refine x_icmp_ne B (tgt := 15) dX8_canBe_8 (by decide) ⟨by omega, by omega⟩ ⟨by omega, by omega⟩ (fun h_8 => ?_) (fun h_8 => ?_)
    · refine x_iconst B dX8_canBe_15 ?_
      refine x_goto B (tgt := 33) dX8_canBe_16 (by decide) ?_
      refine x_zret B (fun _ _ h => h) ⟨by omega, by omega⟩ ?_ dX8_canBe_33
      exact ⟨congrArg (fun z => some (vi z)) (by unfold b8_can; first | (rw [if_pos (by omega)]; done) | (rw [if_neg (by omega)]; done)), rfl⟩
    · refine x_iconst B dX8_canBe_11 ?_
      refine x_goto B (tgt := 33) dX8_canBe_12 (by decide) ?_
      refine x_zret B (fun _ _ h => h) ⟨by omega, by omega⟩ ?_ dX8_canBe_33
      exact ⟨congrArg (fun z => some (vi z)) (by unfold b8_can; first | (rw [if_pos (by omega)]; done) | (rw [if_neg (by omega)]; done)), rfl⟩
theorem c_X8_ends {l : Launch} {E : x_E} {κ : x_Ka} {X : x_X} {O : Int → Int → Int → Int} {A : Int → Int} {a t best sum : Int} (h : e8 κ X O A a) (ht : 0 ≤ t ∧ t ≤ 2) (hs : 0 ≤ sum ∧ sum ≤ 40 * t) (hb : 0 ≤ best ∧ best ≤ 40) (hB : bh8 X O A (t + 1)) : x_Pu l yX8_ends cX8_ends 4 (some .int) 0 E κ X [x_rf E 64, vi t, vi best, vi sum] (vi (f_e O A t sum best)) := by
  refine x_Met.of [(false, x_rf E 64), (false, vi t), (false, vi best), (false, vi sum)] [some (x_rf E 64), some (vi t), some (vi best), some (vi sum)] 0 (by decide) rfl rfl ⟨x_cr E (64), rfl, rfl, rfl, trivial⟩ rfl rfl ?_
  intro p e s m args below meth c hargs hin B
  obtain ⟨hK, hO, ha, eO, eA, hA, hOr⟩ := id h
  obtain ⟨hT, h8, hn⟩ := id hK
  rw [f_e_b O A ht]
  refine x_iload_n B dX8_ends_0 rfl ?_
  refine x_if_ne B (tgt := 13) dX8_ends_1 (by decide) ⟨by omega, by omega⟩ (fun h_1 => ?_) (fun h_1 => ?_)
  · refine x_aload_n B dX8_ends_13 rfl ?_
    refine x_getC0 B (k := 31) hT rfl rfl xc_7 (by decide) h8 (Or.inl q1366) (fun _ h => h) dX8_ends_14 (fun k_14 => ?_)
    refine x_bipush B dX8_ends_17 (by decide) ?_
    refine x_iload_n B dX8_ends_19 rfl ?_
    refine x_iconst B dX8_ends_20 ?_
    refine x_iadd B dX8_ends_21 ?_
    refine x_imul B dX8_ends_22 ?_
    refine x_iload_n B dX8_ends_23 rfl ?_
    refine x_iadd B dX8_ends_24 ?_
    refine x_iload_n B dX8_ends_25 rfl ?_
    refine x_iadd B dX8_ends_26 ?_
    refine x_iald B k_14 ⟨by omega, by omega⟩ dX8_ends_27 (fun r_27 => ?_)
    first | (rw [eA 0 (by omega) (by omega)]; done) | skip
    refine x_iret B (fun _ _ h => h) ?_ dX8_ends_28
    exact ⟨congrArg (fun z => some (vi z)) (by first | (rw [if_pos (by omega), eA 0 (by omega) (by omega)]; done) | (rw [if_neg (by omega), ← hB (sum + best) (by omega) (by omega), show 121 * (t + 1) + sum + best = 121 * (t + 1) + (sum + best) by omega]; done)), rfl⟩
  · refine x_aload_n B dX8_ends_4 rfl ?_
    refine x_getC0 B (k := 28) hT rfl rfl xc_7 (by decide) h8 (Or.inl q1363) (fun _ h => h) dX8_ends_5 (fun k_5 => ?_)
    refine x_iconst B dX8_ends_8 ?_
    refine x_iald B k_5 ⟨by omega, by omega⟩ dX8_ends_9 (fun r_9 => ?_)
    refine x_goto B (tgt := 28) dX8_ends_10 (by decide) ?_
    first | (rw [eA 0 (by omega) (by omega)]; done) | skip
    refine x_iret B (fun _ _ h => h) ?_ dX8_ends_28
    exact ⟨congrArg (fun z => some (vi z)) (by first | (rw [if_pos (by omega), eA 0 (by omega) (by omega)]; done) | (rw [if_neg (by omega), ← hB (sum + best) (by omega) (by omega), show 121 * (t + 1) + sum + best = 121 * (t + 1) + (sum + best) by omega]; done)), rfl⟩
theorem c_X8_triesBest {l : Launch} {E : x_E} {κ : x_Ka} {X : x_X} {O : Int → Int → Int → Int} {A : Int → Int} {a t r fl least best sum : Int} (h : e8 κ X O A a) (ht : 0 ≤ t ∧ t ≤ 2) (hs : 0 ≤ sum ∧ sum ≤ 40 * t) (hr : 0 ≤ r ∧ r ≤ 2) (hf : 0 ≤ fl ∧ fl ≤ r) (hl : 1 ≤ least ∧ least ≤ 40) (hb : 0 ≤ best ∧ best < least) (hc : fl = r → best = 0) (hI : r8 X O A t sum (r + 1)) : x_De l yX8_triesBest cX8_triesBest 12 (some .int) 2 E κ X [x_rf E 64, vi a, vi t, vi r, vi fl, vi least, vi best] (vi (f_mx (f_v O A t sum r fl best) least).1) (x_up X 64 33 (f_d O A t sum r fl best least)) := by
  refine x_Met.of [(false, x_rf E 64), (false, vi a), (false, vi t), (false, vi r), (false, vi fl), (false, vi least), (false, vi best)] [some (x_rf E 64), some (vi a), some (vi t), some (vi r), some (vi fl), some (vi least), some (vi best), none, none, none, none, none] 5 (by decide) rfl rfl ⟨x_cr E (64), rfl, rfl, rfl, rfl, rfl, rfl, trivial⟩ rfl rfl ?_
  intro p e s m args below meth c hargs hin B
  obtain ⟨hK, hO, ha, eO, eA, hA, hOr⟩ := id h
  obtain ⟨hT, h8, hn⟩ := id hK
  have lp_12 : ∀ (n : Nat) (x most k : Int), ((least ≤ x ∧ x ≤ 41) ∧ (-1 ≤ most ∧ most ≤ 1000000) ∧ f_mx (f_v O A t sum r fl best) least = f_sc (f_v O A t sum r fl best) (41 - x).toNat x most k) → ((42 - x).toNat < n) → x_G p l e (x_rm 2 0 0) s m args below meth c 12 E 0 0 (MQ below (x_Q E κ (fun v_ X_ => v_ = some (vi (f_mx (f_v O A t sum r fl best) least).1) ∧ X_ = (x_up X 64 33 (f_d O A t sum r fl best least)))) args s 0 0 (fun q => E.1 ≤ q)) κ 12 [some (x_rf E 64), some (vi a), some (vi t), some (vi r), some (vi fl), some (vi least), some (vi best), some (vi most), some (vi x), none, none, none] [] (x_up X 64 33 k) := by
    intro n
    induction n with
    | zero => intro x most k hinv hme; exfalso; omega
    | succ n ih =>
      intro x most k hinv hme
      obtain ⟨hx, hm, hsc⟩ := hinv
      have h2 := h.z ((z8.rf X).u64 (i := 33) (z := k) rfl)
      obtain ⟨hK2, hO2, ha2, eO2, -, -, -⟩ := id h2
      have hoo := hOr t x fl ht.1 ht.2 hf.1
      have hg1 := f_w_r hOr hA 12 t sum (r + 1) fl x (x + 1) ht hs
      have hg2 := f_w_r hOr hA 12 t sum (r + 1) (fl + 1) best x ht hs (by omega) (by omega) (by omega)
      refine x_iload B dX8_triesBest_12 rfl ?_
      refine x_bipush B dX8_triesBest_14 (by decide) ?_
      refine x_icmp_gt B (tgt := 111) dX8_triesBest_16 (by decide) ⟨by omega, by omega⟩ ⟨by omega, by omega⟩ (fun h_16 => ?_) (fun h_16 => ?_)
      · refine x_iload B dX8_triesBest_111 rfl ?_
        refine x_iret B (fun _ _ h => h) ?_ dX8_triesBest_113
        have hxe : (41 - x).toNat = 0 := by omega
        rw [hxe] at hsc
        unfold f_sc at hsc
        unfold f_d
        rw [hsc]
        exact ⟨rfl, rfl⟩
      · have hg1 := hg1 (by omega) (by omega) (by omega)
        have hvx : (f_v O A t sum r fl best) x = p_mix (O t x fl) (f_w O A 12 t sum (r + 1) fl x (x + 1)) (f_w O A 12 t sum (r + 1) (fl + 1) best x) := rfl
        have hvr := (p_mix_r hoo hg1 hg2).2
        rw [← hvx] at hvr
        refine x_aload_n B dX8_triesBest_19 rfl ?_
        refine x_getC0 B (k := 32) hT rfl rfl xc_7 (by decide) h8 (Or.inl q1367) (fun _ h => h) dX8_triesBest_20 (fun k_20 => ?_)
        refine x_iload_n B dX8_triesBest_23 rfl ?_
        refine x_iconst B dX8_triesBest_24 ?_
        refine x_iadd B dX8_triesBest_25 ?_
        refine x_iload B dX8_triesBest_26 rfl ?_
        refine x_bipush B dX8_triesBest_28 (by decide) ?_
        refine x_iload B dX8_triesBest_30 rfl ?_
        refine x_iconst B dX8_triesBest_32 ?_
        refine x_iadd B dX8_triesBest_33 ?_
        refine x_min B ⟨by omega, by omega⟩ ⟨by omega, by omega⟩ q1809 q704 q130 q705 (by decide) (by simp [x_cr, x_c1, x_c2]) ⟨by decide, by decide⟩ dX8_triesBest_34 ?_
        rw [show min 41 (x + 1) = x + 1 by omega]
        refine x_iload B dX8_triesBest_37 rfl ?_
        refine x_goP (x_rS B (c_X8_cell ⟨by omega, by omega⟩ ⟨by omega, by omega⟩ ⟨by omega, by omega⟩ ⟨by omega, by omega⟩) (lw_S q1810 q1811 q122 q1812) hd_X8_cell ⟨by decide, by decide⟩ ⟨by decide, by decide⟩ rfl rfl (by simp [x_cr, x_c1, x_c2]) dX8_triesBest_39) ?_
        refine x_iald B k_20 ⟨by omega, by omega⟩ dX8_triesBest_42 (fun r_42 => ?_)
        have e42 : x_up X 64 33 k 84 (42 * (42 * (4 * (r + 1) + fl) + (x + 1)) + x) = f_w O A 12 t sum (r + 1) fl x (x + 1) := by rw [x_up_o _ (by omega)]; exact hI _ _ _ (by omega) (by omega) (by omega) (by unfold b8_can; rw [if_pos (by omega)])
        rw [e42] at r_42 ⊢
        refine x_istw_9 B dX8_triesBest_43 (by first | rfl | exact x_cr _ _) ?_
        refine x_aload_n B dX8_triesBest_45 rfl ?_
        refine x_getC0 B (k := 32) hT rfl rfl xc_7 (by decide) h8 (Or.inl q1367) (fun _ h => h) dX8_triesBest_46 (fun k_46 => ?_)
        refine x_iload_n B dX8_triesBest_49 rfl ?_
        refine x_iconst B dX8_triesBest_50 ?_
        refine x_iadd B dX8_triesBest_51 ?_
        refine x_iload B dX8_triesBest_52 rfl ?_
        refine x_iconst B dX8_triesBest_54 ?_
        refine x_iadd B dX8_triesBest_55 ?_
        refine x_iload B dX8_triesBest_56 rfl ?_
        refine x_iload B dX8_triesBest_58 rfl ?_
        refine x_goP (x_rS B (c_X8_cell ⟨by omega, by omega⟩ ⟨by omega, by omega⟩ ⟨by omega, by omega⟩ ⟨by omega, by omega⟩) (lw_S q1810 q1811 q122 q1812) hd_X8_cell ⟨by decide, by decide⟩ ⟨by decide, by decide⟩ rfl rfl (by simp [x_cr, x_c1, x_c2]) dX8_triesBest_60) ?_
        refine x_iald B k_46 ⟨by omega, by omega⟩ dX8_triesBest_63 (fun r_63 => ?_)
        have e63 : x_up X 64 33 k 84 (42 * (42 * (4 * (r + 1) + (fl + 1)) + x) + best) = f_w O A 12 t sum (r + 1) (fl + 1) best x := by rw [x_up_o _ (by omega)]; exact hI _ _ _ (by omega) (by omega) (by omega) (by unfold b8_can; rw [if_pos (by omega)])
        rw [e63] at r_63 ⊢
        refine x_istw_10 B dX8_triesBest_64 (by first | rfl | exact x_cr _ _) ?_
        refine x_aload_n B dX8_triesBest_66 rfl ?_
        refine x_iload_n B dX8_triesBest_67 rfl ?_
        refine x_iload_n B dX8_triesBest_68 rfl ?_
        refine x_iload B dX8_triesBest_69 rfl ?_
        refine x_iload B dX8_triesBest_71 rfl ?_
        refine x_goP (x_rV B h8 (show x_cl[7]? = some _ from rfl) (c_X8_oddsOf hK2 hO2 ha2 ⟨by omega, by omega⟩ ⟨by omega, by omega⟩ ⟨by omega, by omega⟩) (lw_V q1576 q1578 qs58 q122 q1579) hv_X8_oddsOf ⟨by decide, by decide⟩ ⟨by decide, by decide⟩ rfl rfl (by simp [x_cr, x_c1, x_c2]) dX8_triesBest_73) ?_
        rw [eO2]
        refine x_iload B dX8_triesBest_76 rfl ?_
        refine x_iload B dX8_triesBest_78 rfl ?_
        refine x_goP (x_rS B (c_X8_expected hoo hg1 hg2) (lw_S q1713 q1714 q122 q1715) hd_X8_expected ⟨by decide, by decide⟩ ⟨by decide, by decide⟩ rfl rfl (by simp [x_cr, x_c1, x_c2]) dX8_triesBest_80) ?_
        rw [← hvx]
        refine x_istw_11 B dX8_triesBest_83 (by first | rfl | exact x_cr _ _) ?_
        refine x_iload B dX8_triesBest_85 rfl ?_
        refine x_iload B dX8_triesBest_87 rfl ?_
        refine x_icmp_gt B (tgt := 95) dX8_triesBest_89 (by decide) ⟨by omega, by omega⟩ ⟨by omega, by omega⟩ (fun h_89 => ?_) (fun h_89 => ?_)
        · refine x_iload B dX8_triesBest_95 rfl ?_
          refine x_istw_7 B dX8_triesBest_97 (by first | rfl | exact x_cr _ _) ?_
          refine x_aload_n B dX8_triesBest_99 rfl ?_
          refine x_iload B dX8_triesBest_100 rfl ?_
          refine x_putI B (k := 33) 33 rfl rfl rfl ⟨by omega, by omega⟩ xc_7 (by decide) rfl nn_7_33 (fun _ => rfl) h8 (Or.inl q1368) (fun _ h => h) dX8_triesBest_102 ?_
          refine x_iinc_8 B dX8_triesBest_105 (by first | rfl | exact x_cr _ _) ?_
          refine x_goto B (tgt := 12) dX8_triesBest_108 (by decide) ?_
          refine x_fg_9 ?_
          refine x_fg_10 ?_
          refine x_fg_11 ?_
          have hs1 : (41 - x).toNat = (41 - (x + 1)).toNat + 1 := by omega
          rw [hs1] at hsc
          unfold f_sc at hsc
          first
          | (rw [x_up_t]; refine ih _ _ _ ⟨⟨by omega, by omega⟩, ⟨by omega, by omega⟩, ?_⟩ (by omega); rw [hsc, if_pos (show (f_v O A t sum r fl best) x > most from h_89)])
          | (refine ih _ _ _ ⟨⟨by omega, by omega⟩, ⟨by omega, by omega⟩, ?_⟩ (by omega); rw [hsc, if_neg (show ¬ (f_v O A t sum r fl best) x > most from Int.not_lt.mpr h_89)])
        · refine x_goto B (tgt := 105) dX8_triesBest_92 (by decide) ?_
          refine x_iinc_8 B dX8_triesBest_105 (by first | rfl | exact x_cr _ _) ?_
          refine x_goto B (tgt := 12) dX8_triesBest_108 (by decide) ?_
          refine x_fg_9 ?_
          refine x_fg_10 ?_
          refine x_fg_11 ?_
          have hs1 : (41 - x).toNat = (41 - (x + 1)).toNat + 1 := by omega
          rw [hs1] at hsc
          unfold f_sc at hsc
          first
          | (rw [x_up_t]; refine ih _ _ _ ⟨⟨by omega, by omega⟩, ⟨by omega, by omega⟩, ?_⟩ (by omega); rw [hsc, if_pos (show (f_v O A t sum r fl best) x > most from h_89)])
          | (refine ih _ _ _ ⟨⟨by omega, by omega⟩, ⟨by omega, by omega⟩, ?_⟩ (by omega); rw [hsc, if_neg (show ¬ (f_v O A t sum r fl best) x > most from Int.not_lt.mpr h_89)])
  refine x_aload_n B dX8_triesBest_0 rfl ?_
  refine x_iconst B dX8_triesBest_1 ?_
  refine x_putI B (k := 33) 33 rfl rfl rfl ⟨by omega, by omega⟩ xc_7 (by decide) rfl nn_7_33 (fun _ => rfl) h8 (Or.inl q1368) (fun _ h => h) dX8_triesBest_2 ?_
  refine x_iconst B dX8_triesBest_5 ?_
  refine x_istw_7 B dX8_triesBest_6 (by first | rfl | exact x_cr _ _) ?_
  refine x_iload B dX8_triesBest_8 rfl ?_
  refine x_istw_8 B dX8_triesBest_10 (by first | rfl | exact x_cr _ _) ?_
  refine lp_12 _ _ _ _ ⟨⟨by omega, by omega⟩, ⟨by omega, by omega⟩, rfl⟩ (Nat.lt_succ_self _)
theorem c_X8_laysRounds {l : Launch} {E : x_E} {κ : x_Ka} {X : x_X} {O : Int → Int → Int → Int} {A : Int → Int} {a t fr sum : Int} (h : e8 κ X O A a) (ht : 0 ≤ t ∧ t ≤ 2) (hs : 0 ≤ sum ∧ sum ≤ 40 * t) (hfr : 0 ≤ fr ∧ fr ≤ 3) (hB : bh8 X O A (t + 1)) : x_Met l yX8_laysRounds cX8_laysRounds 10 none 3 0 0 E κ X [x_rf E 64, vi a, vi t, vi fr, vi sum] κ (fun v_ Y => v_ = none ∧ z8 X Y ∧ Y 83 = X 83 ∧ (∀ u, fr < u → u ≤ 3 → r8 Y O A t sum u)) := by
  refine x_Met.of [(false, x_rf E 64), (false, vi a), (false, vi t), (false, vi fr), (false, vi sum)] [some (x_rf E 64), some (vi a), some (vi t), some (vi fr), some (vi sum), none, none, none, none, none] 5 (by decide) rfl rfl ⟨x_cr E (64), rfl, rfl, rfl, rfl, trivial⟩ rfl rfl ?_
  intro p e s m args below meth c hargs hin B
  obtain ⟨hK, hO, ha, eO, eA, hA, hOr⟩ := id h
  obtain ⟨hT, h8, hn⟩ := id hK
  have lp_3 : ∀ (n : Nat) (r : Int) (Y : x_X), ((fr ≤ r ∧ r ≤ 3) ∧ (z8 X Y ∧ Y 83 = X 83) ∧ (∀ u, r < u → u ≤ 3 → r8 Y O A t sum u)) → (r.toNat < n) → x_G p l e (x_rm 3 0 0) s m args below meth c 10 E 0 0 (MQ below (x_Q E κ (fun v_ Y => v_ = none ∧ z8 X Y ∧ Y 83 = X 83 ∧ (∀ u, fr < u → u ≤ 3 → r8 Y O A t sum u))) args s 0 0 (fun q => E.1 ≤ q)) κ 3 [some (x_rf E 64), some (vi a), some (vi t), some (vi fr), some (vi sum), some (vi r), none, none, none, none] [] Y := by
    intro n
    induction n with
    | zero => intro r Y hinv hme; exfalso; omega
    | succ n ih =>
      intro r Y hinv hme
      have ih3 := ih
      obtain ⟨hr, ⟨hz, e83⟩, hR⟩ := hinv
      have lp_12 : ∀ (n : Nat) (fl : Int) (Y : x_X), (fr < r ∧ (0 ≤ fl ∧ fl ≤ r + 1) ∧ (z8 X Y ∧ Y 83 = X 83) ∧ (∀ u, r < u → u ≤ 3 → r8 Y O A t sum u) ∧ rp8 Y O A t sum r fl 0 0) → ((5 - fl).toNat < n) → x_G p l e (x_rm 3 0 0) s m args below meth c 10 E 0 0 (MQ below (x_Q E κ (fun v_ Y => v_ = none ∧ z8 X Y ∧ Y 83 = X 83 ∧ (∀ u, fr < u → u ≤ 3 → r8 Y O A t sum u))) args s 0 0 (fun q => E.1 ≤ q)) κ 12 [some (x_rf E 64), some (vi a), some (vi t), some (vi fr), some (vi sum), some (vi r), some (vi fl), none, none, none] [] Y := by
        intro n
        induction n with
        | zero => intro fl Y hin2 hme; exfalso; omega
        | succ n ih =>
          intro fl Y hin2 hme
          have ih12 := ih
          obtain ⟨hrf, hf, ⟨hz, e83⟩, hR, hQ⟩ := hin2
          have lp_22 : ∀ (n : Nat) (le : Int) (Y : x_X), ((0 ≤ fl ∧ fl ≤ r) ∧ (1 ≤ le ∧ le ≤ 42) ∧ (z8 X Y ∧ Y 83 = X 83) ∧ (∀ u, r < u → u ≤ 3 → r8 Y O A t sum u) ∧ rp8 Y O A t sum r fl le 0) → ((43 - le).toNat < n) → x_G p l e (x_rm 3 0 0) s m args below meth c 10 E 0 0 (MQ below (x_Q E κ (fun v_ Y => v_ = none ∧ z8 X Y ∧ Y 83 = X 83 ∧ (∀ u, fr < u → u ≤ 3 → r8 Y O A t sum u))) args s 0 0 (fun q => E.1 ≤ q)) κ 22 [some (x_rf E 64), some (vi a), some (vi t), some (vi fr), some (vi sum), some (vi r), some (vi fl), some (vi le), none, none] [] Y := by
            intro n
            induction n with
            | zero => intro le Y hin3 hme; exfalso; omega
            | succ n ih =>
              intro le Y hin3 hme
              have ih22 := ih
              obtain ⟨hf, hl, ⟨hz, e83⟩, hR, hQ⟩ := hin3
              have lp_32 : ∀ (n : Nat) (be : Int) (Y : x_X), ((1 ≤ le ∧ le ≤ 41) ∧ (0 ≤ be ∧ be ≤ le) ∧ (z8 X Y ∧ Y 83 = X 83) ∧ (∀ u, r < u → u ≤ 3 → r8 Y O A t sum u) ∧ rp8 Y O A t sum r fl le be) → ((43 - be).toNat < n) → x_G p l e (x_rm 3 0 0) s m args below meth c 10 E 0 0 (MQ below (x_Q E κ (fun v_ Y => v_ = none ∧ z8 X Y ∧ Y 83 = X 83 ∧ (∀ u, fr < u → u ≤ 3 → r8 Y O A t sum u))) args s 0 0 (fun q => E.1 ≤ q)) κ 32 [some (x_rf E 64), some (vi a), some (vi t), some (vi fr), some (vi sum), some (vi r), some (vi fl), some (vi le), some (vi be), none] [] Y := by
                intro n
                induction n with
                | zero => intro be Y hin4 hme; exfalso; omega
                | succ n ih =>
                  intro be Y hin4 hme
                  obtain ⟨hl, hb, ⟨hz, e83⟩, hR, hQ⟩ := hin4
                  have hY := h.z hz
                  have hBY : bh8 Y O A (t + 1) := fun s s1 s2 => by rw [e83]; exact hB s s1 s2
                  have hcn : b8_can r fl le be = 0 ∨ b8_can r fl le be = 1 := by unfold b8_can; split <;> omega
                  refine x_iload B dX8_laysRounds_32 rfl ?_
                  refine x_iload B dX8_laysRounds_34 rfl ?_
                  refine x_icmp_ge B (tgt := 121) dX8_laysRounds_36 (by decide) ⟨by omega, by omega⟩ ⟨by omega, by omega⟩ (fun h_36 => ?_) (fun h_36 => ?_)
                  · refine x_iinc_7 B dX8_laysRounds_121 (by first | rfl | exact x_cr _ _) ?_
                    refine x_goto B (tgt := 22) dX8_laysRounds_124 (by decide) ?_
                    refine x_fg_8 ?_
                    refine ih22 _ _ ⟨hf, ⟨by omega, by omega⟩, ⟨hz, e83⟩, hR, hQ.w (fun f2 l2 b2 g1 g2 g3 g4 g5 => by omega)⟩ (by omega)
                  · refine x_iload B dX8_laysRounds_39 rfl ?_
                    refine x_iload B dX8_laysRounds_41 rfl ?_
                    refine x_iload B dX8_laysRounds_43 rfl ?_
                    refine x_iload B dX8_laysRounds_45 rfl ?_
                    refine x_goP (x_rS B (c_X8_canBe ⟨by omega, by omega⟩ ⟨by omega, by omega⟩ ⟨by omega, by omega⟩ ⟨by omega, by omega⟩) (lw_S q1798 q1799 q122 q1800) hd_X8_canBe ⟨by decide, by decide⟩ ⟨by decide, by decide⟩ rfl rfl (by simp [x_cr, x_c1, x_c2]) dX8_laysRounds_47) ?_
                    refine x_if_ne B (tgt := 56) dX8_laysRounds_50 (by decide) ⟨by omega, by omega⟩ (fun h_50 => ?_) (fun h_50 => ?_)
                    · refine x_iload B dX8_laysRounds_56 rfl ?_
                      refine x_iconst B dX8_laysRounds_58 ?_
                      refine x_icmp_eq B (tgt := 69) dX8_laysRounds_59 (by decide) ⟨by omega, by omega⟩ ⟨by omega, by omega⟩ (fun h_59 => ?_) (fun h_59 => ?_)
                      · have hev : f_e O A t sum be = f_w O A 12 t sum r fl be le := by rw [f_wE ht (by omega), if_pos (by omega)]; rfl
                        have hvr := f_e_r hOr hA (best := be) ht hs (by omega)
                        refine x_aload_n B dX8_laysRounds_69 rfl ?_
                        refine x_iload_n B dX8_laysRounds_70 rfl ?_
                        refine x_iload B dX8_laysRounds_71 rfl ?_
                        refine x_iload B dX8_laysRounds_73 rfl ?_
                        refine x_goP (x_rV B h8 (show x_cl[7]? = some _ from rfl) (c_X8_ends hY ht hs ⟨by omega, by omega⟩ hBY) (lw_V q1801 q1803 qs92 q122 q1804) hv_X8_ends ⟨by decide, by decide⟩ ⟨by decide, by decide⟩ rfl rfl (by simp [x_cr, x_c1, x_c2]) dX8_laysRounds_75) ?_
                        refine x_goto B (tgt := 95) dX8_laysRounds_78 (by decide) ?_
                        refine x_istw_9 B dX8_laysRounds_95 (by first | rfl | exact x_cr _ _) ?_
                        refine x_aload_n B dX8_laysRounds_97 rfl ?_
                        refine x_getC0 B (k := 32) hT rfl rfl xc_7 (by decide) h8 (Or.inl q1367) (fun _ h => h) dX8_laysRounds_98 (fun k_98 => ?_)
                        refine x_iload B dX8_laysRounds_101 rfl ?_
                        refine x_iload B dX8_laysRounds_103 rfl ?_
                        refine x_iload B dX8_laysRounds_105 rfl ?_
                        refine x_iload B dX8_laysRounds_107 rfl ?_
                        refine x_goP (x_rS B (c_X8_cell ⟨by omega, by omega⟩ ⟨by omega, by omega⟩ ⟨by omega, by omega⟩ ⟨by omega, by omega⟩) (lw_S q1810 q1811 q122 q1812) hd_X8_cell ⟨by decide, by decide⟩ ⟨by decide, by decide⟩ rfl rfl (by simp [x_cr, x_c1, x_c2]) dX8_laysRounds_109) ?_
                        refine x_iload B dX8_laysRounds_112 rfl ?_
                        refine x_iast B k_98 ⟨by omega, by omega⟩ ⟨by omega, by omega⟩ dX8_laysRounds_114 ?_
                        refine x_iinc_8 B dX8_laysRounds_115 (by first | rfl | exact x_cr _ _) ?_
                        refine x_goto B (tgt := 32) dX8_laysRounds_118 (by decide) ?_
                        refine x_fg_9 ?_
                        have hbn : 0 ≤ be + 1 ∧ be + 1 ≤ le := by omega
                        have hmn : (43 - (be + 1)).toNat < n := by omega
                        first
                        | exact ih _ _ ⟨hl, hbn, ⟨hz, e83⟩, hR, hQ.w (fun f2 l2 b2 g1 g2 g3 g4 g5 => by by_cases q : f2 = fl ∧ l2 = le ∧ b2 = be; (obtain ⟨rfl, rfl, rfl⟩ := q; omega); omega)⟩ hmn
                        | exact ih _ _ ⟨hl, hbn, ⟨hz.up (Or.inr rfl), (x_up_o _ (by omega)).trans e83⟩, fun u u1 u2 => (hR u u1 u2).put (by omega) (by omega) hf hl (by omega), hQ.put (by omega) hf hl (by omega) hev⟩ hmn
                        | exact ih _ _ ⟨hl, hbn, ⟨(hz.u64 rfl).up (Or.inr rfl), (x_up_o _ (by omega)).trans ((x_up_o _ (by omega)).trans e83)⟩, fun u u1 u2 => ((hR u u1 u2).e (x_up_o _ (by omega))).put (by omega) (by omega) hf hl (by omega), rp8.put (Y := x_up Y 64 33 _) (fun f2 l2 b2 g1 g2 g3 g4 g5 => (congrFun (x_up_o _ (by omega)) _).trans (hQ f2 l2 b2 g1 g2 g3 g4 g5)) (by omega) hf hl (by omega) hev2⟩ hmn
                      · refine x_iload B dX8_laysRounds_62 rfl ?_
                        refine x_bipush B dX8_laysRounds_64 (by decide) ?_
                        refine x_icmp_le B (tgt := 81) dX8_laysRounds_66 (by decide) ⟨by omega, by omega⟩ ⟨by omega, by omega⟩ (fun h_66 => ?_) (fun h_66 => ?_)
                        · have hev2 : (f_mx (f_v O A t sum r fl be) le).1 = f_w O A 12 t sum r fl be le := by rw [f_wE ht (by omega), if_neg (by omega)]
                          have hcx : fl = r → be = 0 := by unfold b8_can at hcn h_50; intro q; split at h_50 <;> omega
                          have hvr := f_w_r hOr hA 12 t sum r fl be le ht hs (by omega) (by omega) (by omega)
                          rw [← hev2] at hvr
                          refine x_aload_n B dX8_laysRounds_81 rfl ?_
                          refine x_iload_n B dX8_laysRounds_82 rfl ?_
                          refine x_iload_n B dX8_laysRounds_83 rfl ?_
                          refine x_iload B dX8_laysRounds_84 rfl ?_
                          refine x_iload B dX8_laysRounds_86 rfl ?_
                          refine x_iload B dX8_laysRounds_88 rfl ?_
                          refine x_iload B dX8_laysRounds_90 rfl ?_
                          refine x_goP (x_rV B h8 (show x_cl[7]? = some _ from rfl) (c_X8_triesBest hY ht hs ⟨by omega, by omega⟩ hf ⟨by omega, by omega⟩ ⟨by omega, by omega⟩ hcx (hR (r + 1) (by omega) (by omega))) (lw_V q1805 q1807 qs93 q122 q1808) hv_X8_triesBest ⟨by decide, by decide⟩ ⟨by decide, by decide⟩ rfl rfl (by simp [x_cr, x_c1, x_c2]) dX8_laysRounds_92) ?_
                          refine x_istw_9 B dX8_laysRounds_95 (by first | rfl | exact x_cr _ _) ?_
                          refine x_aload_n B dX8_laysRounds_97 rfl ?_
                          refine x_getC0 B (k := 32) hT rfl rfl xc_7 (by decide) h8 (Or.inl q1367) (fun _ h => h) dX8_laysRounds_98 (fun k_98 => ?_)
                          refine x_iload B dX8_laysRounds_101 rfl ?_
                          refine x_iload B dX8_laysRounds_103 rfl ?_
                          refine x_iload B dX8_laysRounds_105 rfl ?_
                          refine x_iload B dX8_laysRounds_107 rfl ?_
                          refine x_goP (x_rS B (c_X8_cell ⟨by omega, by omega⟩ ⟨by omega, by omega⟩ ⟨by omega, by omega⟩ ⟨by omega, by omega⟩) (lw_S q1810 q1811 q122 q1812) hd_X8_cell ⟨by decide, by decide⟩ ⟨by decide, by decide⟩ rfl rfl (by simp [x_cr, x_c1, x_c2]) dX8_laysRounds_109) ?_
                          refine x_iload B dX8_laysRounds_112 rfl ?_
                          refine x_iast B k_98 ⟨by omega, by omega⟩ ⟨by omega, by omega⟩ dX8_laysRounds_114 ?_
                          refine x_iinc_8 B dX8_laysRounds_115 (by first | rfl | exact x_cr _ _) ?_
                          refine x_goto B (tgt := 32) dX8_laysRounds_118 (by decide) ?_
                          refine x_fg_9 ?_
                          have hbn : 0 ≤ be + 1 ∧ be + 1 ≤ le := by omega
                          have hmn : (43 - (be + 1)).toNat < n := by omega
                          first
                          | exact ih _ _ ⟨hl, hbn, ⟨hz, e83⟩, hR, hQ.w (fun f2 l2 b2 g1 g2 g3 g4 g5 => by by_cases q : f2 = fl ∧ l2 = le ∧ b2 = be; (obtain ⟨rfl, rfl, rfl⟩ := q; omega); omega)⟩ hmn
                          | exact ih _ _ ⟨hl, hbn, ⟨hz.up (Or.inr rfl), (x_up_o _ (by omega)).trans e83⟩, fun u u1 u2 => (hR u u1 u2).put (by omega) (by omega) hf hl (by omega), hQ.put (by omega) hf hl (by omega) hev⟩ hmn
                          | exact ih _ _ ⟨hl, hbn, ⟨(hz.u64 rfl).up (Or.inr rfl), (x_up_o _ (by omega)).trans ((x_up_o _ (by omega)).trans e83)⟩, fun u u1 u2 => ((hR u u1 u2).e (x_up_o _ (by omega))).put (by omega) (by omega) hf hl (by omega), rp8.put (Y := x_up Y 64 33 _) (fun f2 l2 b2 g1 g2 g3 g4 g5 => (congrFun (x_up_o _ (by omega)) _).trans (hQ f2 l2 b2 g1 g2 g3 g4 g5)) (by omega) hf hl (by omega) hev2⟩ hmn
                        · have hev : f_e O A t sum be = f_w O A 12 t sum r fl be le := by rw [f_wE ht (by omega), if_pos (by omega)]; rfl
                          have hvr := f_e_r hOr hA (best := be) ht hs (by omega)
                          refine x_aload_n B dX8_laysRounds_69 rfl ?_
                          refine x_iload_n B dX8_laysRounds_70 rfl ?_
                          refine x_iload B dX8_laysRounds_71 rfl ?_
                          refine x_iload B dX8_laysRounds_73 rfl ?_
                          refine x_goP (x_rV B h8 (show x_cl[7]? = some _ from rfl) (c_X8_ends hY ht hs ⟨by omega, by omega⟩ hBY) (lw_V q1801 q1803 qs92 q122 q1804) hv_X8_ends ⟨by decide, by decide⟩ ⟨by decide, by decide⟩ rfl rfl (by simp [x_cr, x_c1, x_c2]) dX8_laysRounds_75) ?_
                          refine x_goto B (tgt := 95) dX8_laysRounds_78 (by decide) ?_
                          refine x_istw_9 B dX8_laysRounds_95 (by first | rfl | exact x_cr _ _) ?_
                          refine x_aload_n B dX8_laysRounds_97 rfl ?_
                          refine x_getC0 B (k := 32) hT rfl rfl xc_7 (by decide) h8 (Or.inl q1367) (fun _ h => h) dX8_laysRounds_98 (fun k_98 => ?_)
                          refine x_iload B dX8_laysRounds_101 rfl ?_
                          refine x_iload B dX8_laysRounds_103 rfl ?_
                          refine x_iload B dX8_laysRounds_105 rfl ?_
                          refine x_iload B dX8_laysRounds_107 rfl ?_
                          refine x_goP (x_rS B (c_X8_cell ⟨by omega, by omega⟩ ⟨by omega, by omega⟩ ⟨by omega, by omega⟩ ⟨by omega, by omega⟩) (lw_S q1810 q1811 q122 q1812) hd_X8_cell ⟨by decide, by decide⟩ ⟨by decide, by decide⟩ rfl rfl (by simp [x_cr, x_c1, x_c2]) dX8_laysRounds_109) ?_
                          refine x_iload B dX8_laysRounds_112 rfl ?_
                          refine x_iast B k_98 ⟨by omega, by omega⟩ ⟨by omega, by omega⟩ dX8_laysRounds_114 ?_
                          refine x_iinc_8 B dX8_laysRounds_115 (by first | rfl | exact x_cr _ _) ?_
                          refine x_goto B (tgt := 32) dX8_laysRounds_118 (by decide) ?_
                          refine x_fg_9 ?_
                          have hbn : 0 ≤ be + 1 ∧ be + 1 ≤ le := by omega
                          have hmn : (43 - (be + 1)).toNat < n := by omega
                          first
                          | exact ih _ _ ⟨hl, hbn, ⟨hz, e83⟩, hR, hQ.w (fun f2 l2 b2 g1 g2 g3 g4 g5 => by by_cases q : f2 = fl ∧ l2 = le ∧ b2 = be; (obtain ⟨rfl, rfl, rfl⟩ := q; omega); omega)⟩ hmn
                          | exact ih _ _ ⟨hl, hbn, ⟨hz.up (Or.inr rfl), (x_up_o _ (by omega)).trans e83⟩, fun u u1 u2 => (hR u u1 u2).put (by omega) (by omega) hf hl (by omega), hQ.put (by omega) hf hl (by omega) hev⟩ hmn
                          | exact ih _ _ ⟨hl, hbn, ⟨(hz.u64 rfl).up (Or.inr rfl), (x_up_o _ (by omega)).trans ((x_up_o _ (by omega)).trans e83)⟩, fun u u1 u2 => ((hR u u1 u2).e (x_up_o _ (by omega))).put (by omega) (by omega) hf hl (by omega), rp8.put (Y := x_up Y 64 33 _) (fun f2 l2 b2 g1 g2 g3 g4 g5 => (congrFun (x_up_o _ (by omega)) _).trans (hQ f2 l2 b2 g1 g2 g3 g4 g5)) (by omega) hf hl (by omega) hev2⟩ hmn
                    · refine x_goto B (tgt := 115) dX8_laysRounds_53 (by decide) ?_
                      refine x_iinc_8 B dX8_laysRounds_115 (by first | rfl | exact x_cr _ _) ?_
                      refine x_goto B (tgt := 32) dX8_laysRounds_118 (by decide) ?_
                      refine x_fg_9 ?_
                      have hbn : 0 ≤ be + 1 ∧ be + 1 ≤ le := by omega
                      have hmn : (43 - (be + 1)).toNat < n := by omega
                      first
                      | exact ih _ _ ⟨hl, hbn, ⟨hz, e83⟩, hR, hQ.w (fun f2 l2 b2 g1 g2 g3 g4 g5 => by by_cases q : f2 = fl ∧ l2 = le ∧ b2 = be; (obtain ⟨rfl, rfl, rfl⟩ := q; omega); omega)⟩ hmn
                      | exact ih _ _ ⟨hl, hbn, ⟨hz.up (Or.inr rfl), (x_up_o _ (by omega)).trans e83⟩, fun u u1 u2 => (hR u u1 u2).put (by omega) (by omega) hf hl (by omega), hQ.put (by omega) hf hl (by omega) hev⟩ hmn
                      | exact ih _ _ ⟨hl, hbn, ⟨(hz.u64 rfl).up (Or.inr rfl), (x_up_o _ (by omega)).trans ((x_up_o _ (by omega)).trans e83)⟩, fun u u1 u2 => ((hR u u1 u2).e (x_up_o _ (by omega))).put (by omega) (by omega) hf hl (by omega), rp8.put (Y := x_up Y 64 33 _) (fun f2 l2 b2 g1 g2 g3 g4 g5 => (congrFun (x_up_o _ (by omega)) _).trans (hQ f2 l2 b2 g1 g2 g3 g4 g5)) (by omega) hf hl (by omega) hev2⟩ hmn
              refine x_iload B dX8_laysRounds_22 rfl ?_
              refine x_bipush B dX8_laysRounds_24 (by decide) ?_
              refine x_icmp_ge B (tgt := 127) dX8_laysRounds_26 (by decide) ⟨by omega, by omega⟩ ⟨by omega, by omega⟩ (fun h_26 => ?_) (fun h_26 => ?_)
              · refine x_iinc_6 B dX8_laysRounds_127 (by first | rfl | exact x_cr _ _) ?_
                refine x_goto B (tgt := 12) dX8_laysRounds_130 (by decide) ?_
                refine x_fg_7 ?_
                refine ih12 _ _ ⟨hrf, ⟨by omega, by omega⟩, ⟨hz, e83⟩, hR, hQ.w (fun f2 l2 b2 g1 g2 g3 g4 g5 => by omega)⟩ (by omega)
              · refine x_iconst B dX8_laysRounds_29 ?_
                refine x_istw_8 B dX8_laysRounds_30 (by first | rfl | exact x_cr _ _) ?_
                exact lp_32 _ 0 Y ⟨⟨by omega, by omega⟩, ⟨by omega, by omega⟩, ⟨hz, e83⟩, hR, hQ⟩ (Nat.lt_succ_self _)
          refine x_iload B dX8_laysRounds_12 rfl ?_
          refine x_iload B dX8_laysRounds_14 rfl ?_
          refine x_icmp_gt B (tgt := 133) dX8_laysRounds_16 (by decide) ⟨by omega, by omega⟩ ⟨by omega, by omega⟩ (fun h_16 => ?_) (fun h_16 => ?_)
          · refine x_iinc_5 B dX8_laysRounds_133 (by first | rfl | exact x_cr _ _) ?_
            refine x_goto B (tgt := 3) dX8_laysRounds_136 (by decide) ?_
            refine x_fg_6 ?_
            refine ih3 _ _ ⟨⟨by omega, by omega⟩, ⟨hz, e83⟩, fun u u1 u2 => ?_⟩ (by omega)
            by_cases e : u = r
            · subst e; exact fun f2 l2 b2 g1 g2 g3 g4 => hQ f2 l2 b2 g1 g2 g3 g4 (by omega)
            · exact hR u (by omega) u2
          · refine x_iconst B dX8_laysRounds_19 ?_
            refine x_istw_7 B dX8_laysRounds_20 (by first | rfl | exact x_cr _ _) ?_
            exact lp_22 _ 1 Y ⟨⟨by omega, by omega⟩, ⟨by omega, by omega⟩, ⟨hz, e83⟩, hR, hQ.w (fun f2 l2 b2 g1 g2 g3 g4 g5 => by omega)⟩ (Nat.lt_succ_self _)
      refine x_iload B dX8_laysRounds_3 rfl ?_
      refine x_iload_n B dX8_laysRounds_5 rfl ?_
      refine x_icmp_le B (tgt := 139) dX8_laysRounds_6 (by decide) ⟨by omega, by omega⟩ ⟨by omega, by omega⟩ (fun h_6 => ?_) (fun h_6 => ?_)
      · refine x_vret B (fun _ _ h => h) ?_ dX8_laysRounds_139
        obtain rfl : r = fr := by omega
        exact ⟨rfl, hz, e83, hR⟩
      · refine x_iconst B dX8_laysRounds_9 ?_
        refine x_istw_6 B dX8_laysRounds_10 (by first | rfl | exact x_cr _ _) ?_
        exact lp_12 _ 0 Y ⟨by omega, ⟨by omega, by omega⟩, ⟨hz, e83⟩, hR, fun f2 l2 b2 g1 g2 g3 g4 g5 => by omega⟩ (Nat.lt_succ_self _)
  refine x_iconst B dX8_laysRounds_0 ?_
  refine x_istw_5 B dX8_laysRounds_1 (by first | rfl | exact x_cr _ _) ?_
  exact lp_3 _ 3 X ⟨⟨by omega, by omega⟩, ⟨z8.rf X, rfl⟩, fun u u1 u2 => by omega⟩ (Nat.lt_succ_self _)
