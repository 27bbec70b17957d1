def d_cl (x y m o : Int) : Int := ((3 * m + o) * 41 + x) * 41 + y
theorem d_cl_r {x y m o : Int} (hx : 0 ≤ x ∧ x ≤ 40) (hy : 0 ≤ y ∧ y ≤ 40) (hm : 0 ≤ m ∧ m ≤ 2) (ho : 0 ≤ o ∧ o ≤ 2) : 0 ≤ d_cl x y m o ∧ d_cl x y m o < 15129 := by unfold d_cl; omega
theorem d_cl_i {x y m o x2 y2 m2 o2 : Int} (hx : 0 ≤ x ∧ x ≤ 40) (hy : 0 ≤ y ∧ y ≤ 40) (ho : 0 ≤ o ∧ o ≤ 2) (gx : 0 ≤ x2 ∧ x2 ≤ 40) (gy : 0 ≤ y2 ∧ y2 ≤ 40) (go : 0 ≤ o2 ∧ o2 ≤ 2) (e : d_cl x y m o = d_cl x2 y2 m2 o2) : x = x2 ∧ y = y2 ∧ m = m2 ∧ o = o2 := by
  unfold d_cl at e
  have e1 : y = y2 := by omega
  have e2 : x = x2 := by omega
  have e3 : o = o2 := by omega
  exact ⟨e2, e1, by omega, e3⟩
def d_I (X : x_X) (V : Int → Int → Int → Int → Int × Int) : Prop := ∀ x y m o, (0 ≤ x ∧ x ≤ 40) → (0 ≤ y ∧ y ≤ 40) → (0 ≤ m ∧ m ≤ 2) → (0 ≤ o ∧ o ≤ 2) → X (60 + 3) (d_cl x y m o) = 1 → X (60 + 1) (d_cl x y m o) = (V x y m o).1 ∧ X (60 + 2) (d_cl x y m o) = (V x y m o).2
def d_fr (X Y : x_X) : Prop := ∀ a, (a < 61 ∨ 63 < a) → Y a = X a
theorem d_fr.rf (X : x_X) : d_fr X X := fun _ _ => rfl
theorem d_fr.trans {X Y Z : x_X} (h : d_fr X Y) (h2 : d_fr Y Z) : d_fr X Z := fun a ha => (h2 a ha).trans (h a ha)
theorem d_fr.up {X Y : x_X} (h : d_fr X Y) {a i z : Int} (ha : 61 ≤ a ∧ a ≤ 63) : d_fr X (x_up Y a i z) := fun b hb => by rw [x_up_o Y (by omega)]; exact h b hb
theorem d_fr.v {κ : x_Ka} {X Y : x_X} (h : d_fr X Y) (hI : n_I κ X) : v_eq X Y := ⟨fun a a1 a2 => h a (by omega), fun l l1 l2 j j1 j2 => h _ (by have := hI.2.2.2.2 l l1 l2; omega), by rw [h 0 (by omega)]⟩
theorem d_fr.k {X Y : x_X} (h : d_fr X Y) : k_eq X Y := ⟨fun a a1 a2 a3 a4 => h a (by omega), fun a a1 a2 => h a (by omega), by rw [h 0 (by omega)]; exact ⟨rfl, rfl, rfl⟩, by rw [h (-1) (by omega)]; exact Int.le_refl _⟩
theorem d_H.fr {κ : x_Ka} {X Y : x_X} (h : d_H κ X) (hf : d_fr X Y) : d_H κ Y ∧ d_E Y = d_E X ∧ d_O Y = d_O X ∧ d_W Y = d_W X ∧ d_F Y = d_F X := by
  obtain ⟨hC, ha, hb, hne⟩ := h
  have hv := hf.v hC.1
  have hn := hC.1.2.2.1
  have e60 : Y 60 = X 60 := hf 60 (by omega)
  have e1 : Y 1 = X 1 := hf 1 (by omega)
  refine ⟨⟨hv.C hC, by rw [e60, e1]; exact ha, by rw [e60, e1]; exact hb, by rw [e60]; exact hne⟩, ?_, ?_, ?_, ?_⟩
  · unfold d_E; rw [hv.li, hv.M hn.2, e60]
  · unfold d_O; rw [hv.O, hv.M hn.2, e60]
  · unfold d_W; rw [hv.M hn.2, e60]
  · have el : c_lot Y = c_lot X := by
      funext l
      unfold c_lot
      rw [e1, hf 2 (by omega)]
      by_cases q : 0 ≤ l ∧ l < X 1 2
      · rw [if_pos q, if_pos q, hf (X 2 l) (by have := hC.1.2.2.2.2 l q.1 q.2; omega)]
      · rw [if_neg q, if_neg q]
    unfold d_F; rw [el, e60]
theorem d_I.put {X : x_X} {V : Int → Int → Int → Int → Int × Int} (h : d_I X V) {x y m o w c_ : Int} (hx : 0 ≤ x ∧ x ≤ 40) (hy : 0 ≤ y ∧ y ≤ 40) (hm : 0 ≤ m ∧ m ≤ 2) (ho : 0 ≤ o ∧ o ≤ 2) (e : V x y m o = (w, c_)) : d_I (x_up (x_up (x_up X (60 + 3) (d_cl x y m o) 1) (60 + 1) (d_cl x y m o) w) (60 + 2) (d_cl x y m o) c_) V := by
  intro x2 y2 m2 o2 gx gy gm go
  by_cases q : d_cl x2 y2 m2 o2 = d_cl x y m o
  · obtain ⟨rfl, rfl, rfl, rfl⟩ := d_cl_i gx gy go hx hy ho q
    intro _
    rw [e, x_up_o _ (by omega), x_up_s, x_up_s]; exact ⟨rfl, rfl⟩
  · rw [x_up_n _ (Or.inr q), x_up_n _ (Or.inr q), x_up_n _ (Or.inr q), x_up_n _ (Or.inr q), x_up_n _ (Or.inr q), x_up_n _ (Or.inr q), x_up_n _ (Or.inr q), x_up_n _ (Or.inr q), x_up_n _ (Or.inr q)]
    exact h x2 y2 m2 o2 gx gy gm go
/-- the duel of a store -/
def d_V (X : x_X) : Int → Int → Int → Int → Int × Int := d_of (d_E X) (d_O X) (d_W X) (d_F X) 5
theorem c_X7_of_1 {l : Launch} {E : x_E} {κ : x_Ka} {X : x_X} {V : Int → Int → Int → Int → Int × Int} {q : Nat} {x y mi o : Int} (h : d_H κ X) (hD : d_I X V) (hx : 0 ≤ x ∧ x ≤ 40) (hy : 0 ≤ y ∧ y ≤ 40) (hm : 0 ≤ mi ∧ mi ≤ 2) (ho : 0 ≤ o ∧ o ≤ 2) (hq : 6 ≤ q) (hF : d_F X x y ≠ 0) (hc : mi > 0 → ∀ Y z, d_fr X Y → d_I Y V → x < z → z ≤ 40 → x_Met l yX7_of cX7_of 16 (some .int) q 0 0 E κ Y [x_rf E 60, vi z, vi y, vi (mi - 1), vi o] κ (fun v_ Y_ => v_ = some (vi ((V z y (mi - 1) o).1)) ∧ d_fr Y Y_ ∧ d_I Y_ V)) (eV : V x y mi o = d_sc (fun z => (V z y (mi - 1) o).1) 1 (if mi > 0 then (40 - x).toNat else 0) (x + 1) (d_b0 (d_E X) (d_O X) (d_W X) 1 x y o) 0) (rV : ∀ x y mi o, 0 ≤ (V x y mi o).1 ∧ (V x y mi o).1 ≤ 1000000) : x_Met l yX7_of cX7_of 16 (some .int) (q + 1) 0 0 E κ X [x_rf E 60, vi x, vi y, vi mi, vi o] κ (fun v_ Y_ => v_ = some (vi (V x y mi o).1) ∧ d_fr X Y_ ∧ d_I Y_ V ∧ Y_ (60 + 3) (d_cl x y mi o) = 1) := by
  refine x_Met.of [(false, x_rf E 60), (false, vi x), (false, vi y), (false, vi mi), (false, vi o)] [some (x_rf E 60), some (vi x), some (vi y), some (vi mi), some (vi o), none, none, none, none, none, none, none, none, none, none, none] 11 (by decide) rfl rfl ⟨x_cr E (60), rfl, rfl, rfl, rfl, trivial⟩ rfl rfl ?_
  intro p e s m args below meth c hargs hin B
  obtain ⟨hC, ha, hb, hne⟩ := id h
  obtain ⟨hI, hP, hO, hW, hJ⟩ := id hC
  obtain ⟨hT, h0, hn, hl, hla⟩ := id hI
  have hk := h.k60
  have hR := h.R
  have hcl := d_cl_r hx hy hm ho
  have hdc : ((3 * mi + o) * 41 + x) * 41 + y = d_cl x y mi o := rfl
  have w2 := hW.2.1 (X 60 3) (by omega) (by omega)
  have sb : c_M X 3 (X 60 3) 12 = (X (3 + 1 + 1 + 2 * X 60 3 + 1) 2) := c_M_b (by omega) (by omega)
  have ew : d_W X 1 = (X (3 + 1 + 1 + 2 * X 60 3 + 1) 2) := by unfold d_W d_ow d_l; rw [if_pos rfl, sb]
  have a1 := d_ans_r (ow := d_W X) hR 0 y o x
  have a2 := d_ans_r (ow := d_W X) hR 0 y o (X (3 + 1 + 1 + 2 * X 60 3 + 1) 2)
  have a3 := hR.1 1 x
  have b0 := d_b0_r (ow := d_W X) hR 1 x y o
  have eb : p_mix (d_O X 1 x) (d_ans (d_E X) (d_O X) (d_W X) 0 y o x) (d_ans (d_E X) (d_O X) (d_W X) 0 y o (X (3 + 1 + 1 + 2 * X 60 3 + 1) 2)) = (d_b0 (d_E X) (d_O X) (d_W X) 1 x y o) := by unfold d_b0; rw [ew]; rfl
  have hFr : 0 ≤ d_F X x y ∧ d_F X x y ≤ 1 := by unfold d_F d_fs; split <;> omega
  have lp_192 : ∀ (n : Nat) (k : Nat) (more best a_ : Int) (Y : x_X), ((x + 1 ≤ more ∧ more ≤ 41) ∧ (0 ≤ best ∧ best ≤ 1000000) ∧ (0 ≤ a_ ∧ a_ ≤ 40) ∧ (k : Int) = (if mi > 0 then 41 - more else 0) ∧ d_fr X Y ∧ d_I Y V ∧ V x y mi o = d_sc (fun z => (V z y (mi - 1) o).1) 1 k more best a_) → ((42 - more).toNat < n) → x_G p l e (x_rm (q + 1) 0 0) s m args below meth c 16 E 0 0 (MQ below (x_Q E κ (fun v_ Y_ => v_ = some (vi (V x y mi o).1) ∧ d_fr X Y_ ∧ d_I Y_ V ∧ Y_ (60 + 3) (d_cl x y mi o) = 1)) args s 0 0 (fun q => E.1 ≤ q)) κ 192 [some (x_rf E 60), some (vi x), some (vi y), some (vi mi), some (vi o), some (vi (d_cl x y mi o)), some (vi (d_F X x y)), some (vi (X 60 3)), some (vi (X 60 4)), some (vi x), some (vi (d_ans (d_E X) (d_O X) (d_W X) 0 y o x)), some (vi (d_ans (d_E X) (d_O X) (d_W X) 0 y o (X (3 + 1 + 1 + 2 * X 60 3 + 1) 2))), some (vi best), some (vi a_), some (vi more), none] [] Y := by
    intro n
    induction n with
    | zero => intro k more best a_ Y hinv hme; exfalso; omega
    | succ n ih =>
      intro k more best a_ Y hinv hme
      obtain ⟨hmr, hbr, har, hk2, hg, hJd, he⟩ := hinv
      have e60 : Y 60 = X 60 := hg 60 (by omega)
      have e603 : Y 60 3 = X 60 3 := by rw [e60]
      have hbt := d_bt_r 1 (V more y (mi - 1) o).1 best
      have hvr := rV more y (mi - 1) o
      refine x_iload B dX7_of_192 rfl ?_
      refine x_bipush B dX7_of_194 (by decide) ?_
      refine x_icmp_gt B (tgt := 277) dX7_of_196 (by decide) ⟨by omega, by omega⟩ ⟨by omega, by omega⟩ (fun h_196 => ?_) (fun h_196 => ?_)
      · refine x_aload_n B dX7_of_277 rfl ?_
        refine x_getC1 B (k := 2) hT rfl rfl xc_6 (by decide) hk (Or.inl q338) (fun _ h => h) dX7_of_278 (fun k_278 => ?_)
        refine x_iload B dX7_of_281 rfl ?_
        refine x_iconst B dX7_of_283 ?_
        refine x_zast B k_278 ⟨by omega, by omega⟩ ⟨by omega, by omega⟩ dX7_of_284 ?_
        refine x_aload_n B dX7_of_285 rfl ?_
        refine x_getC1 B (k := 0) hT rfl rfl xc_6 (by decide) hk (Or.inl q335) (fun _ h => h) dX7_of_286 (fun k_286 => ?_)
        refine x_iload B dX7_of_289 rfl ?_
        refine x_iload B dX7_of_291 rfl ?_
        refine x_iast B k_286 ⟨by omega, by omega⟩ ⟨by omega, by omega⟩ dX7_of_293 ?_
        refine x_aload_n B dX7_of_294 rfl ?_
        refine x_getC1 B (k := 1) hT rfl rfl xc_6 (by decide) hk (Or.inl q336) (fun _ h => h) dX7_of_295 (fun k_295 => ?_)
        refine x_iload B dX7_of_298 rfl ?_
        refine x_iload B dX7_of_300 rfl ?_
        refine x_iast B k_295 ⟨by omega, by omega⟩ ⟨by omega, by omega⟩ dX7_of_302 ?_
        refine x_iload B dX7_of_303 rfl ?_
        refine x_iret B (fun _ _ h => h) ?_ dX7_of_305
        have hk0 : k = 0 := by split at hk2 <;> omega
        subst hk0
        have he2 : V x y mi o = (best, a_) := he
        exact ⟨by rw [he2], ((hg.up (by omega)).up (by omega)).up (by omega), hJd.put hx hy hm ho he2, by rw [x_up_o _ (by omega), x_up_o _ (by omega), x_up_s]⟩
      · refine x_iload B dX7_of_199 rfl ?_
        refine x_if_eq B (tgt := 208) dX7_of_201 (by decide) ⟨by omega, by omega⟩ (fun h_201 => (by exfalso; omega)) (fun h_201 => ?_)
        refine x_iload_n B dX7_of_204 rfl ?_
        refine x_goto B (tgt := 210) dX7_of_205 (by decide) ?_
        refine x_if_le B (tgt := 277) dX7_of_210 (by decide) ⟨by omega, by omega⟩ (fun h_210 => ?_) (fun h_210 => ?_)
        · refine x_aload_n B dX7_of_277 rfl ?_
          refine x_getC1 B (k := 2) hT rfl rfl xc_6 (by decide) hk (Or.inl q338) (fun _ h => h) dX7_of_278 (fun k_278 => ?_)
          refine x_iload B dX7_of_281 rfl ?_
          refine x_iconst B dX7_of_283 ?_
          refine x_zast B k_278 ⟨by omega, by omega⟩ ⟨by omega, by omega⟩ dX7_of_284 ?_
          refine x_aload_n B dX7_of_285 rfl ?_
          refine x_getC1 B (k := 0) hT rfl rfl xc_6 (by decide) hk (Or.inl q335) (fun _ h => h) dX7_of_286 (fun k_286 => ?_)
          refine x_iload B dX7_of_289 rfl ?_
          refine x_iload B dX7_of_291 rfl ?_
          refine x_iast B k_286 ⟨by omega, by omega⟩ ⟨by omega, by omega⟩ dX7_of_293 ?_
          refine x_aload_n B dX7_of_294 rfl ?_
          refine x_getC1 B (k := 1) hT rfl rfl xc_6 (by decide) hk (Or.inl q336) (fun _ h => h) dX7_of_295 (fun k_295 => ?_)
          refine x_iload B dX7_of_298 rfl ?_
          refine x_iload B dX7_of_300 rfl ?_
          refine x_iast B k_295 ⟨by omega, by omega⟩ ⟨by omega, by omega⟩ dX7_of_302 ?_
          refine x_iload B dX7_of_303 rfl ?_
          refine x_iret B (fun _ _ h => h) ?_ dX7_of_305
          have hk0 : k = 0 := by split at hk2 <;> omega
          subst hk0
          have he2 : V x y mi o = (best, a_) := he
          exact ⟨by rw [he2], ((hg.up (by omega)).up (by omega)).up (by omega), hJd.put hx hy hm ho he2, by rw [x_up_o _ (by omega), x_up_o _ (by omega), x_up_s]⟩
        · refine x_iload B dX7_of_213 rfl ?_
          refine x_if_eq B (tgt := 233) dX7_of_215 (by decide) ⟨by omega, by omega⟩ (fun h_215 => (by exfalso; omega)) (fun h_215 => ?_)
          refine x_aload_n B dX7_of_218 rfl ?_
          refine x_iload B dX7_of_219 rfl ?_
          refine x_iload_n B dX7_of_221 rfl ?_
          refine x_iload_n B dX7_of_222 rfl ?_
          refine x_iconst B dX7_of_223 ?_
          refine x_isub B dX7_of_224 ?_
          refine x_iload B dX7_of_225 rfl ?_
          refine x_go (x_rV B hk (show x_cl[6]? = some _ from rfl) ((hc (by omega) Y more hg hJd (by omega) (by omega)) ) (lw_V q1265 q1227 q1228 q119 q1229) hv_X7_of ⟨(by show _ ≤ (q + 1) + 1; omega), (by show _ ≤ 64 * ((q + 1) + 1); omega)⟩ ⟨Nat.le_refl _, Nat.le_refl _⟩ rfl rfl (by simp [x_cr, x_c1, x_c2]) dX7_of_227) (fun v_227 X_227 p_227 => ?_)
          obtain ⟨rfl, hg2, hJ2⟩ := p_227
          have e61 : X_227 60 3 = X 60 3 := by rw [hg2 60 (by omega)]; exact e603
          refine x_goto B (tgt := 245) dX7_of_230 (by decide) ?_
          refine x_istw_15 B dX7_of_245 (by first | rfl | exact x_cr _ _) ?_
          refine x_aload_n B dX7_of_247 rfl ?_
          refine x_iload B dX7_of_248 rfl ?_
          refine x_iload B dX7_of_250 rfl ?_
          refine x_iload B dX7_of_252 rfl ?_
          refine x_goP (x_rV B hk (show x_cl[6]? = some _ from rfl) (c_X7_isBetter (sd := 1) hk (Or.inl ⟨rfl, by rw [e61]⟩) ⟨by omega, by omega⟩ ⟨by omega, by omega⟩ ⟨by omega, by omega⟩) (lw_V q1261 q1263 qs36 q119 q1264) hv_X7_isBetter ⟨(by show _ ≤ (q + 1) + 1; omega), (by show _ ≤ 64 * ((q + 1) + 1); omega)⟩ ⟨Nat.le_refl _, Nat.le_refl _⟩ rfl rfl (by simp [x_cr, x_c1, x_c2]) dX7_of_254) ?_
          refine x_if_ne B (tgt := 263) dX7_of_257 (by decide) ⟨by omega, by omega⟩ (fun h_257 => ?_) (fun h_257 => ?_)
          · refine x_iload B dX7_of_263 rfl ?_
            refine x_istw_12 B dX7_of_265 (by first | rfl | exact x_cr _ _) ?_
            refine x_iload B dX7_of_267 rfl ?_
            refine x_istw_13 B dX7_of_269 (by first | rfl | exact x_cr _ _) ?_
            refine x_iinc_14 B dX7_of_271 (by first | rfl | exact x_cr _ _) ?_
            refine x_goto B (tgt := 192) dX7_of_274 (by decide) ?_
            refine x_fg_15 ?_
            rw [if_pos (by omega)] at hk2
            obtain ⟨k, rfl⟩ : ∃ g, k = g + 1 := ⟨k - 1, by omega⟩
            unfold d_sc at he
            first
            | (refine ih k _ _ _ _ ⟨⟨by omega, by omega⟩, hvr, ⟨by omega, by omega⟩, by rw [if_pos (by omega)]; omega, hg.trans hg2, hJ2, ?_⟩ (by omega); rw [he, if_neg h_257]; done)
            | (refine ih k _ _ _ _ ⟨⟨by omega, by omega⟩, hbr, har, by rw [if_pos (by omega)]; omega, hg.trans hg2, hJ2, ?_⟩ (by omega); rw [he, if_pos (by omega)])
          · refine x_goto B (tgt := 271) dX7_of_260 (by decide) ?_
            refine x_iinc_14 B dX7_of_271 (by first | rfl | exact x_cr _ _) ?_
            refine x_goto B (tgt := 192) dX7_of_274 (by decide) ?_
            refine x_fg_15 ?_
            rw [if_pos (by omega)] at hk2
            obtain ⟨k, rfl⟩ : ∃ g, k = g + 1 := ⟨k - 1, by omega⟩
            unfold d_sc at he
            first
            | (refine ih k _ _ _ _ ⟨⟨by omega, by omega⟩, hvr, ⟨by omega, by omega⟩, by rw [if_pos (by omega)]; omega, hg.trans hg2, hJ2, ?_⟩ (by omega); rw [he, if_neg h_257]; done)
            | (refine ih k _ _ _ _ ⟨⟨by omega, by omega⟩, hbr, har, by rw [if_pos (by omega)]; omega, hg.trans hg2, hJ2, ?_⟩ (by omega); rw [he, if_pos (by omega)])
  refine x_aload_n B dX7_of_0 rfl ?_
  refine x_iload_n B dX7_of_1 rfl ?_
  refine x_iload_n B dX7_of_2 rfl ?_
  refine x_iload_n B dX7_of_3 rfl ?_
  refine x_iload B dX7_of_4 rfl ?_
  refine x_goP (x_rV B hk (show x_cl[6]? = some _ from rfl) (c_X7_cell ) (lw_V q1230 q1232 qs31 q119 q1233) hv_X7_cell ⟨(by show _ ≤ (q + 1) + 1; omega), (by show _ ≤ 64 * ((q + 1) + 1); omega)⟩ ⟨Nat.le_refl _, Nat.le_refl _⟩ rfl rfl (by simp [x_cr, x_c1, x_c2]) dX7_of_6) ?_
  rw [hdc]
  refine x_istw_5 B dX7_of_9 (by first | rfl | exact x_cr _ _) ?_
  refine x_aload_n B dX7_of_11 rfl ?_
  refine x_getC1 B (k := 2) hT rfl rfl xc_6 (by decide) hk (Or.inl q338) (fun _ h => h) dX7_of_12 (fun k_12 => ?_)
  refine x_iload B dX7_of_15 rfl ?_
  refine x_zald B k_12 ⟨by omega, by omega⟩ dX7_of_17 (fun r_17 => ?_)
  refine x_if_eq B (tgt := 29) dX7_of_18 (by decide) ⟨by omega, by omega⟩ (fun h_18 => ?_) (fun h_18 => ?_)
  · refine x_aload_n B dX7_of_29 rfl ?_
    refine x_iload_n B dX7_of_30 rfl ?_
    refine x_iload_n B dX7_of_31 rfl ?_
    refine x_goP (x_rV B hk (show x_cl[6]? = some _ from rfl) (c_X7_isFirst h ⟨by omega, by omega⟩ ⟨by omega, by omega⟩) (lw_V q1234 q1235 q1236 q119 q1237) hv_X7_isFirst ⟨(by show _ ≤ (q + 1) + 1; omega), (by show _ ≤ 64 * ((q + 1) + 1); omega)⟩ ⟨Nat.le_refl _, Nat.le_refl _⟩ rfl rfl (by simp [x_cr, x_c1, x_c2]) dX7_of_32) ?_
    refine x_istw_6 B dX7_of_35 (by first | rfl | exact x_cr _ _) ?_
    refine x_iload B dX7_of_37 rfl ?_
    refine x_if_eq B (tgt := 49) dX7_of_39 (by decide) ⟨by omega, by omega⟩ (fun h_39 => (by exfalso; omega)) (fun h_39 => ?_)
    refine x_aload_n B dX7_of_42 rfl ?_
    refine x_getI B (k := 3) 3 rfl rfl xc_6 (by decide) hk (Or.inl q339) (fun _ h => h) dX7_of_43 (fun r_43 => ?_)
    refine x_goto B (tgt := 53) dX7_of_46 (by decide) ?_
    refine x_istw_7 B dX7_of_53 (by first | rfl | exact x_cr _ _) ?_
    refine x_iload B dX7_of_55 rfl ?_
    refine x_if_eq B (tgt := 67) dX7_of_57 (by decide) ⟨by omega, by omega⟩ (fun h_57 => (by exfalso; omega)) (fun h_57 => ?_)
    refine x_aload_n B dX7_of_60 rfl ?_
    refine x_getI B (k := 4) 4 rfl rfl xc_6 (by decide) hk (Or.inl q340) (fun _ h => h) dX7_of_61 (fun r_61 => ?_)
    refine x_goto B (tgt := 71) dX7_of_64 (by decide) ?_
    refine x_istw_8 B dX7_of_71 (by first | rfl | exact x_cr _ _) ?_
    refine x_iload B dX7_of_73 rfl ?_
    refine x_if_eq B (tgt := 82) dX7_of_75 (by decide) ⟨by omega, by omega⟩ (fun h_75 => (by exfalso; omega)) (fun h_75 => ?_)
    refine x_iload_n B dX7_of_78 rfl ?_
    refine x_goto B (tgt := 83) dX7_of_79 (by decide) ?_
    refine x_istw_9 B dX7_of_83 (by first | rfl | exact x_cr _ _) ?_
    refine x_aload_n B dX7_of_85 rfl ?_
    refine x_iload B dX7_of_86 rfl ?_
    refine x_iload B dX7_of_88 rfl ?_
    refine x_if_eq B (tgt := 97) dX7_of_90 (by decide) ⟨by omega, by omega⟩ (fun h_90 => (by exfalso; omega)) (fun h_90 => ?_)
    refine x_iload_n B dX7_of_93 rfl ?_
    refine x_goto B (tgt := 98) dX7_of_94 (by decide) ?_
    refine x_iload B dX7_of_98 rfl ?_
    refine x_if_eq B (tgt := 108) dX7_of_100 (by decide) ⟨by omega, by omega⟩ (fun h_100 => (by exfalso; omega)) (fun h_100 => ?_)
    refine x_iload B dX7_of_103 rfl ?_
    refine x_goto B (tgt := 109) dX7_of_105 (by decide) ?_
    refine x_iload B dX7_of_109 rfl ?_
    refine x_goP (x_rV B hk (show x_cl[6]? = some _ from rfl) (c_X7_answers (sd := 0) h (Or.inr ⟨rfl, rfl⟩) ⟨by omega, by omega⟩ ⟨by omega, by omega⟩ ⟨by omega, by omega⟩) (lw_V q1239 q1241 qs32 q119 q1242) hv_X7_answers ⟨(by show _ ≤ (q + 1) + 1; omega), (by show _ ≤ 64 * ((q + 1) + 1); omega)⟩ ⟨Nat.le_refl _, Nat.le_refl _⟩ rfl rfl (by simp [x_cr, x_c1, x_c2]) dX7_of_111) ?_
    refine x_istw_10 B dX7_of_114 (by first | rfl | exact x_cr _ _) ?_
    refine x_aload_n B dX7_of_116 rfl ?_
    refine x_iload B dX7_of_117 rfl ?_
    refine x_iload B dX7_of_119 rfl ?_
    refine x_if_eq B (tgt := 128) dX7_of_121 (by decide) ⟨by omega, by omega⟩ (fun h_121 => (by exfalso; omega)) (fun h_121 => ?_)
    refine x_iload_n B dX7_of_124 rfl ?_
    refine x_goto B (tgt := 129) dX7_of_125 (by decide) ?_
    refine x_iload B dX7_of_129 rfl ?_
    refine x_if_eq B (tgt := 139) dX7_of_131 (by decide) ⟨by omega, by omega⟩ (fun h_131 => (by exfalso; omega)) (fun h_131 => ?_)
    refine x_iload B dX7_of_134 rfl ?_
    refine x_goto B (tgt := 140) dX7_of_136 (by decide) ?_
    refine x_aload_n B dX7_of_140 rfl ?_
    refine x_getC0 B (k := 5) hT rfl rfl xc_6 (by decide) hk (Or.inl q341) (fun _ h => h) dX7_of_141 (fun k_141 => ?_)
    refine x_getC0 B (k := 2) hT rfl rfl xc_0 (by decide) k_141 (Or.inr q399) (fun _ h => h) dX7_of_144 (fun k_144 => ?_)
    refine x_getC1 B (k := 0) hT rfl rfl xc_2 (by decide) k_144 (Or.inr q243) (fun _ h => h) dX7_of_147 (fun k_147 => ?_)
    refine x_iload B dX7_of_150 rfl ?_
    refine x_aaldC B (t := 10) hT k_147 rfl rfl rfl rfl ⟨by omega, by omega⟩ dX7_of_152 (fun k_152 => ?_)
    refine x_getC1 B (k := 0) hT rfl rfl xc_3 (by decide) k_152 (Or.inr q193) (fun _ h => h) dX7_of_153 (fun k_153 => ?_)
    refine x_iconst B dX7_of_156 ?_
    refine x_iald B k_153 ⟨by omega, by omega⟩ dX7_of_157 (fun r_157 => ?_)
    refine x_goP (x_rV B hk (show x_cl[6]? = some _ from rfl) (c_X7_answers (sd := 0) h (Or.inr ⟨rfl, rfl⟩) ⟨by omega, by omega⟩ ⟨by omega, by omega⟩ ⟨by omega, by omega⟩) (lw_V q1239 q1241 qs32 q119 q1242) hv_X7_answers ⟨(by show _ ≤ (q + 1) + 1; omega), (by show _ ≤ 64 * ((q + 1) + 1); omega)⟩ ⟨Nat.le_refl _, Nat.le_refl _⟩ rfl rfl (by simp [x_cr, x_c1, x_c2]) dX7_of_158) ?_
    refine x_istw_11 B dX7_of_161 (by first | rfl | exact x_cr _ _) ?_
    refine x_aload_n B dX7_of_163 rfl ?_
    refine x_iload B dX7_of_164 rfl ?_
    refine x_iload B dX7_of_166 rfl ?_
    refine x_goP (x_rV B hk (show x_cl[6]? = some _ from rfl) (c_X7_odds (sd := 1) h (Or.inl ⟨rfl, rfl⟩) ⟨by omega, by omega⟩) (lw_V q1253 q1255 qs35 q119 q1256) hv_X7_odds ⟨(by show _ ≤ (q + 1) + 1; omega), (by show _ ≤ 64 * ((q + 1) + 1); omega)⟩ ⟨Nat.le_refl _, Nat.le_refl _⟩ rfl rfl (by simp [x_cr, x_c1, x_c2]) dX7_of_168) ?_
    refine x_iload B dX7_of_171 rfl ?_
    refine x_i2l B dX7_of_173 ⟨by omega, by omega⟩ ?_
    refine x_iload B dX7_of_174 rfl ?_
    refine x_i2l B dX7_of_176 ⟨by omega, by omega⟩ ?_
    refine x_goP (x_rSN B (c_X1_mixed ⟨by omega, by omega⟩ ⟨by omega, by omega⟩ ⟨by omega, by omega⟩) q1260 q1060 q110 q1061 hd_X1_mixed ⟨(by show _ ≤ (q + 1) + 1; omega), (by show _ ≤ 64 * ((q + 1) + 1); omega)⟩ ⟨Nat.le_refl _, Nat.le_refl _⟩ rfl rfl (by simp [x_cr, x_c1, x_c2]) dX7_of_177) ?_
    refine x_l2i B dX7_of_180 ?_
    refine x_istw_12 B dX7_of_181 (by first | rfl | exact x_cr _ _) ?_
    refine x_iconst B dX7_of_183 ?_
    refine x_istw_13 B dX7_of_184 (by first | rfl | exact x_cr _ _) ?_
    refine x_iload B dX7_of_186 rfl ?_
    refine x_iconst B dX7_of_188 ?_
    refine x_iadd B dX7_of_189 ?_
    refine x_istw_14 B dX7_of_190 (by first | rfl | exact x_cr _ _) ?_
    rw [eb]
    refine lp_192 _ (if mi > 0 then (40 - x).toNat else 0) _ _ _ _ ⟨⟨by omega, by omega⟩, b0, ⟨by omega, by omega⟩, by (split <;> omega), d_fr.rf X, hD, eV⟩ (Nat.lt_succ_self _)
  · refine x_aload_n B dX7_of_21 rfl ?_
    refine x_getC1 B (k := 0) hT rfl rfl xc_6 (by decide) hk (Or.inl q335) (fun _ h => h) dX7_of_22 (fun k_22 => ?_)
    refine x_iload B dX7_of_25 rfl ?_
    refine x_iald B k_22 ⟨by omega, by omega⟩ dX7_of_27 (fun r_27 => ?_)
    have hmm := hD x y mi o hx hy hm ho (by omega)
    refine x_iret B (fun _ _ h => h) ?_ dX7_of_28
    exact ⟨by rw [hmm.1], d_fr.rf X, hD, by omega⟩
theorem c_X7_of_0 {l : Launch} {E : x_E} {κ : x_Ka} {X : x_X} {V : Int → Int → Int → Int → Int × Int} {q : Nat} {x y mi o : Int} (h : d_H κ X) (hD : d_I X V) (hx : 0 ≤ x ∧ x ≤ 40) (hy : 0 ≤ y ∧ y ≤ 40) (hm : 0 ≤ mi ∧ mi ≤ 2) (ho : 0 ≤ o ∧ o ≤ 2) (hq : 6 ≤ q) (hF : d_F X x y = 0) (hc : o > 0 → ∀ Y z, d_fr X Y → d_I Y V → y < z → z ≤ 40 → x_Met l yX7_of cX7_of 16 (some .int) q 0 0 E κ Y [x_rf E 60, vi x, vi z, vi mi, vi (o - 1)] κ (fun v_ Y_ => v_ = some (vi ((V x z mi (o - 1)).1)) ∧ d_fr Y Y_ ∧ d_I Y_ V)) (eV : V x y mi o = d_sc (fun z => (V x z mi (o - 1)).1) 0 (if o > 0 then (40 - y).toNat else 0) (y + 1) (d_b0 (d_E X) (d_O X) (d_W X) 0 y x mi) 0) (rV : ∀ x y mi o, 0 ≤ (V x y mi o).1 ∧ (V x y mi o).1 ≤ 1000000) : x_Met l yX7_of cX7_of 16 (some .int) (q + 1) 0 0 E κ X [x_rf E 60, vi x, vi y, vi mi, vi o] κ (fun v_ Y_ => v_ = some (vi (V x y mi o).1) ∧ d_fr X Y_ ∧ d_I Y_ V ∧ Y_ (60 + 3) (d_cl x y mi o) = 1) := by
  refine x_Met.of [(false, x_rf E 60), (false, vi x), (false, vi y), (false, vi mi), (false, vi o)] [some (x_rf E 60), some (vi x), some (vi y), some (vi mi), some (vi o), none, none, none, none, none, none, none, none, none, none, none] 11 (by decide) rfl rfl ⟨x_cr E (60), rfl, rfl, rfl, rfl, trivial⟩ rfl rfl ?_
  intro p e s m args below meth c hargs hin B
  obtain ⟨hC, ha, hb, hne⟩ := id h
  obtain ⟨hI, hP, hO, hW, hJ⟩ := id hC
  obtain ⟨hT, h0, hn, hl, hla⟩ := id hI
  have hk := h.k60
  have hR := h.R
  have hcl := d_cl_r hx hy hm ho
  have hdc : ((3 * mi + o) * 41 + x) * 41 + y = d_cl x y mi o := rfl
  have w2 := hW.2.1 (X 60 4) (by omega) (by omega)
  have sb : c_M X 3 (X 60 4) 12 = (X (3 + 1 + 1 + 2 * X 60 4 + 1) 2) := c_M_b (by omega) (by omega)
  have ew : d_W X 0 = (X (3 + 1 + 1 + 2 * X 60 4 + 1) 2) := by unfold d_W d_ow d_l; rw [if_neg (by omega), sb]
  have a1 := d_ans_r (ow := d_W X) hR 1 x mi y
  have a2 := d_ans_r (ow := d_W X) hR 1 x mi (X (3 + 1 + 1 + 2 * X 60 4 + 1) 2)
  have a3 := hR.1 0 y
  have b0 := d_b0_r (ow := d_W X) hR 0 y x mi
  have eb : p_mix (d_O X 0 y) (d_ans (d_E X) (d_O X) (d_W X) 1 x mi y) (d_ans (d_E X) (d_O X) (d_W X) 1 x mi (X (3 + 1 + 1 + 2 * X 60 4 + 1) 2)) = (d_b0 (d_E X) (d_O X) (d_W X) 0 y x mi) := by unfold d_b0; rw [ew]; rfl
  have hFr : 0 ≤ d_F X x y ∧ d_F X x y ≤ 1 := by unfold d_F d_fs; split <;> omega
  have lp_192 : ∀ (n : Nat) (k : Nat) (more best a_ : Int) (Y : x_X), ((y + 1 ≤ more ∧ more ≤ 41) ∧ (0 ≤ best ∧ best ≤ 1000000) ∧ (0 ≤ a_ ∧ a_ ≤ 40) ∧ (k : Int) = (if o > 0 then 41 - more else 0) ∧ d_fr X Y ∧ d_I Y V ∧ V x y mi o = d_sc (fun z => (V x z mi (o - 1)).1) 0 k more best a_) → ((42 - more).toNat < n) → x_G p l e (x_rm (q + 1) 0 0) s m args below meth c 16 E 0 0 (MQ below (x_Q E κ (fun v_ Y_ => v_ = some (vi (V x y mi o).1) ∧ d_fr X Y_ ∧ d_I Y_ V ∧ Y_ (60 + 3) (d_cl x y mi o) = 1)) args s 0 0 (fun q => E.1 ≤ q)) κ 192 [some (x_rf E 60), some (vi x), some (vi y), some (vi mi), some (vi o), some (vi (d_cl x y mi o)), some (vi (d_F X x y)), some (vi (X 60 4)), some (vi (X 60 3)), some (vi y), some (vi (d_ans (d_E X) (d_O X) (d_W X) 1 x mi y)), some (vi (d_ans (d_E X) (d_O X) (d_W X) 1 x mi (X (3 + 1 + 1 + 2 * X 60 4 + 1) 2))), some (vi best), some (vi a_), some (vi more), none] [] Y := by
    intro n
    induction n with
    | zero => intro k more best a_ Y hinv hme; exfalso; omega
    | succ n ih =>
      intro k more best a_ Y hinv hme
      obtain ⟨hmr, hbr, har, hk2, hg, hJd, he⟩ := hinv
      have e60 : Y 60 = X 60 := hg 60 (by omega)
      have e603 : Y 60 3 = X 60 3 := by rw [e60]
      have hbt := d_bt_r 0 (V x more mi (o - 1)).1 best
      have hvr := rV x more mi (o - 1)
      refine x_iload B dX7_of_192 rfl ?_
      refine x_bipush B dX7_of_194 (by decide) ?_
      refine x_icmp_gt B (tgt := 277) dX7_of_196 (by decide) ⟨by omega, by omega⟩ ⟨by omega, by omega⟩ (fun h_196 => ?_) (fun h_196 => ?_)
      · refine x_aload_n B dX7_of_277 rfl ?_
        refine x_getC1 B (k := 2) hT rfl rfl xc_6 (by decide) hk (Or.inl q338) (fun _ h => h) dX7_of_278 (fun k_278 => ?_)
        refine x_iload B dX7_of_281 rfl ?_
        refine x_iconst B dX7_of_283 ?_
        refine x_zast B k_278 ⟨by omega, by omega⟩ ⟨by omega, by omega⟩ dX7_of_284 ?_
        refine x_aload_n B dX7_of_285 rfl ?_
        refine x_getC1 B (k := 0) hT rfl rfl xc_6 (by decide) hk (Or.inl q335) (fun _ h => h) dX7_of_286 (fun k_286 => ?_)
        refine x_iload B dX7_of_289 rfl ?_
        refine x_iload B dX7_of_291 rfl ?_
        refine x_iast B k_286 ⟨by omega, by omega⟩ ⟨by omega, by omega⟩ dX7_of_293 ?_
        refine x_aload_n B dX7_of_294 rfl ?_
        refine x_getC1 B (k := 1) hT rfl rfl xc_6 (by decide) hk (Or.inl q336) (fun _ h => h) dX7_of_295 (fun k_295 => ?_)
        refine x_iload B dX7_of_298 rfl ?_
        refine x_iload B dX7_of_300 rfl ?_
        refine x_iast B k_295 ⟨by omega, by omega⟩ ⟨by omega, by omega⟩ dX7_of_302 ?_
        refine x_iload B dX7_of_303 rfl ?_
        refine x_iret B (fun _ _ h => h) ?_ dX7_of_305
        have hk0 : k = 0 := by split at hk2 <;> omega
        subst hk0
        have he2 : V x y mi o = (best, a_) := he
        exact ⟨by rw [he2], ((hg.up (by omega)).up (by omega)).up (by omega), hJd.put hx hy hm ho he2, by rw [x_up_o _ (by omega), x_up_o _ (by omega), x_up_s]⟩
      · refine x_iload B dX7_of_199 rfl ?_
        refine x_if_eq B (tgt := 208) dX7_of_201 (by decide) ⟨by omega, by omega⟩ (fun h_201 => ?_) (fun h_201 => (by exfalso; omega))
        refine x_iload B dX7_of_208 rfl ?_
        refine x_if_le B (tgt := 277) dX7_of_210 (by decide) ⟨by omega, by omega⟩ (fun h_210 => ?_) (fun h_210 => ?_)
        · refine x_aload_n B dX7_of_277 rfl ?_
          refine x_getC1 B (k := 2) hT rfl rfl xc_6 (by decide) hk (Or.inl q338) (fun _ h => h) dX7_of_278 (fun k_278 => ?_)
          refine x_iload B dX7_of_281 rfl ?_
          refine x_iconst B dX7_of_283 ?_
          refine x_zast B k_278 ⟨by omega, by omega⟩ ⟨by omega, by omega⟩ dX7_of_284 ?_
          refine x_aload_n B dX7_of_285 rfl ?_
          refine x_getC1 B (k := 0) hT rfl rfl xc_6 (by decide) hk (Or.inl q335) (fun _ h => h) dX7_of_286 (fun k_286 => ?_)
          refine x_iload B dX7_of_289 rfl ?_
          refine x_iload B dX7_of_291 rfl ?_
          refine x_iast B k_286 ⟨by omega, by omega⟩ ⟨by omega, by omega⟩ dX7_of_293 ?_
          refine x_aload_n B dX7_of_294 rfl ?_
          refine x_getC1 B (k := 1) hT rfl rfl xc_6 (by decide) hk (Or.inl q336) (fun _ h => h) dX7_of_295 (fun k_295 => ?_)
          refine x_iload B dX7_of_298 rfl ?_
          refine x_iload B dX7_of_300 rfl ?_
          refine x_iast B k_295 ⟨by omega, by omega⟩ ⟨by omega, by omega⟩ dX7_of_302 ?_
          refine x_iload B dX7_of_303 rfl ?_
          refine x_iret B (fun _ _ h => h) ?_ dX7_of_305
          have hk0 : k = 0 := by split at hk2 <;> omega
          subst hk0
          have he2 : V x y mi o = (best, a_) := he
          exact ⟨by rw [he2], ((hg.up (by omega)).up (by omega)).up (by omega), hJd.put hx hy hm ho he2, by rw [x_up_o _ (by omega), x_up_o _ (by omega), x_up_s]⟩
        · refine x_iload B dX7_of_213 rfl ?_
          refine x_if_eq B (tgt := 233) dX7_of_215 (by decide) ⟨by omega, by omega⟩ (fun h_215 => ?_) (fun h_215 => (by exfalso; omega))
          refine x_aload_n B dX7_of_233 rfl ?_
          refine x_iload_n B dX7_of_234 rfl ?_
          refine x_iload B dX7_of_235 rfl ?_
          refine x_iload_n B dX7_of_237 rfl ?_
          refine x_iload B dX7_of_238 rfl ?_
          refine x_iconst B dX7_of_240 ?_
          refine x_isub B dX7_of_241 ?_
          refine x_go (x_rV B hk (show x_cl[6]? = some _ from rfl) ((hc (by omega) Y more hg hJd (by omega) (by omega)) ) (lw_V q1265 q1227 q1228 q119 q1229) hv_X7_of ⟨(by show _ ≤ (q + 1) + 1; omega), (by show _ ≤ 64 * ((q + 1) + 1); omega)⟩ ⟨Nat.le_refl _, Nat.le_refl _⟩ rfl rfl (by simp [x_cr, x_c1, x_c2]) dX7_of_242) (fun v_242 X_242 p_242 => ?_)
          obtain ⟨rfl, hg2, hJ2⟩ := p_242
          have e61 : X_242 60 3 = X 60 3 := by rw [hg2 60 (by omega)]; exact e603
          refine x_istw_15 B dX7_of_245 (by first | rfl | exact x_cr _ _) ?_
          refine x_aload_n B dX7_of_247 rfl ?_
          refine x_iload B dX7_of_248 rfl ?_
          refine x_iload B dX7_of_250 rfl ?_
          refine x_iload B dX7_of_252 rfl ?_
          refine x_goP (x_rV B hk (show x_cl[6]? = some _ from rfl) (c_X7_isBetter (sd := 0) hk (Or.inr ⟨rfl, by rw [e61]; omega⟩) ⟨by omega, by omega⟩ ⟨by omega, by omega⟩ ⟨by omega, by omega⟩) (lw_V q1261 q1263 qs36 q119 q1264) hv_X7_isBetter ⟨(by show _ ≤ (q + 1) + 1; omega), (by show _ ≤ 64 * ((q + 1) + 1); omega)⟩ ⟨Nat.le_refl _, Nat.le_refl _⟩ rfl rfl (by simp [x_cr, x_c1, x_c2]) dX7_of_254) ?_
          refine x_if_ne B (tgt := 263) dX7_of_257 (by decide) ⟨by omega, by omega⟩ (fun h_257 => ?_) (fun h_257 => ?_)
          · refine x_iload B dX7_of_263 rfl ?_
            refine x_istw_12 B dX7_of_265 (by first | rfl | exact x_cr _ _) ?_
            refine x_iload B dX7_of_267 rfl ?_
            refine x_istw_13 B dX7_of_269 (by first | rfl | exact x_cr _ _) ?_
            refine x_iinc_14 B dX7_of_271 (by first | rfl | exact x_cr _ _) ?_
            refine x_goto B (tgt := 192) dX7_of_274 (by decide) ?_
            refine x_fg_15 ?_
            rw [if_pos (by omega)] at hk2
            obtain ⟨k, rfl⟩ : ∃ g, k = g + 1 := ⟨k - 1, by omega⟩
            unfold d_sc at he
            first
            | (refine ih k _ _ _ _ ⟨⟨by omega, by omega⟩, hvr, ⟨by omega, by omega⟩, by rw [if_pos (by omega)]; omega, hg.trans hg2, hJ2, ?_⟩ (by omega); rw [he, if_neg h_257]; done)
            | (refine ih k _ _ _ _ ⟨⟨by omega, by omega⟩, hbr, har, by rw [if_pos (by omega)]; omega, hg.trans hg2, hJ2, ?_⟩ (by omega); rw [he, if_pos (by omega)])
          · refine x_goto B (tgt := 271) dX7_of_260 (by decide) ?_
            refine x_iinc_14 B dX7_of_271 (by first | rfl | exact x_cr _ _) ?_
            refine x_goto B (tgt := 192) dX7_of_274 (by decide) ?_
            refine x_fg_15 ?_
            rw [if_pos (by omega)] at hk2
            obtain ⟨k, rfl⟩ : ∃ g, k = g + 1 := ⟨k - 1, by omega⟩
            unfold d_sc at he
            first
            | (refine ih k _ _ _ _ ⟨⟨by omega, by omega⟩, hvr, ⟨by omega, by omega⟩, by rw [if_pos (by omega)]; omega, hg.trans hg2, hJ2, ?_⟩ (by omega); rw [he, if_neg h_257]; done)
            | (refine ih k _ _ _ _ ⟨⟨by omega, by omega⟩, hbr, har, by rw [if_pos (by omega)]; omega, hg.trans hg2, hJ2, ?_⟩ (by omega); rw [he, if_pos (by omega)])
  refine x_aload_n B dX7_of_0 rfl ?_
  refine x_iload_n B dX7_of_1 rfl ?_
  refine x_iload_n B dX7_of_2 rfl ?_
  refine x_iload_n B dX7_of_3 rfl ?_
  refine x_iload B dX7_of_4 rfl ?_
  refine x_goP (x_rV B hk (show x_cl[6]? = some _ from rfl) (c_X7_cell ) (lw_V q1230 q1232 qs31 q119 q1233) hv_X7_cell ⟨(by show _ ≤ (q + 1) + 1; omega), (by show _ ≤ 64 * ((q + 1) + 1); omega)⟩ ⟨Nat.le_refl _, Nat.le_refl _⟩ rfl rfl (by simp [x_cr, x_c1, x_c2]) dX7_of_6) ?_
  rw [hdc]
  refine x_istw_5 B dX7_of_9 (by first | rfl | exact x_cr _ _) ?_
  refine x_aload_n B dX7_of_11 rfl ?_
  refine x_getC1 B (k := 2) hT rfl rfl xc_6 (by decide) hk (Or.inl q338) (fun _ h => h) dX7_of_12 (fun k_12 => ?_)
  refine x_iload B dX7_of_15 rfl ?_
  refine x_zald B k_12 ⟨by omega, by omega⟩ dX7_of_17 (fun r_17 => ?_)
  refine x_if_eq B (tgt := 29) dX7_of_18 (by decide) ⟨by omega, by omega⟩ (fun h_18 => ?_) (fun h_18 => ?_)
  · refine x_aload_n B dX7_of_29 rfl ?_
    refine x_iload_n B dX7_of_30 rfl ?_
    refine x_iload_n B dX7_of_31 rfl ?_
    refine x_goP (x_rV B hk (show x_cl[6]? = some _ from rfl) (c_X7_isFirst h ⟨by omega, by omega⟩ ⟨by omega, by omega⟩) (lw_V q1234 q1235 q1236 q119 q1237) hv_X7_isFirst ⟨(by show _ ≤ (q + 1) + 1; omega), (by show _ ≤ 64 * ((q + 1) + 1); omega)⟩ ⟨Nat.le_refl _, Nat.le_refl _⟩ rfl rfl (by simp [x_cr, x_c1, x_c2]) dX7_of_32) ?_
    refine x_istw_6 B dX7_of_35 (by first | rfl | exact x_cr _ _) ?_
    refine x_iload B dX7_of_37 rfl ?_
    refine x_if_eq B (tgt := 49) dX7_of_39 (by decide) ⟨by omega, by omega⟩ (fun h_39 => ?_) (fun h_39 => (by exfalso; omega))
    refine x_aload_n B dX7_of_49 rfl ?_
    refine x_getI B (k := 4) 4 rfl rfl xc_6 (by decide) hk (Or.inl q340) (fun _ h => h) dX7_of_50 (fun r_50 => ?_)
    refine x_istw_7 B dX7_of_53 (by first | rfl | exact x_cr _ _) ?_
    refine x_iload B dX7_of_55 rfl ?_
    refine x_if_eq B (tgt := 67) dX7_of_57 (by decide) ⟨by omega, by omega⟩ (fun h_57 => ?_) (fun h_57 => (by exfalso; omega))
    refine x_aload_n B dX7_of_67 rfl ?_
    refine x_getI B (k := 3) 3 rfl rfl xc_6 (by decide) hk (Or.inl q339) (fun _ h => h) dX7_of_68 (fun r_68 => ?_)
    refine x_istw_8 B dX7_of_71 (by first | rfl | exact x_cr _ _) ?_
    refine x_iload B dX7_of_73 rfl ?_
    refine x_if_eq B (tgt := 82) dX7_of_75 (by decide) ⟨by omega, by omega⟩ (fun h_75 => ?_) (fun h_75 => (by exfalso; omega))
    refine x_iload_n B dX7_of_82 rfl ?_
    refine x_istw_9 B dX7_of_83 (by first | rfl | exact x_cr _ _) ?_
    refine x_aload_n B dX7_of_85 rfl ?_
    refine x_iload B dX7_of_86 rfl ?_
    refine x_iload B dX7_of_88 rfl ?_
    refine x_if_eq B (tgt := 97) dX7_of_90 (by decide) ⟨by omega, by omega⟩ (fun h_90 => ?_) (fun h_90 => (by exfalso; omega))
    refine x_iload_n B dX7_of_97 rfl ?_
    refine x_iload B dX7_of_98 rfl ?_
    refine x_if_eq B (tgt := 108) dX7_of_100 (by decide) ⟨by omega, by omega⟩ (fun h_100 => ?_) (fun h_100 => (by exfalso; omega))
    refine x_iload_n B dX7_of_108 rfl ?_
    refine x_iload B dX7_of_109 rfl ?_
    refine x_goP (x_rV B hk (show x_cl[6]? = some _ from rfl) (c_X7_answers (sd := 1) h (Or.inl ⟨rfl, rfl⟩) ⟨by omega, by omega⟩ ⟨by omega, by omega⟩ ⟨by omega, by omega⟩) (lw_V q1239 q1241 qs32 q119 q1242) hv_X7_answers ⟨(by show _ ≤ (q + 1) + 1; omega), (by show _ ≤ 64 * ((q + 1) + 1); omega)⟩ ⟨Nat.le_refl _, Nat.le_refl _⟩ rfl rfl (by simp [x_cr, x_c1, x_c2]) dX7_of_111) ?_
    refine x_istw_10 B dX7_of_114 (by first | rfl | exact x_cr _ _) ?_
    refine x_aload_n B dX7_of_116 rfl ?_
    refine x_iload B dX7_of_117 rfl ?_
    refine x_iload B dX7_of_119 rfl ?_
    refine x_if_eq B (tgt := 128) dX7_of_121 (by decide) ⟨by omega, by omega⟩ (fun h_121 => ?_) (fun h_121 => (by exfalso; omega))
    refine x_iload_n B dX7_of_128 rfl ?_
    refine x_iload B dX7_of_129 rfl ?_
    refine x_if_eq B (tgt := 139) dX7_of_131 (by decide) ⟨by omega, by omega⟩ (fun h_131 => ?_) (fun h_131 => (by exfalso; omega))
    refine x_iload_n B dX7_of_139 rfl ?_
    refine x_aload_n B dX7_of_140 rfl ?_
    refine x_getC0 B (k := 5) hT rfl rfl xc_6 (by decide) hk (Or.inl q341) (fun _ h => h) dX7_of_141 (fun k_141 => ?_)
    refine x_getC0 B (k := 2) hT rfl rfl xc_0 (by decide) k_141 (Or.inr q399) (fun _ h => h) dX7_of_144 (fun k_144 => ?_)
    refine x_getC1 B (k := 0) hT rfl rfl xc_2 (by decide) k_144 (Or.inr q243) (fun _ h => h) dX7_of_147 (fun k_147 => ?_)
    refine x_iload B dX7_of_150 rfl ?_
    refine x_aaldC B (t := 10) hT k_147 rfl rfl rfl rfl ⟨by omega, by omega⟩ dX7_of_152 (fun k_152 => ?_)
    refine x_getC1 B (k := 0) hT rfl rfl xc_3 (by decide) k_152 (Or.inr q193) (fun _ h => h) dX7_of_153 (fun k_153 => ?_)
    refine x_iconst B dX7_of_156 ?_
    refine x_iald B k_153 ⟨by omega, by omega⟩ dX7_of_157 (fun r_157 => ?_)
    refine x_goP (x_rV B hk (show x_cl[6]? = some _ from rfl) (c_X7_answers (sd := 1) h (Or.inl ⟨rfl, rfl⟩) ⟨by omega, by omega⟩ ⟨by omega, by omega⟩ ⟨by omega, by omega⟩) (lw_V q1239 q1241 qs32 q119 q1242) hv_X7_answers ⟨(by show _ ≤ (q + 1) + 1; omega), (by show _ ≤ 64 * ((q + 1) + 1); omega)⟩ ⟨Nat.le_refl _, Nat.le_refl _⟩ rfl rfl (by simp [x_cr, x_c1, x_c2]) dX7_of_158) ?_
    refine x_istw_11 B dX7_of_161 (by first | rfl | exact x_cr _ _) ?_
    refine x_aload_n B dX7_of_163 rfl ?_
    refine x_iload B dX7_of_164 rfl ?_
    refine x_iload B dX7_of_166 rfl ?_
    refine x_goP (x_rV B hk (show x_cl[6]? = some _ from rfl) (c_X7_odds (sd := 0) h (Or.inr ⟨rfl, rfl⟩) ⟨by omega, by omega⟩) (lw_V q1253 q1255 qs35 q119 q1256) hv_X7_odds ⟨(by show _ ≤ (q + 1) + 1; omega), (by show _ ≤ 64 * ((q + 1) + 1); omega)⟩ ⟨Nat.le_refl _, Nat.le_refl _⟩ rfl rfl (by simp [x_cr, x_c1, x_c2]) dX7_of_168) ?_
    refine x_iload B dX7_of_171 rfl ?_
    refine x_i2l B dX7_of_173 ⟨by omega, by omega⟩ ?_
    refine x_iload B dX7_of_174 rfl ?_
    refine x_i2l B dX7_of_176 ⟨by omega, by omega⟩ ?_
    refine x_goP (x_rSN B (c_X1_mixed ⟨by omega, by omega⟩ ⟨by omega, by omega⟩ ⟨by omega, by omega⟩) q1260 q1060 q110 q1061 hd_X1_mixed ⟨(by show _ ≤ (q + 1) + 1; omega), (by show _ ≤ 64 * ((q + 1) + 1); omega)⟩ ⟨Nat.le_refl _, Nat.le_refl _⟩ rfl rfl (by simp [x_cr, x_c1, x_c2]) dX7_of_177) ?_
    refine x_l2i B dX7_of_180 ?_
    refine x_istw_12 B dX7_of_181 (by first | rfl | exact x_cr _ _) ?_
    refine x_iconst B dX7_of_183 ?_
    refine x_istw_13 B dX7_of_184 (by first | rfl | exact x_cr _ _) ?_
    refine x_iload B dX7_of_186 rfl ?_
    refine x_iconst B dX7_of_188 ?_
    refine x_iadd B dX7_of_189 ?_
    refine x_istw_14 B dX7_of_190 (by first | rfl | exact x_cr _ _) ?_
    rw [eb]
    refine lp_192 _ (if o > 0 then (40 - y).toNat else 0) _ _ _ _ ⟨⟨by omega, by omega⟩, b0, ⟨by omega, by omega⟩, by (split <;> omega), d_fr.rf X, hD, eV⟩ (Nat.lt_succ_self _)
  · refine x_aload_n B dX7_of_21 rfl ?_
    refine x_getC1 B (k := 0) hT rfl rfl xc_6 (by decide) hk (Or.inl q335) (fun _ h => h) dX7_of_22 (fun k_22 => ?_)
    refine x_iload B dX7_of_25 rfl ?_
    refine x_iald B k_22 ⟨by omega, by omega⟩ dX7_of_27 (fun r_27 => ?_)
    have hmm := hD x y mi o hx hy hm ho (by omega)
    refine x_iret B (fun _ _ h => h) ?_ dX7_of_28
    exact ⟨by rw [hmm.1], d_fr.rf X, hD, by omega⟩
theorem d_all {l : Launch} {E : x_E} {κ : x_Ka} {V : Int → Int → Int → Int → Int × Int} : ∀ (k : Nat) (X : x_X) (x y m o : Int), d_H κ X → V = d_V X → d_I X V → (0 ≤ x ∧ x ≤ 40) → (0 ≤ y ∧ y ≤ 40) → (0 ≤ m ∧ m ≤ 2) → (0 ≤ o ∧ o ≤ 2) → m + o < k → x_Met l yX7_of cX7_of 16 (some .int) (6 + k) 0 0 E κ X [x_rf E 60, vi x, vi y, vi m, vi o] κ (fun v_ Y_ => v_ = some (vi (V x y m o).1) ∧ d_fr X Y_ ∧ d_I Y_ V ∧ Y_ (60 + 3) (d_cl x y m o) = 1)
  | 0, _, _, _, _, _, _, _, _, _, _, _, _, hd => by omega
  | k + 1, X, x, y, m, o, h, hV, hD, hx, hy, hm, ho, hd => by
    have hVE : ∀ Y, d_fr X Y → V = d_V Y := fun Y hf => by
      obtain ⟨-, e1, e2, e3, e4⟩ := h.fr hf
      rw [hV]; unfold d_V; rw [e1, e2, e3, e4]
    have rV : ∀ x y m o, 0 ≤ (V x y m o).1 ∧ (V x y m o).1 ≤ 1000000 := fun x y m o => by rw [hV]; exact d_of_r h.R 5 x y m o
    by_cases q : d_F X x y = 0
    · refine c_X7_of_0 (q := 6 + k) h hD hx hy hm ho (by omega) q (fun hc Y z hf hJ z1 z2 => ?_) ?_ rV
      · exact (d_all k Y x z m (o - 1) (h.fr hf).1 (hVE Y hf) hJ hx (by omega) hm (by omega) (by omega)).imp (fun v Z hp => ⟨hp.1, hp.2.1, hp.2.2.1⟩)
      · rw [hV]; unfold d_V; rw [d_ofE ⟨hm.1, ho.1⟩ (by omega), if_pos q]
    · refine c_X7_of_1 (q := 6 + k) h hD hx hy hm ho (by omega) q (fun hc Y z hf hJ z1 z2 => ?_) ?_ rV
      · exact (d_all k Y z y (m - 1) o (h.fr hf).1 (hVE Y hf) hJ (by omega) hy (by omega) ho (by omega)).imp (fun v Z hp => ⟨hp.1, hp.2.1, hp.2.2.1⟩)
      · rw [hV]; unfold d_V; rw [d_ofE ⟨hm.1, ho.1⟩ (by omega), if_neg q]
