def d8 (X Y : x_X) : Prop := ∀ b, b ≠ 85 → b ≠ 86 → Y b = X b
theorem d8.rf (X : x_X) : d8 X X := fun _ _ _ => rfl
theorem d8.trans {X Y Z : x_X} (h : d8 X Y) (h2 : d8 Y Z) : d8 X Z := fun b b1 b2 => (h2 b b1 b2).trans (h b b1 b2)
theorem d8.h {X Y : x_X} (h : d8 X Y) : h_eq X Y := ⟨fun b b1 b2 b3 => h b (by omega) (by omega), fun i i1 i2 i3 => by rw [h 64 (by omega) (by omega)]⟩
theorem d8.r {X Y : x_X} (h : d8 X Y) : hr8 X Y := ⟨h 65 (by omega) (by omega), by rw [h 64 (by omega) (by omega)]⟩
theorem g8.d {κ : x_Ka} {X Y M : x_X} {li : Int → Int → Int} {O : Int → Int → Int → Int → Int} {lot : Int → Int} {a b : Int} (h : g8 κ X M li O lot a b) (hd : d8 X Y) : g8 κ Y M li O lot a b := h.fr hd.h (by rw [hd 64 (by omega) (by omega)]) (by rw [hd 64 (by omega) (by omega)])
def d8_pt (X : x_X) (V : Int → Int → Int → Int → Int × Int) (x y m o : Int) : x_X := x_up (x_up X 85 (d_cl x y m o) (V x y m o).1) 86 (d_cl x y m o) (V x y m o).2
/-- the table's part that is laid -/
def D8 (Y : x_X) (V : Int → Int → Int → Int → Int × Int) (A B m o k j x y : Int) : Prop := ∀ m2 o2 x2 y2, (0 ≤ m2 ∧ m2 ≤ m) → (0 ≤ o2 ∧ o2 ≤ o) → (A ≤ x2 ∧ x2 ≤ 40) → (B ≤ y2 ∧ y2 ≤ 40) → (m2 + o2 < k ∨ (m2 + o2 = k ∧ (m2 < j ∨ (m2 = j ∧ (x2 < x ∨ (x2 = x ∧ y2 < y)))))) → Y 85 (d_cl x2 y2 m2 o2) = (V x2 y2 m2 o2).1 ∧ Y 86 (d_cl x2 y2 m2 o2) = (V x2 y2 m2 o2).2
theorem D8.w {Y : x_X} {V : Int → Int → Int → Int → Int × Int} {A B m o k j x y k2 j2 u2 v2 : Int} (h : D8 Y V A B m o k j x y) (hs : ∀ m2 o2 x2 y2 : Int, (0 ≤ m2 ∧ m2 ≤ m) → (0 ≤ o2 ∧ o2 ≤ o) → (A ≤ x2 ∧ x2 ≤ 40) → (B ≤ y2 ∧ y2 ≤ 40) → (m2 + o2 < k2 ∨ (m2 + o2 = k2 ∧ (m2 < j2 ∨ (m2 = j2 ∧ (x2 < u2 ∨ (x2 = u2 ∧ y2 < v2)))))) → (m2 + o2 < k ∨ (m2 + o2 = k ∧ (m2 < j ∨ (m2 = j ∧ (x2 < x ∨ (x2 = x ∧ y2 < y))))))) : D8 Y V A B m o k2 j2 u2 v2 := fun m2 o2 x2 y2 h1 h2 h3 h4 h5 => h m2 o2 x2 y2 h1 h2 h3 h4 (hs m2 o2 x2 y2 h1 h2 h3 h4 h5)
theorem D8.put {Y : x_X} {V : Int → Int → Int → Int → Int × Int} {A B m o k j x y : Int} (h : D8 Y V A B m o k j x y) (hm : m ≤ 2) (ho : o ≤ 2) (hA : 0 ≤ A) (hB : 0 ≤ B) (hj : 0 ≤ j ∧ j ≤ m) (hk : 0 ≤ k - j ∧ k - j ≤ o) (hx : A ≤ x ∧ x ≤ 40) (hy : B ≤ y ∧ y ≤ 40) : D8 (d8_pt Y V x y j (k - j)) V A B m o k j x (y + 1) := by
  intro m2 o2 x2 y2 h1 h2 h3 h4 h5
  unfold d8_pt
  by_cases q : d_cl x2 y2 m2 o2 = d_cl x y j (k - j)
  · obtain ⟨rfl, rfl, rfl, rfl⟩ := d_cl_i (by omega) (by omega) (by omega) (by omega) (by omega) (by omega) q
    rw [x_up_o _ (by omega), x_up_s, x_up_s]; exact ⟨rfl, rfl⟩
  · rw [x_up_o _ (by omega), x_up_n _ (Or.inr q), x_up_n _ (Or.inr q), x_up_o _ (by omega)]
    refine h m2 o2 x2 y2 h1 h2 h3 h4 ?_
    by_cases q2 : m2 = j ∧ m2 + o2 = k ∧ x2 = x ∧ y2 = y
    · exact absurd (by obtain ⟨rfl, q3, rfl, rfl⟩ := q2; rw [show k - m2 = o2 by omega]) q
    · omega
theorem d_of_r2 {ed od : Int → Int → Int} {ow : Int → Int} {fs : Int → Int → Int} (h : d_R od ed) {x y m o : Int} (h1 : 0 ≤ m ∧ 0 ≤ o) (h2 : m + o < 5) (hx : 0 ≤ x ∧ x ≤ 40) (hy : 0 ≤ y ∧ y ≤ 40) : 0 ≤ (d_of ed od ow fs 5 x y m o).2 ∧ (d_of ed od ow fs 5 x y m o).2 ≤ 40 := by
  rw [d_ofE h1 h2]
  by_cases q : fs x y = 0
  · rw [if_pos q]; exact (d_sc_r (fun z => d_of_r h 5 _ _ _ _) _ _ _ _ (d_b0_r h _ _ _ _) (by omega) (by split <;> omega)).2
  · rw [if_neg q]; exact (d_sc_r (fun z => d_of_r h 5 _ _ _ _) _ _ _ _ (d_b0_r h _ _ _ _) (by omega) (by split <;> omega)).2
theorem c_X8_duelLays_1 {l : Launch} {E : x_E} {κ : x_Ka} {X : x_X} {M : x_X} {li : Int → Int → Int} {O : Int → Int → Int → Int → Int} {lot : Int → Int} {a b : Int} {x y mi o : Int} (h : g8 κ X M li O lot a b) (hx : M a 3 ≤ x ∧ x ≤ 40) (hy : M b 3 ≤ y ∧ y ≤ 40) (hm : 0 ≤ mi ∧ mi ≤ 2) (ho : 0 ≤ o ∧ o ≤ 2) (hF : (d_fs lot a b) x y ≠ 0) (hv1 : mi > 0 → ∀ z, x < z → z ≤ 40 → X 85 (d_cl z y (mi - 1) o) = ((d_of (d_ed li M a b) (d_od O M a b) (d_ow M a b) (d_fs lot a b) 5) z y (mi - 1) o).1) : x_Vo l yX8_duelLays cX8_duelLays 16 5 E κ X [x_rf E 64, vi x, vi y, vi mi, vi o] (d8_pt X (d_of (d_ed li M a b) (d_od O M a b) (d_ow M a b) (d_fs lot a b) 5) x y mi o) := by
  refine x_Met.of [(false, x_rf E 64), (false, vi x), (false, vi y), (false, vi mi), (false, vi o)] [some (x_rf E 64), some (vi x), some (vi y), some (vi mi), some (vi o), none, none, none, none, none, none, none, none, none, none, none] 11 (by decide) rfl rfl ⟨x_cr E (64), rfl, rfl, rfl, rfl, trivial⟩ rfl rfl ?_
  intro p e s m args below meth c hargs hin B
  obtain ⟨hC, ha, hb, hne, ⟨e35, e36⟩, ⟨hL2, h3a, h3b⟩, eM, eli, eO, elo⟩ := id h
  obtain ⟨hK, hP, hO, hW, hLa⟩ := id hC
  obtain ⟨hT, h8, hn⟩ := id hK
  have fa := h.s (sd := 1) (i := a) (Or.inl ⟨rfl, rfl⟩)
  have fb := h.s (sd := 0) (i := b) (Or.inr ⟨rfl, rfl⟩)
  have hR := h.R
  have hfr : 0 ≤ (d_fs lot a b) x y ∧ (d_fs lot a b) x y ≤ 1 := by unfold d_fs; split <;> omega
  have hF1 : (d_fs lot a b) x y = 1 := by omega
  have hcl := d_cl_r (x := x) (y := y) (m := mi) (o := o) ⟨by omega, by omega⟩ ⟨by omega, by omega⟩ hm ho
  have ew : (d_ow M a b) 1 = M a 12 := by unfold d_ow d_l; rw [if_pos rfl]
  have a1 := d_ans_r (ow := (d_ow M a b)) hR 0 y o x
  have a2 := d_ans_r (ow := (d_ow M a b)) hR 0 y o ((d_ow M a b) 1)
  have a3 := hR.1 1 x
  have b0 := d_b0_r (ow := (d_ow M a b)) hR 1 x y o
  have eb : p_mix ((d_od O M a b) 1 x) (d_ans (d_ed li M a b) (d_od O M a b) (d_ow M a b) 0 y o x) (d_ans (d_ed li M a b) (d_od O M a b) (d_ow M a b) 0 y o ((d_ow M a b) 1)) = (d_b0 (d_ed li M a b) (d_od O M a b) (d_ow M a b) 1 x y o) := rfl
  have eV : (d_of (d_ed li M a b) (d_od O M a b) (d_ow M a b) (d_fs lot a b) 5) x y mi o = d_sc (fun z => ((d_of (d_ed li M a b) (d_od O M a b) (d_ow M a b) (d_fs lot a b) 5) z y (mi - 1) o).1) 1 (if mi > 0 then (40 - x).toNat else 0) (x + 1) (d_b0 (d_ed li M a b) (d_od O M a b) (d_ow M a b) 1 x y o) 0 := by rw [d_ofE ⟨hm.1, ho.1⟩ (by omega), if_neg hF]
  have rV : ∀ x y mi o, 0 ≤ ((d_of (d_ed li M a b) (d_od O M a b) (d_ow M a b) (d_fs lot a b) 5) x y mi o).1 ∧ ((d_of (d_ed li M a b) (d_od O M a b) (d_ow M a b) (d_fs lot a b) 5) x y mi o).1 ≤ 1000000 := fun x y mi o => d_of_r hR 5 x y mi o
  have lp_156 : ∀ (n : Nat) (k : Nat) (more best a_ : Int), ((x + 1 ≤ more ∧ more ≤ 41) ∧ (0 ≤ best ∧ best ≤ 1000000) ∧ (0 ≤ a_ ∧ a_ ≤ 40) ∧ (k : Int) = (if mi > 0 then 41 - more else 0) ∧ (d_of (d_ed li M a b) (d_od O M a b) (d_ow M a b) (d_fs lot a b) 5) x y mi o = d_sc (fun z => ((d_of (d_ed li M a b) (d_od O M a b) (d_ow M a b) (d_fs lot a b) 5) z y (mi - 1) o).1) 1 k more best a_) → ((42 - more).toNat < n) → x_G p l e (x_rm 5 0 0) s m args below meth c 16 E 0 0 (MQ below (x_Q E κ (fun v_ X_ => v_ = none ∧ X_ = (d8_pt X (d_of (d_ed li M a b) (d_od O M a b) (d_ow M a b) (d_fs lot a b) 5) x y mi o))) args s 0 0 (fun q => E.1 ≤ q)) κ 156 [some (x_rf E 64), some (vi x), some (vi y), some (vi mi), some (vi o), some (vi 1), some (vi a), some (vi x), some (vi o), some (vi y), some (vi (d_ans (d_ed li M a b) (d_od O M a b) (d_ow M a b) 0 y o x)), some (vi (d_ans (d_ed li M a b) (d_od O M a b) (d_ow M a b) 0 y o ((d_ow M a b) 1))), some (vi best), some (vi a_), some (vi more), none] [] X := by
    intro n
    induction n with
    | zero => intro k more best a_ hinv hme; exfalso; omega
    | succ n ih =>
      intro k more best a_ hinv hme
      obtain ⟨hmr, hbr, har, hk2, he⟩ := hinv
      have hbt := d_bt_r 1 ((d_of (d_ed li M a b) (d_od O M a b) (d_ow M a b) (d_fs lot a b) 5) more y (mi - 1) o).1 best
      have hvr := rV more y (mi - 1) o
      refine x_iload B dX8_duelLays_156 rfl ?_
      refine x_bipush B dX8_duelLays_158 (by decide) ?_
      refine x_icmp_gt B (tgt := 248) dX8_duelLays_160 (by decide) ⟨by omega, by omega⟩ ⟨by omega, by omega⟩ (fun h_160 => ?_) (fun h_160 => ?_)
      · refine x_aload_n B dX8_duelLays_248 rfl ?_
        refine x_getC0 B (k := 37) hT rfl rfl xc_7 (by decide) h8 (Or.inl q1372) (fun _ h => h) dX8_duelLays_249 (fun k_249 => ?_)
        refine x_iload_n B dX8_duelLays_252 rfl ?_
        refine x_iload_n B dX8_duelLays_253 rfl ?_
        refine x_iload_n B dX8_duelLays_254 rfl ?_
        refine x_iload B dX8_duelLays_255 rfl ?_
        refine x_goP (x_rS B (c_X8_duelCell ⟨by omega, by omega⟩ ⟨by omega, by omega⟩ ⟨by omega, by omega⟩ ⟨by omega, by omega⟩) (lw_S q1884 q1885 q122 q1886) hd_X8_duelCell ⟨by decide, by decide⟩ ⟨by decide, by decide⟩ rfl rfl (by simp [x_cr, x_c1, x_c2]) dX8_duelLays_257) ?_
        refine x_iload B dX8_duelLays_260 rfl ?_
        refine x_iast B k_249 ⟨by omega, by omega⟩ ⟨by omega, by omega⟩ dX8_duelLays_262 ?_
        refine x_aload_n B dX8_duelLays_263 rfl ?_
        refine x_getC0 B (k := 38) hT rfl rfl xc_7 (by decide) h8 (Or.inl q1373) (fun _ h => h) dX8_duelLays_264 (fun k_264 => ?_)
        refine x_iload_n B dX8_duelLays_267 rfl ?_
        refine x_iload_n B dX8_duelLays_268 rfl ?_
        refine x_iload_n B dX8_duelLays_269 rfl ?_
        refine x_iload B dX8_duelLays_270 rfl ?_
        refine x_goP (x_rS B (c_X8_duelCell ⟨by omega, by omega⟩ ⟨by omega, by omega⟩ ⟨by omega, by omega⟩ ⟨by omega, by omega⟩) (lw_S q1884 q1885 q122 q1886) hd_X8_duelCell ⟨by decide, by decide⟩ ⟨by decide, by decide⟩ rfl rfl (by simp [x_cr, x_c1, x_c2]) dX8_duelLays_272) ?_
        refine x_iload B dX8_duelLays_275 rfl ?_
        refine x_iast B k_264 ⟨by omega, by omega⟩ ⟨by omega, by omega⟩ dX8_duelLays_277 ?_
        refine x_vret B (fun _ _ h => h) ?_ dX8_duelLays_278
        have hk0 : k = 0 := by split at hk2 <;> omega
        subst hk0
        have he2 : (d_of (d_ed li M a b) (d_od O M a b) (d_ow M a b) (d_fs lot a b) 5) x y mi o = (best, a_) := he
        unfold d8_pt
        rw [he2]
        exact ⟨rfl, rfl⟩
      · refine x_iload B dX8_duelLays_163 rfl ?_
        refine x_if_eq B (tgt := 172) dX8_duelLays_165 (by decide) ⟨by omega, by omega⟩ (fun h_165 => (by exfalso; omega)) (fun h_165 => ?_)
        refine x_iload_n B dX8_duelLays_168 rfl ?_
        refine x_goto B (tgt := 174) dX8_duelLays_169 (by decide) ?_
        refine x_if_le B (tgt := 248) dX8_duelLays_174 (by decide) ⟨by omega, by omega⟩ (fun h_174 => ?_) (fun h_174 => ?_)
        · refine x_aload_n B dX8_duelLays_248 rfl ?_
          refine x_getC0 B (k := 37) hT rfl rfl xc_7 (by decide) h8 (Or.inl q1372) (fun _ h => h) dX8_duelLays_249 (fun k_249 => ?_)
          refine x_iload_n B dX8_duelLays_252 rfl ?_
          refine x_iload_n B dX8_duelLays_253 rfl ?_
          refine x_iload_n B dX8_duelLays_254 rfl ?_
          refine x_iload B dX8_duelLays_255 rfl ?_
          refine x_goP (x_rS B (c_X8_duelCell ⟨by omega, by omega⟩ ⟨by omega, by omega⟩ ⟨by omega, by omega⟩ ⟨by omega, by omega⟩) (lw_S q1884 q1885 q122 q1886) hd_X8_duelCell ⟨by decide, by decide⟩ ⟨by decide, by decide⟩ rfl rfl (by simp [x_cr, x_c1, x_c2]) dX8_duelLays_257) ?_
          refine x_iload B dX8_duelLays_260 rfl ?_
          refine x_iast B k_249 ⟨by omega, by omega⟩ ⟨by omega, by omega⟩ dX8_duelLays_262 ?_
          refine x_aload_n B dX8_duelLays_263 rfl ?_
          refine x_getC0 B (k := 38) hT rfl rfl xc_7 (by decide) h8 (Or.inl q1373) (fun _ h => h) dX8_duelLays_264 (fun k_264 => ?_)
          refine x_iload_n B dX8_duelLays_267 rfl ?_
          refine x_iload_n B dX8_duelLays_268 rfl ?_
          refine x_iload_n B dX8_duelLays_269 rfl ?_
          refine x_iload B dX8_duelLays_270 rfl ?_
          refine x_goP (x_rS B (c_X8_duelCell ⟨by omega, by omega⟩ ⟨by omega, by omega⟩ ⟨by omega, by omega⟩ ⟨by omega, by omega⟩) (lw_S q1884 q1885 q122 q1886) hd_X8_duelCell ⟨by decide, by decide⟩ ⟨by decide, by decide⟩ rfl rfl (by simp [x_cr, x_c1, x_c2]) dX8_duelLays_272) ?_
          refine x_iload B dX8_duelLays_275 rfl ?_
          refine x_iast B k_264 ⟨by omega, by omega⟩ ⟨by omega, by omega⟩ dX8_duelLays_277 ?_
          refine x_vret B (fun _ _ h => h) ?_ dX8_duelLays_278
          have hk0 : k = 0 := by split at hk2 <;> omega
          subst hk0
          have he2 : (d_of (d_ed li M a b) (d_od O M a b) (d_ow M a b) (d_fs lot a b) 5) x y mi o = (best, a_) := he
          unfold d8_pt
          rw [he2]
          exact ⟨rfl, rfl⟩
        · refine x_iload B dX8_duelLays_177 rfl ?_
          refine x_if_eq B (tgt := 201) dX8_duelLays_179 (by decide) ⟨by omega, by omega⟩ (fun h_179 => (by exfalso; omega)) (fun h_179 => ?_)
          have hcl2 := d_cl_r (x := more) (y := y) (m := mi - 1) (o := o) ⟨by omega, by omega⟩ ⟨by omega, by omega⟩ ⟨by omega, by omega⟩ ⟨by omega, by omega⟩
          refine x_aload_n B dX8_duelLays_182 rfl ?_
          refine x_getC0 B (k := 37) hT rfl rfl xc_7 (by decide) h8 (Or.inl q1372) (fun _ h => h) dX8_duelLays_183 (fun k_183 => ?_)
          refine x_iload B dX8_duelLays_186 rfl ?_
          refine x_iload_n B dX8_duelLays_188 rfl ?_
          refine x_iload_n B dX8_duelLays_189 rfl ?_
          refine x_iconst B dX8_duelLays_190 ?_
          refine x_isub B dX8_duelLays_191 ?_
          refine x_iload B dX8_duelLays_192 rfl ?_
          refine x_goP (x_rS B (c_X8_duelCell ⟨by omega, by omega⟩ ⟨by omega, by omega⟩ ⟨by omega, by omega⟩ ⟨by omega, by omega⟩) (lw_S q1884 q1885 q122 q1886) hd_X8_duelCell ⟨by decide, by decide⟩ ⟨by decide, by decide⟩ rfl rfl (by simp [x_cr, x_c1, x_c2]) dX8_duelLays_194) ?_
          refine x_iald B k_183 ⟨by omega, by omega⟩ dX8_duelLays_197 (fun r_197 => ?_)
          rw [hv1 (by omega) more (by omega) (by omega)] at r_197 ⊢
          refine x_goto B (tgt := 217) dX8_duelLays_198 (by decide) ?_
          refine x_istw_15 B dX8_duelLays_217 (by first | rfl | exact x_cr _ _) ?_
          refine x_iload B dX8_duelLays_219 rfl ?_
          refine x_iload B dX8_duelLays_221 rfl ?_
          refine x_iload B dX8_duelLays_223 rfl ?_
          refine x_goP (x_rS B (c_X8_isBetter ⟨by omega, by omega⟩ ⟨by omega, by omega⟩ ⟨by omega, by omega⟩) (lw_S q1881 q1882 q122 q1883) hd_X8_isBetter ⟨by decide, by decide⟩ ⟨by decide, by decide⟩ rfl rfl (by simp [x_cr, x_c1, x_c2]) dX8_duelLays_225) ?_
          refine x_if_ne B (tgt := 234) dX8_duelLays_228 (by decide) ⟨by omega, by omega⟩ (fun h_228 => ?_) (fun h_228 => ?_)
          · refine x_iload B dX8_duelLays_234 rfl ?_
            refine x_istw_12 B dX8_duelLays_236 (by first | rfl | exact x_cr _ _) ?_
            refine x_iload B dX8_duelLays_238 rfl ?_
            refine x_istw_13 B dX8_duelLays_240 (by first | rfl | exact x_cr _ _) ?_
            refine x_iinc_14 B dX8_duelLays_242 (by first | rfl | exact x_cr _ _) ?_
            refine x_goto B (tgt := 156) dX8_duelLays_245 (by decide) ?_
            refine x_fg_15 ?_
            rw [if_pos (show mi > 0 by omega)] at hk2
            obtain ⟨k, rfl⟩ : ∃ g, k = g + 1 := ⟨k - 1, by omega⟩
            unfold d_sc at he
            first
            | (refine ih k _ _ _ ⟨⟨by omega, by omega⟩, hvr, ⟨by omega, by omega⟩, by rw [if_pos (by omega)]; omega, ?_⟩ (by omega); rw [he, if_neg h_228]; done)
            | (refine ih k _ _ _ ⟨⟨by omega, by omega⟩, hbr, har, by rw [if_pos (by omega)]; omega, ?_⟩ (by omega); rw [he, if_pos (by omega)])
          · refine x_goto B (tgt := 242) dX8_duelLays_231 (by decide) ?_
            refine x_iinc_14 B dX8_duelLays_242 (by first | rfl | exact x_cr _ _) ?_
            refine x_goto B (tgt := 156) dX8_duelLays_245 (by decide) ?_
            refine x_fg_15 ?_
            rw [if_pos (show mi > 0 by omega)] at hk2
            obtain ⟨k, rfl⟩ : ∃ g, k = g + 1 := ⟨k - 1, by omega⟩
            unfold d_sc at he
            first
            | (refine ih k _ _ _ ⟨⟨by omega, by omega⟩, hvr, ⟨by omega, by omega⟩, by rw [if_pos (by omega)]; omega, ?_⟩ (by omega); rw [he, if_neg h_228]; done)
            | (refine ih k _ _ _ ⟨⟨by omega, by omega⟩, hbr, har, by rw [if_pos (by omega)]; omega, ?_⟩ (by omega); rw [he, if_pos (by omega)])
  refine x_aload_n B dX8_duelLays_0 rfl ?_
  refine x_iload_n B dX8_duelLays_1 rfl ?_
  refine x_iload_n B dX8_duelLays_2 rfl ?_
  refine x_goP (x_rV B h8 (show x_cl[7]? = some _ from rfl) (c_X8_isOneCalled h ⟨by omega, by omega⟩ ⟨by omega, by omega⟩) (lw_V q1857 q1859 qs99 q122 q1860) hv_X8_isOneCalled ⟨by decide, by decide⟩ ⟨by decide, by decide⟩ rfl rfl (by simp [x_cr, x_c1, x_c2]) dX8_duelLays_3) ?_
  rw [hF1]
  refine x_istw_5 B dX8_duelLays_6 (by first | rfl | exact x_cr _ _) ?_
  refine x_iload B dX8_duelLays_8 rfl ?_
  refine x_if_eq B (tgt := 20) dX8_duelLays_10 (by decide) ⟨by omega, by omega⟩ (fun h_10 => (by exfalso; omega)) (fun h_10 => ?_)
  refine x_aload_n B dX8_duelLays_13 rfl ?_
  refine x_getI B (k := 35) 35 rfl rfl xc_7 (by decide) h8 (Or.inl q1370) (fun _ h => h) dX8_duelLays_14 (fun r_14 => ?_)
  rw [e35] at r_14 ⊢
  refine x_goto B (tgt := 24) dX8_duelLays_17 (by decide) ?_
  refine x_istw_6 B dX8_duelLays_24 (by first | rfl | exact x_cr _ _) ?_
  refine x_iload B dX8_duelLays_26 rfl ?_
  refine x_if_eq B (tgt := 35) dX8_duelLays_28 (by decide) ⟨by omega, by omega⟩ (fun h_28 => (by exfalso; omega)) (fun h_28 => ?_)
  refine x_iload_n B dX8_duelLays_31 rfl ?_
  refine x_goto B (tgt := 36) dX8_duelLays_32 (by decide) ?_
  refine x_istw_7 B dX8_duelLays_36 (by first | rfl | exact x_cr _ _) ?_
  refine x_iload B dX8_duelLays_38 rfl ?_
  refine x_if_eq B (tgt := 48) dX8_duelLays_40 (by decide) ⟨by omega, by omega⟩ (fun h_40 => (by exfalso; omega)) (fun h_40 => ?_)
  refine x_iload B dX8_duelLays_43 rfl ?_
  refine x_goto B (tgt := 49) dX8_duelLays_45 (by decide) ?_
  refine x_istw_8 B dX8_duelLays_49 (by first | rfl | exact x_cr _ _) ?_
  refine x_iload B dX8_duelLays_51 rfl ?_
  refine x_if_eq B (tgt := 60) dX8_duelLays_53 (by decide) ⟨by omega, by omega⟩ (fun h_53 => (by exfalso; omega)) (fun h_53 => ?_)
  refine x_iload_n B dX8_duelLays_56 rfl ?_
  refine x_goto B (tgt := 61) dX8_duelLays_57 (by decide) ?_
  refine x_istw_9 B dX8_duelLays_61 (by first | rfl | exact x_cr _ _) ?_
  refine x_aload_n B dX8_duelLays_63 rfl ?_
  refine x_iload B dX8_duelLays_64 rfl ?_
  refine x_if_eq B (tgt := 76) dX8_duelLays_66 (by decide) ⟨by omega, by omega⟩ (fun h_66 => (by exfalso; omega)) (fun h_66 => ?_)
  refine x_aload_n B dX8_duelLays_69 rfl ?_
  refine x_getI B (k := 36) 36 rfl rfl xc_7 (by decide) h8 (Or.inl q1371) (fun _ h => h) dX8_duelLays_70 (fun r_70 => ?_)
  rw [e36] at r_70 ⊢
  refine x_goto B (tgt := 80) dX8_duelLays_73 (by decide) ?_
  refine x_iload B dX8_duelLays_80 rfl ?_
  refine x_iload B dX8_duelLays_82 rfl ?_
  refine x_aload_n B dX8_duelLays_84 rfl ?_
  refine x_iload B dX8_duelLays_85 rfl ?_
  refine x_iload B dX8_duelLays_87 rfl ?_
  refine x_iconst B dX8_duelLays_89 ?_
  refine x_goP (x_rV B h8 (show x_cl[7]? = some _ from rfl) (c_X8_duelBest (sd := 1) h (Or.inl ⟨rfl, rfl⟩) ⟨by omega, by omega⟩ ⟨by omega, by omega⟩) (lw_V q1861 q1863 qs100 q122 q1864) hv_X8_duelBest ⟨by decide, by decide⟩ ⟨by decide, by decide⟩ rfl rfl (by simp [x_cr, x_c1, x_c2]) dX8_duelLays_90) ?_
  rw [if_pos (show (1 : Int) = 1 from rfl)]
  refine x_goP (x_rV B h8 (show x_cl[7]? = some _ from rfl) (c_X8_duelChoosesLast (sd := 0) h (Or.inr ⟨rfl, rfl⟩) ⟨by omega, by omega⟩ ⟨by omega, by omega⟩ ⟨by omega, by omega⟩) (lw_V q1865 q1867 qs101 q122 q1868) hv_X8_duelChoosesLast ⟨by decide, by decide⟩ ⟨by decide, by decide⟩ rfl rfl (by simp [x_cr, x_c1, x_c2]) dX8_duelLays_93) ?_
  refine x_istw_10 B dX8_duelLays_96 (by first | rfl | exact x_cr _ _) ?_
  refine x_aload_n B dX8_duelLays_98 rfl ?_
  refine x_iload B dX8_duelLays_99 rfl ?_
  refine x_if_eq B (tgt := 111) dX8_duelLays_101 (by decide) ⟨by omega, by omega⟩ (fun h_101 => (by exfalso; omega)) (fun h_101 => ?_)
  refine x_aload_n B dX8_duelLays_104 rfl ?_
  refine x_getI B (k := 36) 36 rfl rfl xc_7 (by decide) h8 (Or.inl q1371) (fun _ h => h) dX8_duelLays_105 (fun r_105 => ?_)
  rw [e36] at r_105 ⊢
  refine x_goto B (tgt := 115) dX8_duelLays_108 (by decide) ?_
  refine x_iload B dX8_duelLays_115 rfl ?_
  refine x_iload B dX8_duelLays_117 rfl ?_
  refine x_aload_n B dX8_duelLays_119 rfl ?_
  refine x_iload B dX8_duelLays_120 rfl ?_
  refine x_iload B dX8_duelLays_122 rfl ?_
  refine x_iconst B dX8_duelLays_124 ?_
  refine x_goP (x_rV B h8 (show x_cl[7]? = some _ from rfl) (c_X8_duelBest (sd := 1) h (Or.inl ⟨rfl, rfl⟩) ⟨by omega, by omega⟩ ⟨by omega, by omega⟩) (lw_V q1861 q1863 qs100 q122 q1864) hv_X8_duelBest ⟨by decide, by decide⟩ ⟨by decide, by decide⟩ rfl rfl (by simp [x_cr, x_c1, x_c2]) dX8_duelLays_125) ?_
  rw [if_neg (show ¬ (0 : Int) = 1 by omega)]
  refine x_goP (x_rV B h8 (show x_cl[7]? = some _ from rfl) (c_X8_duelChoosesLast (sd := 0) h (Or.inr ⟨rfl, rfl⟩) ⟨by omega, by omega⟩ ⟨by omega, by omega⟩ ⟨by omega, by omega⟩) (lw_V q1865 q1867 qs101 q122 q1868) hv_X8_duelChoosesLast ⟨by decide, by decide⟩ ⟨by decide, by decide⟩ rfl rfl (by simp [x_cr, x_c1, x_c2]) dX8_duelLays_128) ?_
  refine x_istw_11 B dX8_duelLays_131 (by first | rfl | exact x_cr _ _) ?_
  refine x_aload_n B dX8_duelLays_133 rfl ?_
  refine x_iload B dX8_duelLays_134 rfl ?_
  refine x_iload B dX8_duelLays_136 rfl ?_
  refine x_iload B dX8_duelLays_138 rfl ?_
  refine x_iload B dX8_duelLays_140 rfl ?_
  refine x_goP (x_rV B h8 (show x_cl[7]? = some _ from rfl) (c_X8_duelTry (sd := 1) h (Or.inl ⟨rfl, rfl⟩) ⟨by omega, by omega⟩ a1 a2) (lw_V q1877 q1879 qs104 q122 q1880) hv_X8_duelTry ⟨by decide, by decide⟩ ⟨by decide, by decide⟩ rfl rfl (by simp [x_cr, x_c1, x_c2]) dX8_duelLays_142) ?_
  refine x_istw_12 B dX8_duelLays_145 (by first | rfl | exact x_cr _ _) ?_
  refine x_iconst B dX8_duelLays_147 ?_
  refine x_istw_13 B dX8_duelLays_148 (by first | rfl | exact x_cr _ _) ?_
  refine x_iload B dX8_duelLays_150 rfl ?_
  refine x_iconst B dX8_duelLays_152 ?_
  refine x_iadd B dX8_duelLays_153 ?_
  refine x_istw_14 B dX8_duelLays_154 (by first | rfl | exact x_cr _ _) ?_
  rw [eb]
  refine lp_156 _ (if mi > 0 then (40 - x).toNat else 0) _ _ _ ⟨⟨by omega, by omega⟩, b0, ⟨by omega, by omega⟩, by (split <;> omega), eV⟩ (Nat.lt_succ_self _)
theorem c_X8_duelLays_0 {l : Launch} {E : x_E} {κ : x_Ka} {X : x_X} {M : x_X} {li : Int → Int → Int} {O : Int → Int → Int → Int → Int} {lot : Int → Int} {a b : Int} {x y mi o : Int} (h : g8 κ X M li O lot a b) (hx : M a 3 ≤ x ∧ x ≤ 40) (hy : M b 3 ≤ y ∧ y ≤ 40) (hm : 0 ≤ mi ∧ mi ≤ 2) (ho : 0 ≤ o ∧ o ≤ 2) (hF : (d_fs lot a b) x y = 0) (hv0 : o > 0 → ∀ z, y < z → z ≤ 40 → X 85 (d_cl x z mi (o - 1)) = ((d_of (d_ed li M a b) (d_od O M a b) (d_ow M a b) (d_fs lot a b) 5) x z mi (o - 1)).1) : x_Vo l yX8_duelLays cX8_duelLays 16 5 E κ X [x_rf E 64, vi x, vi y, vi mi, vi o] (d8_pt X (d_of (d_ed li M a b) (d_od O M a b) (d_ow M a b) (d_fs lot a b) 5) x y mi o) := by
  refine x_Met.of [(false, x_rf E 64), (false, vi x), (false, vi y), (false, vi mi), (false, vi o)] [some (x_rf E 64), some (vi x), some (vi y), some (vi mi), some (vi o), none, none, none, none, none, none, none, none, none, none, none] 11 (by decide) rfl rfl ⟨x_cr E (64), rfl, rfl, rfl, rfl, trivial⟩ rfl rfl ?_
  intro p e s m args below meth c hargs hin B
  obtain ⟨hC, ha, hb, hne, ⟨e35, e36⟩, ⟨hL2, h3a, h3b⟩, eM, eli, eO, elo⟩ := id h
  obtain ⟨hK, hP, hO, hW, hLa⟩ := id hC
  obtain ⟨hT, h8, hn⟩ := id hK
  have fa := h.s (sd := 1) (i := a) (Or.inl ⟨rfl, rfl⟩)
  have fb := h.s (sd := 0) (i := b) (Or.inr ⟨rfl, rfl⟩)
  have hR := h.R
  have hfr : 0 ≤ (d_fs lot a b) x y ∧ (d_fs lot a b) x y ≤ 1 := by unfold d_fs; split <;> omega
  have hF1 : (d_fs lot a b) x y = 0 := by omega
  have hcl := d_cl_r (x := x) (y := y) (m := mi) (o := o) ⟨by omega, by omega⟩ ⟨by omega, by omega⟩ hm ho
  have ew : (d_ow M a b) 0 = M b 12 := by unfold d_ow d_l; rw [if_neg (by omega)]
  have a1 := d_ans_r (ow := (d_ow M a b)) hR 1 x mi y
  have a2 := d_ans_r (ow := (d_ow M a b)) hR 1 x mi ((d_ow M a b) 0)
  have a3 := hR.1 0 y
  have b0 := d_b0_r (ow := (d_ow M a b)) hR 0 y x mi
  have eb : p_mix ((d_od O M a b) 0 y) (d_ans (d_ed li M a b) (d_od O M a b) (d_ow M a b) 1 x mi y) (d_ans (d_ed li M a b) (d_od O M a b) (d_ow M a b) 1 x mi ((d_ow M a b) 0)) = (d_b0 (d_ed li M a b) (d_od O M a b) (d_ow M a b) 0 y x mi) := rfl
  have eV : (d_of (d_ed li M a b) (d_od O M a b) (d_ow M a b) (d_fs lot a b) 5) x y mi o = d_sc (fun z => ((d_of (d_ed li M a b) (d_od O M a b) (d_ow M a b) (d_fs lot a b) 5) x z mi (o - 1)).1) 0 (if o > 0 then (40 - y).toNat else 0) (y + 1) (d_b0 (d_ed li M a b) (d_od O M a b) (d_ow M a b) 0 y x mi) 0 := by rw [d_ofE ⟨hm.1, ho.1⟩ (by omega), if_pos hF]
  have rV : ∀ x y mi o, 0 ≤ ((d_of (d_ed li M a b) (d_od O M a b) (d_ow M a b) (d_fs lot a b) 5) x y mi o).1 ∧ ((d_of (d_ed li M a b) (d_od O M a b) (d_ow M a b) (d_fs lot a b) 5) x y mi o).1 ≤ 1000000 := fun x y mi o => d_of_r hR 5 x y mi o
  have lp_156 : ∀ (n : Nat) (k : Nat) (more best a_ : Int), ((y + 1 ≤ more ∧ more ≤ 41) ∧ (0 ≤ best ∧ best ≤ 1000000) ∧ (0 ≤ a_ ∧ a_ ≤ 40) ∧ (k : Int) = (if o > 0 then 41 - more else 0) ∧ (d_of (d_ed li M a b) (d_od O M a b) (d_ow M a b) (d_fs lot a b) 5) x y mi o = d_sc (fun z => ((d_of (d_ed li M a b) (d_od O M a b) (d_ow M a b) (d_fs lot a b) 5) x z mi (o - 1)).1) 0 k more best a_) → ((42 - more).toNat < n) → x_G p l e (x_rm 5 0 0) s m args below meth c 16 E 0 0 (MQ below (x_Q E κ (fun v_ X_ => v_ = none ∧ X_ = (d8_pt X (d_of (d_ed li M a b) (d_od O M a b) (d_ow M a b) (d_fs lot a b) 5) x y mi o))) args s 0 0 (fun q => E.1 ≤ q)) κ 156 [some (x_rf E 64), some (vi x), some (vi y), some (vi mi), some (vi o), some (vi 0), some (vi b), some (vi y), some (vi mi), some (vi x), some (vi (d_ans (d_ed li M a b) (d_od O M a b) (d_ow M a b) 1 x mi y)), some (vi (d_ans (d_ed li M a b) (d_od O M a b) (d_ow M a b) 1 x mi ((d_ow M a b) 0))), some (vi best), some (vi a_), some (vi more), none] [] X := by
    intro n
    induction n with
    | zero => intro k more best a_ hinv hme; exfalso; omega
    | succ n ih =>
      intro k more best a_ hinv hme
      obtain ⟨hmr, hbr, har, hk2, he⟩ := hinv
      have hbt := d_bt_r 0 ((d_of (d_ed li M a b) (d_od O M a b) (d_ow M a b) (d_fs lot a b) 5) x more mi (o - 1)).1 best
      have hvr := rV x more mi (o - 1)
      refine x_iload B dX8_duelLays_156 rfl ?_
      refine x_bipush B dX8_duelLays_158 (by decide) ?_
      refine x_icmp_gt B (tgt := 248) dX8_duelLays_160 (by decide) ⟨by omega, by omega⟩ ⟨by omega, by omega⟩ (fun h_160 => ?_) (fun h_160 => ?_)
      · refine x_aload_n B dX8_duelLays_248 rfl ?_
        refine x_getC0 B (k := 37) hT rfl rfl xc_7 (by decide) h8 (Or.inl q1372) (fun _ h => h) dX8_duelLays_249 (fun k_249 => ?_)
        refine x_iload_n B dX8_duelLays_252 rfl ?_
        refine x_iload_n B dX8_duelLays_253 rfl ?_
        refine x_iload_n B dX8_duelLays_254 rfl ?_
        refine x_iload B dX8_duelLays_255 rfl ?_
        refine x_goP (x_rS B (c_X8_duelCell ⟨by omega, by omega⟩ ⟨by omega, by omega⟩ ⟨by omega, by omega⟩ ⟨by omega, by omega⟩) (lw_S q1884 q1885 q122 q1886) hd_X8_duelCell ⟨by decide, by decide⟩ ⟨by decide, by decide⟩ rfl rfl (by simp [x_cr, x_c1, x_c2]) dX8_duelLays_257) ?_
        refine x_iload B dX8_duelLays_260 rfl ?_
        refine x_iast B k_249 ⟨by omega, by omega⟩ ⟨by omega, by omega⟩ dX8_duelLays_262 ?_
        refine x_aload_n B dX8_duelLays_263 rfl ?_
        refine x_getC0 B (k := 38) hT rfl rfl xc_7 (by decide) h8 (Or.inl q1373) (fun _ h => h) dX8_duelLays_264 (fun k_264 => ?_)
        refine x_iload_n B dX8_duelLays_267 rfl ?_
        refine x_iload_n B dX8_duelLays_268 rfl ?_
        refine x_iload_n B dX8_duelLays_269 rfl ?_
        refine x_iload B dX8_duelLays_270 rfl ?_
        refine x_goP (x_rS B (c_X8_duelCell ⟨by omega, by omega⟩ ⟨by omega, by omega⟩ ⟨by omega, by omega⟩ ⟨by omega, by omega⟩) (lw_S q1884 q1885 q122 q1886) hd_X8_duelCell ⟨by decide, by decide⟩ ⟨by decide, by decide⟩ rfl rfl (by simp [x_cr, x_c1, x_c2]) dX8_duelLays_272) ?_
        refine x_iload B dX8_duelLays_275 rfl ?_
        refine x_iast B k_264 ⟨by omega, by omega⟩ ⟨by omega, by omega⟩ dX8_duelLays_277 ?_
        refine x_vret B (fun _ _ h => h) ?_ dX8_duelLays_278
        have hk0 : k = 0 := by split at hk2 <;> omega
        subst hk0
        have he2 : (d_of (d_ed li M a b) (d_od O M a b) (d_ow M a b) (d_fs lot a b) 5) x y mi o = (best, a_) := he
        unfold d8_pt
        rw [he2]
        exact ⟨rfl, rfl⟩
      · refine x_iload B dX8_duelLays_163 rfl ?_
        refine x_if_eq B (tgt := 172) dX8_duelLays_165 (by decide) ⟨by omega, by omega⟩ (fun h_165 => ?_) (fun h_165 => (by exfalso; omega))
        refine x_iload B dX8_duelLays_172 rfl ?_
        refine x_if_le B (tgt := 248) dX8_duelLays_174 (by decide) ⟨by omega, by omega⟩ (fun h_174 => ?_) (fun h_174 => ?_)
        · refine x_aload_n B dX8_duelLays_248 rfl ?_
          refine x_getC0 B (k := 37) hT rfl rfl xc_7 (by decide) h8 (Or.inl q1372) (fun _ h => h) dX8_duelLays_249 (fun k_249 => ?_)
          refine x_iload_n B dX8_duelLays_252 rfl ?_
          refine x_iload_n B dX8_duelLays_253 rfl ?_
          refine x_iload_n B dX8_duelLays_254 rfl ?_
          refine x_iload B dX8_duelLays_255 rfl ?_
          refine x_goP (x_rS B (c_X8_duelCell ⟨by omega, by omega⟩ ⟨by omega, by omega⟩ ⟨by omega, by omega⟩ ⟨by omega, by omega⟩) (lw_S q1884 q1885 q122 q1886) hd_X8_duelCell ⟨by decide, by decide⟩ ⟨by decide, by decide⟩ rfl rfl (by simp [x_cr, x_c1, x_c2]) dX8_duelLays_257) ?_
          refine x_iload B dX8_duelLays_260 rfl ?_
          refine x_iast B k_249 ⟨by omega, by omega⟩ ⟨by omega, by omega⟩ dX8_duelLays_262 ?_
          refine x_aload_n B dX8_duelLays_263 rfl ?_
          refine x_getC0 B (k := 38) hT rfl rfl xc_7 (by decide) h8 (Or.inl q1373) (fun _ h => h) dX8_duelLays_264 (fun k_264 => ?_)
          refine x_iload_n B dX8_duelLays_267 rfl ?_
          refine x_iload_n B dX8_duelLays_268 rfl ?_
          refine x_iload_n B dX8_duelLays_269 rfl ?_
          refine x_iload B dX8_duelLays_270 rfl ?_
          refine x_goP (x_rS B (c_X8_duelCell ⟨by omega, by omega⟩ ⟨by omega, by omega⟩ ⟨by omega, by omega⟩ ⟨by omega, by omega⟩) (lw_S q1884 q1885 q122 q1886) hd_X8_duelCell ⟨by decide, by decide⟩ ⟨by decide, by decide⟩ rfl rfl (by simp [x_cr, x_c1, x_c2]) dX8_duelLays_272) ?_
          refine x_iload B dX8_duelLays_275 rfl ?_
          refine x_iast B k_264 ⟨by omega, by omega⟩ ⟨by omega, by omega⟩ dX8_duelLays_277 ?_
          refine x_vret B (fun _ _ h => h) ?_ dX8_duelLays_278
          have hk0 : k = 0 := by split at hk2 <;> omega
          subst hk0
          have he2 : (d_of (d_ed li M a b) (d_od O M a b) (d_ow M a b) (d_fs lot a b) 5) x y mi o = (best, a_) := he
          unfold d8_pt
          rw [he2]
          exact ⟨rfl, rfl⟩
        · refine x_iload B dX8_duelLays_177 rfl ?_
          refine x_if_eq B (tgt := 201) dX8_duelLays_179 (by decide) ⟨by omega, by omega⟩ (fun h_179 => ?_) (fun h_179 => (by exfalso; omega))
          have hcl2 := d_cl_r (x := x) (y := more) (m := mi) (o := o - 1) ⟨by omega, by omega⟩ ⟨by omega, by omega⟩ ⟨by omega, by omega⟩ ⟨by omega, by omega⟩
          refine x_aload_n B dX8_duelLays_201 rfl ?_
          refine x_getC0 B (k := 37) hT rfl rfl xc_7 (by decide) h8 (Or.inl q1372) (fun _ h => h) dX8_duelLays_202 (fun k_202 => ?_)
          refine x_iload_n B dX8_duelLays_205 rfl ?_
          refine x_iload B dX8_duelLays_206 rfl ?_
          refine x_iload_n B dX8_duelLays_208 rfl ?_
          refine x_iload B dX8_duelLays_209 rfl ?_
          refine x_iconst B dX8_duelLays_211 ?_
          refine x_isub B dX8_duelLays_212 ?_
          refine x_goP (x_rS B (c_X8_duelCell ⟨by omega, by omega⟩ ⟨by omega, by omega⟩ ⟨by omega, by omega⟩ ⟨by omega, by omega⟩) (lw_S q1884 q1885 q122 q1886) hd_X8_duelCell ⟨by decide, by decide⟩ ⟨by decide, by decide⟩ rfl rfl (by simp [x_cr, x_c1, x_c2]) dX8_duelLays_213) ?_
          refine x_iald B k_202 ⟨by omega, by omega⟩ dX8_duelLays_216 (fun r_216 => ?_)
          rw [hv0 (by omega) more (by omega) (by omega)] at r_216 ⊢
          refine x_istw_15 B dX8_duelLays_217 (by first | rfl | exact x_cr _ _) ?_
          refine x_iload B dX8_duelLays_219 rfl ?_
          refine x_iload B dX8_duelLays_221 rfl ?_
          refine x_iload B dX8_duelLays_223 rfl ?_
          refine x_goP (x_rS B (c_X8_isBetter ⟨by omega, by omega⟩ ⟨by omega, by omega⟩ ⟨by omega, by omega⟩) (lw_S q1881 q1882 q122 q1883) hd_X8_isBetter ⟨by decide, by decide⟩ ⟨by decide, by decide⟩ rfl rfl (by simp [x_cr, x_c1, x_c2]) dX8_duelLays_225) ?_
          refine x_if_ne B (tgt := 234) dX8_duelLays_228 (by decide) ⟨by omega, by omega⟩ (fun h_228 => ?_) (fun h_228 => ?_)
          · refine x_iload B dX8_duelLays_234 rfl ?_
            refine x_istw_12 B dX8_duelLays_236 (by first | rfl | exact x_cr _ _) ?_
            refine x_iload B dX8_duelLays_238 rfl ?_
            refine x_istw_13 B dX8_duelLays_240 (by first | rfl | exact x_cr _ _) ?_
            refine x_iinc_14 B dX8_duelLays_242 (by first | rfl | exact x_cr _ _) ?_
            refine x_goto B (tgt := 156) dX8_duelLays_245 (by decide) ?_
            refine x_fg_15 ?_
            rw [if_pos (show o > 0 by omega)] at hk2
            obtain ⟨k, rfl⟩ : ∃ g, k = g + 1 := ⟨k - 1, by omega⟩
            unfold d_sc at he
            first
            | (refine ih k _ _ _ ⟨⟨by omega, by omega⟩, hvr, ⟨by omega, by omega⟩, by rw [if_pos (by omega)]; omega, ?_⟩ (by omega); rw [he, if_neg h_228]; done)
            | (refine ih k _ _ _ ⟨⟨by omega, by omega⟩, hbr, har, by rw [if_pos (by omega)]; omega, ?_⟩ (by omega); rw [he, if_pos (by omega)])
          · refine x_goto B (tgt := 242) dX8_duelLays_231 (by decide) ?_
            refine x_iinc_14 B dX8_duelLays_242 (by first | rfl | exact x_cr _ _) ?_
            refine x_goto B (tgt := 156) dX8_duelLays_245 (by decide) ?_
            refine x_fg_15 ?_
            rw [if_pos (show o > 0 by omega)] at hk2
            obtain ⟨k, rfl⟩ : ∃ g, k = g + 1 := ⟨k - 1, by omega⟩
            unfold d_sc at he
            first
            | (refine ih k _ _ _ ⟨⟨by omega, by omega⟩, hvr, ⟨by omega, by omega⟩, by rw [if_pos (by omega)]; omega, ?_⟩ (by omega); rw [he, if_neg h_228]; done)
            | (refine ih k _ _ _ ⟨⟨by omega, by omega⟩, hbr, har, by rw [if_pos (by omega)]; omega, ?_⟩ (by omega); rw [he, if_pos (by omega)])
  refine x_aload_n B dX8_duelLays_0 rfl ?_
  refine x_iload_n B dX8_duelLays_1 rfl ?_
  refine x_iload_n B dX8_duelLays_2 rfl ?_
  refine x_goP (x_rV B h8 (show x_cl[7]? = some _ from rfl) (c_X8_isOneCalled h ⟨by omega, by omega⟩ ⟨by omega, by omega⟩) (lw_V q1857 q1859 qs99 q122 q1860) hv_X8_isOneCalled ⟨by decide, by decide⟩ ⟨by decide, by decide⟩ rfl rfl (by simp [x_cr, x_c1, x_c2]) dX8_duelLays_3) ?_
  rw [hF1]
  refine x_istw_5 B dX8_duelLays_6 (by first | rfl | exact x_cr _ _) ?_
  refine x_iload B dX8_duelLays_8 rfl ?_
  refine x_if_eq B (tgt := 20) dX8_duelLays_10 (by decide) ⟨by omega, by omega⟩ (fun h_10 => ?_) (fun h_10 => (by exfalso; omega))
  refine x_aload_n B dX8_duelLays_20 rfl ?_
  refine x_getI B (k := 36) 36 rfl rfl xc_7 (by decide) h8 (Or.inl q1371) (fun _ h => h) dX8_duelLays_21 (fun r_21 => ?_)
  rw [e36] at r_21 ⊢
  refine x_istw_6 B dX8_duelLays_24 (by first | rfl | exact x_cr _ _) ?_
  refine x_iload B dX8_duelLays_26 rfl ?_
  refine x_if_eq B (tgt := 35) dX8_duelLays_28 (by decide) ⟨by omega, by omega⟩ (fun h_28 => ?_) (fun h_28 => (by exfalso; omega))
  refine x_iload_n B dX8_duelLays_35 rfl ?_
  refine x_istw_7 B dX8_duelLays_36 (by first | rfl | exact x_cr _ _) ?_
  refine x_iload B dX8_duelLays_38 rfl ?_
  refine x_if_eq B (tgt := 48) dX8_duelLays_40 (by decide) ⟨by omega, by omega⟩ (fun h_40 => ?_) (fun h_40 => (by exfalso; omega))
  refine x_iload_n B dX8_duelLays_48 rfl ?_
  refine x_istw_8 B dX8_duelLays_49 (by first | rfl | exact x_cr _ _) ?_
  refine x_iload B dX8_duelLays_51 rfl ?_
  refine x_if_eq B (tgt := 60) dX8_duelLays_53 (by decide) ⟨by omega, by omega⟩ (fun h_53 => ?_) (fun h_53 => (by exfalso; omega))
  refine x_iload_n B dX8_duelLays_60 rfl ?_
  refine x_istw_9 B dX8_duelLays_61 (by first | rfl | exact x_cr _ _) ?_
  refine x_aload_n B dX8_duelLays_63 rfl ?_
  refine x_iload B dX8_duelLays_64 rfl ?_
  refine x_if_eq B (tgt := 76) dX8_duelLays_66 (by decide) ⟨by omega, by omega⟩ (fun h_66 => ?_) (fun h_66 => (by exfalso; omega))
  refine x_aload_n B dX8_duelLays_76 rfl ?_
  refine x_getI B (k := 35) 35 rfl rfl xc_7 (by decide) h8 (Or.inl q1370) (fun _ h => h) dX8_duelLays_77 (fun r_77 => ?_)
  rw [e35] at r_77 ⊢
  refine x_iload B dX8_duelLays_80 rfl ?_
  refine x_iload B dX8_duelLays_82 rfl ?_
  refine x_aload_n B dX8_duelLays_84 rfl ?_
  refine x_iload B dX8_duelLays_85 rfl ?_
  refine x_iload B dX8_duelLays_87 rfl ?_
  refine x_iconst B dX8_duelLays_89 ?_
  refine x_goP (x_rV B h8 (show x_cl[7]? = some _ from rfl) (c_X8_duelBest (sd := 0) h (Or.inr ⟨rfl, rfl⟩) ⟨by omega, by omega⟩ ⟨by omega, by omega⟩) (lw_V q1861 q1863 qs100 q122 q1864) hv_X8_duelBest ⟨by decide, by decide⟩ ⟨by decide, by decide⟩ rfl rfl (by simp [x_cr, x_c1, x_c2]) dX8_duelLays_90) ?_
  rw [if_pos (show (1 : Int) = 1 from rfl)]
  refine x_goP (x_rV B h8 (show x_cl[7]? = some _ from rfl) (c_X8_duelChoosesLast (sd := 1) h (Or.inl ⟨rfl, rfl⟩) ⟨by omega, by omega⟩ ⟨by omega, by omega⟩ ⟨by omega, by omega⟩) (lw_V q1865 q1867 qs101 q122 q1868) hv_X8_duelChoosesLast ⟨by decide, by decide⟩ ⟨by decide, by decide⟩ rfl rfl (by simp [x_cr, x_c1, x_c2]) dX8_duelLays_93) ?_
  refine x_istw_10 B dX8_duelLays_96 (by first | rfl | exact x_cr _ _) ?_
  refine x_aload_n B dX8_duelLays_98 rfl ?_
  refine x_iload B dX8_duelLays_99 rfl ?_
  refine x_if_eq B (tgt := 111) dX8_duelLays_101 (by decide) ⟨by omega, by omega⟩ (fun h_101 => ?_) (fun h_101 => (by exfalso; omega))
  refine x_aload_n B dX8_duelLays_111 rfl ?_
  refine x_getI B (k := 35) 35 rfl rfl xc_7 (by decide) h8 (Or.inl q1370) (fun _ h => h) dX8_duelLays_112 (fun r_112 => ?_)
  rw [e35] at r_112 ⊢
  refine x_iload B dX8_duelLays_115 rfl ?_
  refine x_iload B dX8_duelLays_117 rfl ?_
  refine x_aload_n B dX8_duelLays_119 rfl ?_
  refine x_iload B dX8_duelLays_120 rfl ?_
  refine x_iload B dX8_duelLays_122 rfl ?_
  refine x_iconst B dX8_duelLays_124 ?_
  refine x_goP (x_rV B h8 (show x_cl[7]? = some _ from rfl) (c_X8_duelBest (sd := 0) h (Or.inr ⟨rfl, rfl⟩) ⟨by omega, by omega⟩ ⟨by omega, by omega⟩) (lw_V q1861 q1863 qs100 q122 q1864) hv_X8_duelBest ⟨by decide, by decide⟩ ⟨by decide, by decide⟩ rfl rfl (by simp [x_cr, x_c1, x_c2]) dX8_duelLays_125) ?_
  rw [if_neg (show ¬ (0 : Int) = 1 by omega)]
  refine x_goP (x_rV B h8 (show x_cl[7]? = some _ from rfl) (c_X8_duelChoosesLast (sd := 1) h (Or.inl ⟨rfl, rfl⟩) ⟨by omega, by omega⟩ ⟨by omega, by omega⟩ ⟨by omega, by omega⟩) (lw_V q1865 q1867 qs101 q122 q1868) hv_X8_duelChoosesLast ⟨by decide, by decide⟩ ⟨by decide, by decide⟩ rfl rfl (by simp [x_cr, x_c1, x_c2]) dX8_duelLays_128) ?_
  refine x_istw_11 B dX8_duelLays_131 (by first | rfl | exact x_cr _ _) ?_
  refine x_aload_n B dX8_duelLays_133 rfl ?_
  refine x_iload B dX8_duelLays_134 rfl ?_
  refine x_iload B dX8_duelLays_136 rfl ?_
  refine x_iload B dX8_duelLays_138 rfl ?_
  refine x_iload B dX8_duelLays_140 rfl ?_
  refine x_goP (x_rV B h8 (show x_cl[7]? = some _ from rfl) (c_X8_duelTry (sd := 0) h (Or.inr ⟨rfl, rfl⟩) ⟨by omega, by omega⟩ a1 a2) (lw_V q1877 q1879 qs104 q122 q1880) hv_X8_duelTry ⟨by decide, by decide⟩ ⟨by decide, by decide⟩ rfl rfl (by simp [x_cr, x_c1, x_c2]) dX8_duelLays_142) ?_
  refine x_istw_12 B dX8_duelLays_145 (by first | rfl | exact x_cr _ _) ?_
  refine x_iconst B dX8_duelLays_147 ?_
  refine x_istw_13 B dX8_duelLays_148 (by first | rfl | exact x_cr _ _) ?_
  refine x_iload B dX8_duelLays_150 rfl ?_
  refine x_iconst B dX8_duelLays_152 ?_
  refine x_iadd B dX8_duelLays_153 ?_
  refine x_istw_14 B dX8_duelLays_154 (by first | rfl | exact x_cr _ _) ?_
  rw [eb]
  refine lp_156 _ (if o > 0 then (40 - y).toNat else 0) _ _ _ ⟨⟨by omega, by omega⟩, b0, ⟨by omega, by omega⟩, by (split <;> omega), eV⟩ (Nat.lt_succ_self _)
theorem c_X8_duelLays {l : Launch} {E : x_E} {κ : x_Ka} {X : x_X} {M : x_X} {li : Int → Int → Int} {O : Int → Int → Int → Int → Int} {lot : Int → Int} {a b : Int} {x y mi o : Int} (h : g8 κ X M li O lot a b) (hx : M a 3 ≤ x ∧ x ≤ 40) (hy : M b 3 ≤ y ∧ y ≤ 40) (hm : 0 ≤ mi ∧ mi ≤ 2) (ho : 0 ≤ o ∧ o ≤ 2) (hv1 : mi > 0 → ∀ z, x < z → z ≤ 40 → X 85 (d_cl z y (mi - 1) o) = ((d_of (d_ed li M a b) (d_od O M a b) (d_ow M a b) (d_fs lot a b) 5) z y (mi - 1) o).1) (hv0 : o > 0 → ∀ z, y < z → z ≤ 40 → X 85 (d_cl x z mi (o - 1)) = ((d_of (d_ed li M a b) (d_od O M a b) (d_ow M a b) (d_fs lot a b) 5) x z mi (o - 1)).1) : x_Vo l yX8_duelLays cX8_duelLays 16 5 E κ X [x_rf E 64, vi x, vi y, vi mi, vi o] (d8_pt X (d_of (d_ed li M a b) (d_od O M a b) (d_ow M a b) (d_fs lot a b) 5) x y mi o) := by
  by_cases q : (d_fs lot a b) x y = 0
  · exact c_X8_duelLays_0 h hx hy hm ho q hv0
  · exact c_X8_duelLays_1 h hx hy hm ho q hv1
theorem c_X8_duelAt {l : Launch} {E : x_E} {κ : x_Ka} {X : x_X} {M : x_X} {li : Int → Int → Int} {O : Int → Int → Int → Int → Int} {lot : Int → Int} {a b : Int} {mi o : Int} (h : g8 κ X M li O lot a b) (hm : 0 ≤ mi ∧ mi ≤ 2) (ho : 0 ≤ o ∧ o ≤ 2) : x_Met l yX8_duelAt cX8_duelAt 10 (some .int) 6 0 0 E κ X [x_rf E 64, vi mi, vi o] κ (fun v_ Y_ => v_ = some (vi ((d_of (d_ed li M a b) (d_od O M a b) (d_ow M a b) (d_fs lot a b) 5) (M a 3) (M b 3) mi o).1) ∧ d8 X Y_ ∧ Y_ 86 (d_cl (M a 3) (M b 3) mi o) = ((d_of (d_ed li M a b) (d_od O M a b) (d_ow M a b) (d_fs lot a b) 5) (M a 3) (M b 3) mi o).2) := by
  refine x_Met.of [(false, x_rf E 64), (false, vi mi), (false, vi o)] [some (x_rf E 64), some (vi mi), some (vi o), none, none, none, none, none, none, none] 7 (by decide) rfl rfl ⟨x_cr E (64), rfl, rfl, trivial⟩ rfl rfl ?_
  intro p e s m args below meth c hargs hin B
  obtain ⟨hC, ha, hb, hne, ⟨e35, e36⟩, ⟨hL2, h3a, h3b⟩, eM, eli, eO, elo⟩ := id h
  obtain ⟨hK, hP, hO, hW, hLa⟩ := id hC
  obtain ⟨hT, h8, hn⟩ := id hK
  have fa := h.s (sd := 1) (i := a) (Or.inl ⟨rfl, rfl⟩)
  have fb := h.s (sd := 0) (i := b) (Or.inr ⟨rfl, rfl⟩)
  have hR := h.R
  have sA : t_M X a 3 = X 72 (3 + 10 * a + 0) := t_M_s ha (by decide) (by omega) (by omega)
  have sB : t_M X b 3 = X 72 (3 + 10 * b + 0) := t_M_s hb (by decide) (by omega) (by omega)
  rw [eM] at sA sB
  have hcl := d_cl_r (x := (M a 3)) (y := (M b 3)) (m := mi) (o := o) ⟨by omega, by omega⟩ ⟨by omega, by omega⟩ hm ho
  have hcl := d_cl_r (x := (M a 3)) (y := (M b 3)) (m := mi) (o := o) ⟨by omega, by omega⟩ ⟨by omega, by omega⟩ hm ho
  have lp_24 : ∀ (n : Nat) (k : Int) (Y : x_X), ((0 ≤ k ∧ k ≤ mi + o + 1) ∧ d8 X Y ∧ D8 Y (d_of (d_ed li M a b) (d_od O M a b) (d_ow M a b) (d_fs lot a b) 5) (M a 3) (M b 3) mi o k 0 0 0) → ((6 - k).toNat < n) → x_G p l e (x_rm 6 0 0) s m args below meth c 10 E 0 0 (MQ below (x_Q E κ (fun v_ Y_ => v_ = some (vi ((d_of (d_ed li M a b) (d_od O M a b) (d_ow M a b) (d_fs lot a b) 5) (M a 3) (M b 3) mi o).1) ∧ d8 X Y_ ∧ Y_ 86 (d_cl (M a 3) (M b 3) mi o) = ((d_of (d_ed li M a b) (d_od O M a b) (d_ow M a b) (d_fs lot a b) 5) (M a 3) (M b 3) mi o).2)) args s 0 0 (fun q => E.1 ≤ q)) κ 24 [some (x_rf E 64), some (vi mi), some (vi o), some (vi (M a 3)), some (vi (M b 3)), some (vi k), none, none, none, none] [] Y := by
    intro n
    induction n with
    | zero => intro k Y hin1 hme; exfalso; omega
    | succ n ih =>
      intro k Y hin1 hme
      have ih24 := ih
      obtain ⟨hk, hd, hD⟩ := hin1
      have lp_35 : ∀ (n : Nat) (j : Int) (Y : x_X), ((0 ≤ k ∧ k ≤ mi + o) ∧ (0 ≤ j ∧ j ≤ mi + 1) ∧ d8 X Y ∧ D8 Y (d_of (d_ed li M a b) (d_od O M a b) (d_ow M a b) (d_fs lot a b) 5) (M a 3) (M b 3) mi o k j 0 0) → ((4 - j).toNat < n) → x_G p l e (x_rm 6 0 0) s m args below meth c 10 E 0 0 (MQ below (x_Q E κ (fun v_ Y_ => v_ = some (vi ((d_of (d_ed li M a b) (d_od O M a b) (d_ow M a b) (d_fs lot a b) 5) (M a 3) (M b 3) mi o).1) ∧ d8 X Y_ ∧ Y_ 86 (d_cl (M a 3) (M b 3) mi o) = ((d_of (d_ed li M a b) (d_od O M a b) (d_ow M a b) (d_fs lot a b) 5) (M a 3) (M b 3) mi o).2)) args s 0 0 (fun q => E.1 ≤ q)) κ 35 [some (x_rf E 64), some (vi mi), some (vi o), some (vi (M a 3)), some (vi (M b 3)), some (vi k), some (vi j), none, none, none] [] Y := by
        intro n
        induction n with
        | zero => intro j Y hin2 hme; exfalso; omega
        | succ n ih =>
          intro j Y hin2 hme
          have ih35 := ih
          obtain ⟨hk, hj, hd, hD⟩ := hin2
          have z1 := x_in_01 (k - j) 0 o
          have lp_66 : ∀ (n : Nat) (x : Int) (Y : x_X), (((0 ≤ j ∧ j ≤ mi) ∧ (0 ≤ k - j ∧ k - j ≤ o)) ∧ ((M a 3) ≤ x ∧ x ≤ 41) ∧ d8 X Y ∧ D8 Y (d_of (d_ed li M a b) (d_od O M a b) (d_ow M a b) (d_fs lot a b) 5) (M a 3) (M b 3) mi o k j x 0) → ((42 - x).toNat < n) → x_G p l e (x_rm 6 0 0) s m args below meth c 10 E 0 0 (MQ below (x_Q E κ (fun v_ Y_ => v_ = some (vi ((d_of (d_ed li M a b) (d_od O M a b) (d_ow M a b) (d_fs lot a b) 5) (M a 3) (M b 3) mi o).1) ∧ d8 X Y_ ∧ Y_ 86 (d_cl (M a 3) (M b 3) mi o) = ((d_of (d_ed li M a b) (d_od O M a b) (d_ow M a b) (d_fs lot a b) 5) (M a 3) (M b 3) mi o).2)) args s 0 0 (fun q => E.1 ≤ q)) κ 66 [some (x_rf E 64), some (vi mi), some (vi o), some (vi (M a 3)), some (vi (M b 3)), some (vi k), some (vi j), some (vi (k - j)), some (vi x), none] [] Y := by
            intro n
            induction n with
            | zero => intro x Y hin3 hme; exfalso; omega
            | succ n ih =>
              intro x Y hin3 hme
              have ih66 := ih
              obtain ⟨⟨hj, hkj⟩, hx, hd, hD⟩ := hin3
              have lp_77 : ∀ (n : Nat) (y : Int) (Y : x_X), (((M a 3) ≤ x ∧ x ≤ 40) ∧ ((M b 3) ≤ y ∧ y ≤ 41) ∧ d8 X Y ∧ D8 Y (d_of (d_ed li M a b) (d_od O M a b) (d_ow M a b) (d_fs lot a b) 5) (M a 3) (M b 3) mi o k j x y) → ((42 - y).toNat < n) → x_G p l e (x_rm 6 0 0) s m args below meth c 10 E 0 0 (MQ below (x_Q E κ (fun v_ Y_ => v_ = some (vi ((d_of (d_ed li M a b) (d_od O M a b) (d_ow M a b) (d_fs lot a b) 5) (M a 3) (M b 3) mi o).1) ∧ d8 X Y_ ∧ Y_ 86 (d_cl (M a 3) (M b 3) mi o) = ((d_of (d_ed li M a b) (d_od O M a b) (d_ow M a b) (d_fs lot a b) 5) (M a 3) (M b 3) mi o).2)) args s 0 0 (fun q => E.1 ≤ q)) κ 77 [some (x_rf E 64), some (vi mi), some (vi o), some (vi (M a 3)), some (vi (M b 3)), some (vi k), some (vi j), some (vi (k - j)), some (vi x), some (vi y)] [] Y := by
                intro n
                induction n with
                | zero => intro y Y hin4 hme; exfalso; omega
                | succ n ih =>
                  intro y Y hin4 hme
                  obtain ⟨hx, hy, hd, hD⟩ := hin4
                  have hY := h.d hd
                  refine x_iload B dX8_duelAt_77 rfl ?_
                  refine x_bipush B dX8_duelAt_79 (by decide) ?_
                  refine x_icmp_gt B (tgt := 102) dX8_duelAt_81 (by decide) ⟨by omega, by omega⟩ ⟨by omega, by omega⟩ (fun h_81 => ?_) (fun h_81 => ?_)
                  · refine x_iinc_8 B dX8_duelAt_102 (by first | rfl | exact x_cr _ _) ?_
                    refine x_goto B (tgt := 66) dX8_duelAt_105 (by decide) ?_
                    refine x_fg_9 ?_
                    refine ih66 _ _ ⟨⟨hj, hkj⟩, ⟨by omega, by omega⟩, hd, hD.w (fun m2 o2 x2 y2 h1 h2 h3 h4 h5 => by omega)⟩ (by omega)
                  · refine x_aload_n B dX8_duelAt_84 rfl ?_
                    refine x_iload B dX8_duelAt_85 rfl ?_
                    refine x_iload B dX8_duelAt_87 rfl ?_
                    refine x_iload B dX8_duelAt_89 rfl ?_
                    refine x_iload B dX8_duelAt_91 rfl ?_
                    refine x_goV (x_rV B h8 (show x_cl[7]? = some _ from rfl) (c_X8_duelLays hY hx ⟨by omega, by omega⟩ ⟨by omega, by omega⟩ ⟨by omega, by omega⟩ (fun q z z1 z2 => (hD (j - 1) (k - j) z y (by omega) (by omega) (by omega) (by omega) (by omega)).1) (fun q z z1 z2 => (hD j (k - j - 1) x z (by omega) (by omega) (by omega) (by omega) (by omega)).1)) (lw_V q1853 q1855 qs98 q122 q1856) hv_X8_duelLays ⟨by decide, by decide⟩ ⟨by decide, by decide⟩ rfl rfl (by simp [x_cr, x_c1, x_c2]) dX8_duelAt_93) ?_
                    refine x_iinc_9 B dX8_duelAt_96 (by first | rfl | exact x_cr _ _) ?_
                    refine x_goto B (tgt := 77) dX8_duelAt_99 (by decide) ?_
                    refine ih _ _ ⟨hx, ⟨by omega, by omega⟩, fun c c1 c2 => ?_, hD.put hm.2 ho.2 (by omega) (by omega) hj hkj hx (by omega)⟩ (by omega)
                    unfold d8_pt; rw [x_up_o _ c2, x_up_o _ c1]; exact hd c c1 c2
              refine x_iload B dX8_duelAt_66 rfl ?_
              refine x_bipush B dX8_duelAt_68 (by decide) ?_
              refine x_icmp_gt B (tgt := 108) dX8_duelAt_70 (by decide) ⟨by omega, by omega⟩ ⟨by omega, by omega⟩ (fun h_70 => ?_) (fun h_70 => ?_)
              · refine x_iinc_6 B dX8_duelAt_108 (by first | rfl | exact x_cr _ _) ?_
                refine x_goto B (tgt := 35) dX8_duelAt_111 (by decide) ?_
                refine x_fg_7 ?_
                refine x_fg_8 ?_
                refine ih35 _ _ ⟨hk, ⟨by omega, by omega⟩, hd, hD.w (fun m2 o2 x2 y2 h1 h2 h3 h4 h5 => by omega)⟩ (by omega)
              · refine x_iload B dX8_duelAt_73 rfl ?_
                refine x_istw_9 B dX8_duelAt_75 (by first | rfl | exact x_cr _ _) ?_
                exact lp_77 _ (M b 3) Y ⟨⟨by omega, by omega⟩, ⟨by omega, by omega⟩, hd, hD.w (fun m2 o2 x2 y2 h1 h2 h3 h4 h5 => by omega)⟩ (Nat.lt_succ_self _)
          refine x_iload B dX8_duelAt_35 rfl ?_
          refine x_iload_n B dX8_duelAt_37 rfl ?_
          refine x_icmp_gt B (tgt := 114) dX8_duelAt_38 (by decide) ⟨by omega, by omega⟩ ⟨by omega, by omega⟩ (fun h_38 => ?_) (fun h_38 => ?_)
          · refine x_iinc_5 B dX8_duelAt_114 (by first | rfl | exact x_cr _ _) ?_
            refine x_goto B (tgt := 24) dX8_duelAt_117 (by decide) ?_
            refine x_fg_6 ?_
            refine ih24 _ _ ⟨⟨by omega, by omega⟩, hd, hD.w (fun m2 o2 x2 y2 h1 h2 h3 h4 h5 => by omega)⟩ (by omega)
          · refine x_iload B dX8_duelAt_41 rfl ?_
            refine x_iload B dX8_duelAt_43 rfl ?_
            refine x_isub B dX8_duelAt_45 ?_
            refine x_istw_7 B dX8_duelAt_46 (by first | rfl | exact x_cr _ _) ?_
            refine x_iload B dX8_duelAt_48 rfl ?_
            refine x_i2l B dX8_duelAt_50 ⟨by omega, by omega⟩ ?_
            refine x_lconst B 0 dX8_duelAt_51 (by decide) ?_
            refine x_iload_n B dX8_duelAt_52 rfl ?_
            refine x_i2l B dX8_duelAt_53 ⟨by omega, by omega⟩ ?_
            refine x_goP (x_rS B (c_X8_in ⟨by omega, by omega⟩ ⟨by omega, by omega⟩ ⟨by omega, by omega⟩) (lw_S q1468 q1469 q122 q1470) hd_X8_in ⟨by decide, by decide⟩ ⟨by decide, by decide⟩ rfl rfl (by simp [x_cr, x_c1, x_c2]) dX8_duelAt_54) ?_
            refine x_if_ne B (tgt := 63) dX8_duelAt_57 (by decide) ⟨by omega, by omega⟩ (fun h_57 => ?_) (fun h_57 => ?_)
            · refine x_iload_n B dX8_duelAt_63 rfl ?_
              refine x_istw_8 B dX8_duelAt_64 (by first | rfl | exact x_cr _ _) ?_
              exact lp_66 _ (M a 3) Y ⟨⟨⟨by omega, by omega⟩, by unfold x_in at h_57; split at h_57; assumption; omega⟩, ⟨by omega, by omega⟩, hd, hD.w (fun m2 o2 x2 y2 h1 h2 h3 h4 h5 => by omega)⟩ (Nat.lt_succ_self _)
            · refine x_goto B (tgt := 108) dX8_duelAt_60 (by decide) ?_
              refine x_iinc_6 B dX8_duelAt_108 (by first | rfl | exact x_cr _ _) ?_
              refine x_goto B (tgt := 35) dX8_duelAt_111 (by decide) ?_
              refine x_fg_7 ?_
              refine ih35 _ _ ⟨hk, ⟨by omega, by omega⟩, hd, hD.w (fun m2 o2 x2 y2 h1 h2 h3 h4 h5 => ?_)⟩ (by omega)
              have hno : ¬ (0 ≤ k - j ∧ k - j ≤ o) := by intro q; unfold x_in at h_57; rw [if_pos q] at h_57; omega
              by_cases q : m2 = j
              · omega
              · omega
      refine x_iload B dX8_duelAt_24 rfl ?_
      refine x_iload_n B dX8_duelAt_26 rfl ?_
      refine x_iload_n B dX8_duelAt_27 rfl ?_
      refine x_iadd B dX8_duelAt_28 ?_
      refine x_icmp_gt B (tgt := 120) dX8_duelAt_29 (by decide) ⟨by omega, by omega⟩ ⟨by omega, by omega⟩ (fun h_29 => ?_) (fun h_29 => ?_)
      · have hfin := hD mi o (M a 3) (M b 3) (by omega) (by omega) (by omega) (by omega) (by omega)
        refine x_aload_n B dX8_duelAt_120 rfl ?_
        refine x_getC0 B (k := 37) hT rfl rfl xc_7 (by decide) h8 (Or.inl q1372) (fun _ h => h) dX8_duelAt_121 (fun k_121 => ?_)
        refine x_iload_n B dX8_duelAt_124 rfl ?_
        refine x_iload B dX8_duelAt_125 rfl ?_
        refine x_iload_n B dX8_duelAt_127 rfl ?_
        refine x_iload_n B dX8_duelAt_128 rfl ?_
        refine x_goP (x_rS B (c_X8_duelCell ⟨by omega, by omega⟩ ⟨by omega, by omega⟩ ⟨by omega, by omega⟩ ⟨by omega, by omega⟩) (lw_S q1884 q1885 q122 q1886) hd_X8_duelCell ⟨by decide, by decide⟩ ⟨by decide, by decide⟩ rfl rfl (by simp [x_cr, x_c1, x_c2]) dX8_duelAt_129) ?_
        refine x_iald B k_121 ⟨by omega, by omega⟩ dX8_duelAt_132 (fun r_132 => ?_)
        rw [hfin.1] at r_132 ⊢
        refine x_iret B (fun _ _ h => h) ?_ dX8_duelAt_133
        exact ⟨rfl, hd, hfin.2⟩
      · refine x_iconst B dX8_duelAt_32 ?_
        refine x_istw_6 B dX8_duelAt_33 (by first | rfl | exact x_cr _ _) ?_
        exact lp_35 _ 0 Y ⟨⟨by omega, by omega⟩, ⟨by omega, by omega⟩, hd, hD⟩ (Nat.lt_succ_self _)
  refine x_aload_n B dX8_duelAt_0 rfl ?_
  refine x_aload_n B dX8_duelAt_1 rfl ?_
  refine x_getI B (k := 35) 35 rfl rfl xc_7 (by decide) h8 (Or.inl q1370) (fun _ h => h) dX8_duelAt_2 (fun r_2 => ?_)
  rw [e35] at r_2 ⊢
  refine x_iconst B dX8_duelAt_5 ?_
  refine x_goP (x_rV B h8 (show x_cl[7]? = some _ from rfl) (c_X8_of hT h8 ⟨by omega, by omega⟩) (lw_V q1525 q1527 qs52 q122 q1528) hv_X8_of ⟨by decide, by decide⟩ ⟨by decide, by decide⟩ rfl rfl (by simp [x_cr, x_c1, x_c2]) dX8_duelAt_6) ?_
  rw [← sA]
  refine x_ist_3 B dX8_duelAt_9 (by first | rfl | exact x_cr _ _) ?_
  refine x_aload_n B dX8_duelAt_10 rfl ?_
  refine x_aload_n B dX8_duelAt_11 rfl ?_
  refine x_getI B (k := 36) 36 rfl rfl xc_7 (by decide) h8 (Or.inl q1371) (fun _ h => h) dX8_duelAt_12 (fun r_12 => ?_)
  rw [e36] at r_12 ⊢
  refine x_iconst B dX8_duelAt_15 ?_
  refine x_goP (x_rV B h8 (show x_cl[7]? = some _ from rfl) (c_X8_of hT h8 ⟨by omega, by omega⟩) (lw_V q1525 q1527 qs52 q122 q1528) hv_X8_of ⟨by decide, by decide⟩ ⟨by decide, by decide⟩ rfl rfl (by simp [x_cr, x_c1, x_c2]) dX8_duelAt_16) ?_
  rw [← sB]
  refine x_istw_4 B dX8_duelAt_19 (by first | rfl | exact x_cr _ _) ?_
  refine x_iconst B dX8_duelAt_21 ?_
  refine x_istw_5 B dX8_duelAt_22 (by first | rfl | exact x_cr _ _) ?_
  exact lp_24 _ 0 X ⟨⟨by omega, by omega⟩, d8.rf X, fun m2 o2 x2 y2 h1 h2 h3 h4 h5 => by omega⟩ (Nat.lt_succ_self _)
theorem c_X8_whyNoDuel {l : Launch} {E : x_E} {κ : x_Ka} {X : x_X} {i j : Int} (hC : t_C κ X) (hi : 0 ≤ i ∧ i < X 64 3) (hj : 0 ≤ j ∧ j < X 64 3) : x_Pu l yX8_whyNoDuel cX8_whyNoDuel 3 (some .int) 3 E κ X [x_rf E 64, vi i, vi j] (vi (q_nd (t_M X) i j)) := by
  refine x_Met.of [(false, x_rf E 64), (false, vi i), (false, vi j)] [some (x_rf E 64), some (vi i), some (vi j)] 0 (by decide) rfl rfl ⟨x_cr E (64), rfl, rfl, trivial⟩ rfl rfl ?_
  intro p e s m args below meth c hargs hin B
  obtain ⟨hK, hP, hO, hW, hLa⟩ := id hC
  obtain ⟨hT, h8, hn⟩ := id hK
  have g1 : t_M X (-1) 1 = X 72 0 := t_M_g (by omega)
  have g2 : t_M X (-1) 2 = X 72 1 := t_M_g (by omega)
  refine x_aload_n B dX8_whyNoDuel_0 rfl ?_
  refine x_getC0 B (k := 11) hT rfl rfl xc_7 (by decide) h8 (Or.inl q1346) (fun _ h => h) dX8_whyNoDuel_1 (fun k_1 => ?_)
  refine x_iconst B dX8_whyNoDuel_4 ?_
  refine x_iald B k_1 ⟨by omega, by omega⟩ dX8_whyNoDuel_5 (fun r_5 => ?_)
  refine x_iconst B dX8_whyNoDuel_6 ?_
  refine x_icmp_ne B (tgt := 20) dX8_whyNoDuel_7 (by decide) ⟨by omega, by omega⟩ ⟨by omega, by omega⟩ (fun h_7 => ?_) (fun h_7 => ?_)
  · refine x_bipush B dX8_whyNoDuel_20 (by decide) ?_
    refine x_iret B (fun _ _ h => h) ?_ dX8_whyNoDuel_22
    exact ⟨congrArg (fun z => some (vi z)) (by unfold q_nd; rw [if_pos (by omega)]), rfl⟩
  · refine x_aload_n B dX8_whyNoDuel_10 rfl ?_
    refine x_getC0 B (k := 11) hT rfl rfl xc_7 (by decide) h8 (Or.inl q1346) (fun _ h => h) dX8_whyNoDuel_11 (fun k_11 => ?_)
    refine x_iconst B dX8_whyNoDuel_14 ?_
    refine x_iald B k_11 ⟨by omega, by omega⟩ dX8_whyNoDuel_15 (fun r_15 => ?_)
    refine x_iconst B dX8_whyNoDuel_16 ?_
    refine x_icmp_eq B (tgt := 23) dX8_whyNoDuel_17 (by decide) ⟨by omega, by omega⟩ ⟨by omega, by omega⟩ (fun h_17 => ?_) (fun h_17 => ?_)
    · refine x_aload_n B dX8_whyNoDuel_23 rfl ?_
      refine x_iload_n B dX8_whyNoDuel_24 rfl ?_
      refine x_goP (x_rV B h8 (show x_cl[7]? = some _ from rfl) (c_X8_isStill hK hW hi) (lw_V q1593 q1595 qs61 q122 q1596) hv_X8_isStill ⟨by decide, by decide⟩ ⟨by decide, by decide⟩ rfl rfl (by simp [x_cr, x_c1, x_c2]) dX8_whyNoDuel_25) ?_
      refine x_if_eq B (tgt := 43) dX8_whyNoDuel_28 (by decide) ⟨by split <;> omega, by split <;> omega⟩ (fun h_28 => ?_) (fun h_28 => ?_)
      · refine x_bipush B dX8_whyNoDuel_43 (by decide) ?_
        refine x_iret B (fun _ _ h => h) ?_ dX8_whyNoDuel_45
        exact ⟨congrArg (fun z => some (vi z)) (by unfold q_nd; rw [if_neg (by omega)]; first | (rw [if_pos ⟨by split at h_28; assumption; exact absurd rfl h_28, by split at h_36; assumption; exact absurd rfl h_36⟩]; done) | (rw [if_neg (fun q => by rw [if_pos q.1] at h_28; omega)]; done) | (rw [if_neg (fun q => by rw [if_pos q.2] at h_36; omega)]; done)), rfl⟩
      · refine x_aload_n B dX8_whyNoDuel_31 rfl ?_
        refine x_iload_n B dX8_whyNoDuel_32 rfl ?_
        refine x_goP (x_rV B h8 (show x_cl[7]? = some _ from rfl) (c_X8_isStill hK hW hj) (lw_V q1593 q1595 qs61 q122 q1596) hv_X8_isStill ⟨by decide, by decide⟩ ⟨by decide, by decide⟩ rfl rfl (by simp [x_cr, x_c1, x_c2]) dX8_whyNoDuel_33) ?_
        refine x_if_eq B (tgt := 43) dX8_whyNoDuel_36 (by decide) ⟨by split <;> omega, by split <;> omega⟩ (fun h_36 => ?_) (fun h_36 => ?_)
        · refine x_bipush B dX8_whyNoDuel_43 (by decide) ?_
          refine x_iret B (fun _ _ h => h) ?_ dX8_whyNoDuel_45
          exact ⟨congrArg (fun z => some (vi z)) (by unfold q_nd; rw [if_neg (by omega)]; first | (rw [if_pos ⟨by split at h_28; assumption; exact absurd rfl h_28, by split at h_36; assumption; exact absurd rfl h_36⟩]; done) | (rw [if_neg (fun q => by rw [if_pos q.1] at h_28; omega)]; done) | (rw [if_neg (fun q => by rw [if_pos q.2] at h_36; omega)]; done)), rfl⟩
        · refine x_iconst B dX8_whyNoDuel_39 ?_
          refine x_goto B (tgt := 45) dX8_whyNoDuel_40 (by decide) ?_
          refine x_iret B (fun _ _ h => h) ?_ dX8_whyNoDuel_45
          exact ⟨congrArg (fun z => some (vi z)) (by unfold q_nd; rw [if_neg (by omega)]; first | (rw [if_pos ⟨by split at h_28; assumption; exact absurd rfl h_28, by split at h_36; assumption; exact absurd rfl h_36⟩]; done) | (rw [if_neg (fun q => by rw [if_pos q.1] at h_28; omega)]; done) | (rw [if_neg (fun q => by rw [if_pos q.2] at h_36; omega)]; done)), rfl⟩
    · refine x_bipush B dX8_whyNoDuel_20 (by decide) ?_
      refine x_iret B (fun _ _ h => h) ?_ dX8_whyNoDuel_22
      exact ⟨congrArg (fun z => some (vi z)) (by unfold q_nd; rw [if_pos (by omega)]), rfl⟩
