/-! a line of tries, all good (g = 1) or all failed -/
def e_in (D : Int → Int → Int → Int → Int) (g : Int) : Nat → Int → Int → Int → Int → Int → (Int → Int) → Int × Int × (Int → Int)
  | 0, _, _, best, _, n, R => (best, n, R)
  | k + 1, tr, fl, best, least, n, R => if tr < 3 ∧ least ≤ 40 then e_in D g k (tr + 1) (fl + (1 - g)) (if g = 1 then D tr fl best least else best) (D tr fl best least + g) (n + 1) (fun j => if j = n then D tr fl best least else R j) else (best, n, R)
def e_out (O : Int → Int → Int → Int) (A : Int → Int) (g : Int) : Nat → Int → Int → Int → Int → Int → Int → Int → (Int → Int) → Int × (Int → Int)
  | 0, _, _, _, _, _, _, n, R => (n, R)
  | k + 1, t, sum, tr, fl, best, least, n, R => if t < 3 then (if (e_in (f_d O A t sum) g 3 tr fl best least n R).1 = 0 then (e_in (f_d O A t sum) g 3 tr fl best least n R).2 else e_out O A g k (t + 1) (sum + (e_in (f_d O A t sum) g 3 tr fl best least n R).1) 0 0 0 1 (e_in (f_d O A t sum) g 3 tr fl best least n R).2.1 (e_in (f_d O A t sum) g 3 tr fl best least n R).2.2) else (n, R)
def e_re (O : Int → Int → Int → Int) (A : Int → Int) (g : Int) (k : Nat) (t sum : Int) (r : Int × Int × (Int → Int)) : Int × (Int → Int) := if r.1 = 0 then r.2 else e_out O A g k (t + 1) (sum + r.1) 0 0 0 1 r.2.1 r.2.2
theorem e_out_s {O : Int → Int → Int → Int} {A : Int → Int} {g : Int} {k : Nat} {t sum tr fl best least n : Int} {R : Int → Int} (h : t < 3) : e_out O A g (k + 1) t sum tr fl best least n R = e_re O A g k t sum (e_in (f_d O A t sum) g 3 tr fl best least n R) := by
  conv => lhs; unfold e_out
  rw [if_pos h]; rfl
theorem e_out_e {O : Int → Int → Int → Int} {A : Int → Int} {g : Int} {k : Nat} {t sum tr fl best least n : Int} {R : Int → Int} (h : ¬ t < 3) : e_out O A g k t sum tr fl best least n R = (n, R) := by
  cases k with
  | zero => rfl
  | succ k => unfold e_out; rw [if_neg h]
theorem e_in_e {D : Int → Int → Int → Int → Int} {g : Int} {k : Nat} {tr fl best least n : Int} {R : Int → Int} (h : ¬ (tr < 3 ∧ least ≤ 40)) : e_in D g k tr fl best least n R = (best, n, R) := by
  cases k with
  | zero => rfl
  | succ k => unfold e_in; rw [if_neg h]
def q_lA (X : x_X) (i w : Int) : Int → Int := if w = 0 then (fun v => 1000 * v) else q_wn X i
def q_ln (O : Int → Int → Int → Int) (A : Int → Int) (M : x_X) (l g : Int) : Int × (Int → Int) := if M l 7 ≠ 0 ∨ M (-1) 1 = 3 then (0, fun _ => 0) else e_out O A g 3 (M (-1) 1) (m_sum M l - M l (10 + M (-1) 1)) (if M l 3 = 0 then 3 else M (-1) 2 + M l 6) (M l 2) (M l (10 + M (-1) 1)) (m_least M l) 0 (fun _ => 0)
def q_li (X : x_X) (i w g : Int) : Int × (Int → Int) := q_ln (c_O X i) (q_lA X i w) (c_M X 3) i g
theorem f_d_r {κ : x_Ka} {X : x_X} {O : Int → Int → Int → Int} {A : Int → Int} (h : f_H κ X O A) {t sum tr fl best least : Int} (q1 : 0 ≤ t ∧ t ≤ 2) (q2 : 0 ≤ sum ∧ sum ≤ 40 * t) (q3 : 0 ≤ best ∧ best ≤ 40) (q4 : 0 ≤ fl) (q5 : 0 ≤ least ∧ least ≤ 40) : least ≤ f_d O A t sum tr fl best least ∧ f_d O A t sum tr fl best least ≤ 40 := by
  have hr := f_w_r h.o.1 h.o.2
  exact (f_mx_r (V := f_v O A t sum tr fl best) q5.2 (fun y y1 y2 => (p_mix_r (h.o.1 _ _ _ q1.1 q1.2 q4) (hr 12 _ _ _ _ _ _ q1 q2 (by omega) q4 (by omega)) (hr 12 _ _ _ _ _ _ q1 q2 q3 (by omega) (by omega))).2)).2
theorem c_X1_line_1 {l : Launch} {E : x_E} {κ : x_Ka} {X : x_X} {i w : Int} (hC : n_C κ X) (k87 : κ 87 = some (.inr (1, 1))) (hB : f_B X) (hx : xR i) (hy : xR w) : x_Met l yX1_line cX1_line 13 (some .int) 61 617 628 E κ X [x_rf E 0, vi i, vi w, vi 1] κ (fun v_ Y_ => k_eq X Y_ ∧ f_B2 X Y_ ∧ (if x_in i 0 (X 1 2 - 1) = 1 ∧ x_in w 0 1 = 1 then (v_ = some (vi (q_li X i w 1).1) ∧ Y_ 0 7 = (q_li X i w 1).1 ∧ ∀ k, 0 ≤ k → k < (q_li X i w 1).1 → Y_ 32 k = (q_li X i w 1).2 k) else (v_ = some (vi (-1)) ∧ r_eq X Y_))) := by
  refine x_Met.of [(false, x_rf E 0), (false, vi i), (false, vi w), (false, vi 1)] [some (x_rf E 0), some (vi i), some (vi w), some (vi 1), none, none, none, none, none, none, none, none, none] 9 (by decide) rfl rfl ⟨x_cr E (0), rfl, rfl, rfl, trivial⟩ rfl rfl ?_
  intro p e s m args below meth c hargs hin B
  obtain ⟨hI, hP, hO, hW, hJ⟩ := id hC
  obtain ⟨hT, h0, hn, hl, hla⟩ := id hI
  refine x_lows (fun hlow => ?_)
  have hlo := hI.lo k87 hlow
  have hlo0 := hlo.1
  have z1 := x_in_01 i 0 (X 1 2 - 1)
  have z2 := x_in_01 w 0 1
  have lp_184 : ∀ (n : Nat) (kf : Nat) (t sum tr fl best least n0 : Int) (R : Int → Int) (κ2 : x_Ka) (Y : x_X), (((∀ b k, κ b = some k → κ2 b = some k) ∧ x_T κ2) ∧ f_H κ2 Y (c_O X i) (q_lA X i w) ∧ f_I Y (f_w (c_O X i) (q_lA X i w) 12) (f_d (c_O X i) (q_lA X i w)) ∧ k_eq X Y ∧ Y 38 8 = X 38 8 + 121 ∧ (Y 0 7 = n0 ∧ ∀ k, 0 ≤ k → k < n0 → Y 32 k = R k) ∧ (0 ≤ i ∧ i < X 1 2) ∧ (0 ≤ w ∧ w ≤ 1) ∧ ((0 ≤ t ∧ t ≤ 3 ∧ 3 ≤ (kf : Int) + t) ∧ (0 ≤ sum ∧ sum ≤ 40 * t) ∧ (0 ≤ tr ∧ tr ≤ 3) ∧ (tr < 3 ∧ least ≤ 40 → (0 ≤ fl ∧ fl ≤ tr) ∧ 1 ≤ least) ∧ (0 ≤ fl ∧ fl ≤ 6) ∧ (0 ≤ best ∧ best ≤ 40) ∧ (0 ≤ least ∧ least ≤ 41) ∧ (0 ≤ n0 ∧ n0 + (if t = 3 then 3 else 3 - tr) + 3 * (2 - t) ≤ 9)) ∧ q_li X i w 1 = e_out (c_O X i) (q_lA X i w) 1 kf t sum tr fl best least n0 R) → ((4 - t).toNat < n) → x_G p l e (x_rm 61 617 628) s m args below meth c 13 E 617 628 (MQ below (x_Q E κ (fun v_ Y_ => k_eq X Y_ ∧ f_B2 X Y_ ∧ (if x_in i 0 (X 1 2 - 1) = 1 ∧ x_in w 0 1 = 1 then (v_ = some (vi (q_li X i w 1).1) ∧ Y_ 0 7 = (q_li X i w 1).1 ∧ ∀ k, 0 ≤ k → k < (q_li X i w 1).1 → Y_ 32 k = (q_li X i w 1).2 k) else (v_ = some (vi (-1)) ∧ r_eq X Y_)))) args s 617 628 (fun q => E.1 ≤ q)) κ2 184 [some (x_rf E 0), some (vi i), some (vi w), some (vi 1), some (x_rf E (3 + 1 + 1 + 2 * i)), some (x_rf E (-2)), some (vi sum), some (vi tr), some (vi fl), some (vi best), some (vi least), some (vi t), none] [] Y := by
    intro n
    induction n with
    | zero => intro kf t sum tr fl best least n0 R κ2 Y hinv hme; exfalso; omega
    | succ n ih =>
      intro kf t sum tr fl best least n0 R κ2 Y hinv hme
      have ih0 := ih
      obtain ⟨⟨hup, hT2⟩, hH, hIf, hkY, h8, ⟨h7, hR⟩, hi, hw, hrg, he⟩ := hinv
      have h0 := hup _ _ h0
      have hT := hT2
      have k38 := hH.1.k38
      have k32 : κ2 32 = some (.inr (1, 64)) := hT.1 0 0 h0 6 (0, 32, .inr (1, 64)) rfl
      obtain ⟨ht, hs, h3, hfl, hfr, hb, hl, hn0⟩ := hrg
      have lp_190 : ∀ (n : Nat) (q : Nat) (tr fl best least n0 : Int) (R : Int → Int) (Y : x_X), (((∀ b k, κ b = some k → κ2 b = some k) ∧ x_T κ2) ∧ f_H κ2 Y (c_O X i) (q_lA X i w) ∧ f_I Y (f_w (c_O X i) (q_lA X i w) 12) (f_d (c_O X i) (q_lA X i w)) ∧ k_eq X Y ∧ Y 38 8 = X 38 8 + 121 ∧ (Y 0 7 = n0 ∧ ∀ k, 0 ≤ k → k < n0 → Y 32 k = R k) ∧ (0 ≤ i ∧ i < X 1 2) ∧ (0 ≤ w ∧ w ≤ 1) ∧ ((0 ≤ sum ∧ sum ≤ 40 * t) ∧ (0 ≤ tr ∧ tr ≤ 3) ∧ (tr < 3 ∧ least ≤ 40 → (0 ≤ fl ∧ fl ≤ tr) ∧ 1 ≤ least) ∧ (0 ≤ fl ∧ fl ≤ 6) ∧ (0 ≤ best ∧ best ≤ 40) ∧ (0 ≤ least ∧ least ≤ 41) ∧ (t ≤ 2 ∧ 3 ≤ (q : Int) + tr) ∧ (0 ≤ n0 ∧ n0 + (3 - tr) + 3 * (2 - t) ≤ 9)) ∧ q_li X i w 1 = e_re (c_O X i) (q_lA X i w) 1 (kf - 1) t sum (e_in (f_d (c_O X i) (q_lA X i w) t sum) 1 q tr fl best least n0 R)) → ((4 - tr).toNat < n) → x_G p l e (x_rm 61 617 628) s m args below meth c 13 E 617 628 (MQ below (x_Q E κ (fun v_ Y_ => k_eq X Y_ ∧ f_B2 X Y_ ∧ (if x_in i 0 (X 1 2 - 1) = 1 ∧ x_in w 0 1 = 1 then (v_ = some (vi (q_li X i w 1).1) ∧ Y_ 0 7 = (q_li X i w 1).1 ∧ ∀ k, 0 ≤ k → k < (q_li X i w 1).1 → Y_ 32 k = (q_li X i w 1).2 k) else (v_ = some (vi (-1)) ∧ r_eq X Y_)))) args s 617 628 (fun q => E.1 ≤ q)) κ2 190 [some (x_rf E 0), some (vi i), some (vi w), some (vi 1), some (x_rf E (3 + 1 + 1 + 2 * i)), some (x_rf E (-2)), some (vi sum), some (vi tr), some (vi fl), some (vi best), some (vi least), some (vi t), none] [] Y := by
        intro n
        induction n with
        | zero => intro q tr fl best least n0 R Y hinv hme; exfalso; omega
        | succ n ih =>
          intro q tr fl best least n0 R Y hinv hme
          obtain ⟨⟨hup, hT2⟩, hH, hIf, hkY, h8, ⟨h7, hR⟩, hi, hw, hrg, he⟩ := hinv
          have hT := hT2
          have k38 := hH.1.k38
          have k32 : κ2 32 = some (.inr (1, 64)) := hT.1 0 0 h0 6 (0, 32, .inr (1, 64)) rfl
          obtain ⟨hs, h3, hfl, hfr, hb, hl, hq, hn0⟩ := hrg
          refine x_iload B dX1_line_190 rfl ?_
          refine x_iconst B dX1_line_192 ?_
          refine x_icmp_ge B (tgt := 267) dX1_line_193 (by decide) ⟨by omega, by omega⟩ ⟨by omega, by omega⟩ (fun h_193 => ?_) (fun h_193 => ?_)
          · rw [e_in_e (by omega)] at he
            unfold e_re at he
            refine x_iload B dX1_line_267 rfl ?_
            refine x_if_ne B (tgt := 277) dX1_line_269 (by decide) ⟨by omega, by omega⟩ (fun h_269 => ?_) (fun h_269 => ?_)
            · rw [if_neg (show ¬ best = 0 by omega)] at he
              refine x_iload B dX1_line_277 rfl ?_
              refine x_iload B dX1_line_279 rfl ?_
              refine x_iadd B dX1_line_281 ?_
              refine x_istw_6 B dX1_line_282 (by first | rfl | exact x_cr _ _) ?_
              refine x_iconst B dX1_line_284 ?_
              refine x_istw_7 B dX1_line_285 (by first | rfl | exact x_cr _ _) ?_
              refine x_iconst B dX1_line_287 ?_
              refine x_istw_8 B dX1_line_288 (by first | rfl | exact x_cr _ _) ?_
              refine x_iconst B dX1_line_290 ?_
              refine x_istw_9 B dX1_line_291 (by first | rfl | exact x_cr _ _) ?_
              refine x_iconst B dX1_line_293 ?_
              refine x_istw_10 B dX1_line_294 (by first | rfl | exact x_cr _ _) ?_
              refine x_iinc_11 B dX1_line_296 (by first | rfl | exact x_cr _ _) ?_
              refine x_goto B (tgt := 184) dX1_line_299 (by decide) ?_
              refine ih0 (kf - 1) _ _ _ _ _ _ _ _ _ _ ⟨⟨hup, hT2⟩, hH, hIf, hkY, h8, ⟨h7, hR⟩, hi, hw, ⟨⟨by omega, by omega, by omega⟩, ⟨by omega, by omega⟩, ⟨by omega, by omega⟩, fun _ => ⟨⟨by omega, by omega⟩, by omega⟩, ⟨by omega, by omega⟩, ⟨by omega, by omega⟩, ⟨by omega, by omega⟩, by omega, by (split <;> omega)⟩, he⟩ (by omega)
            · rw [if_pos (show best = 0 by omega)] at he
              refine x_aload_n B dX1_line_272 rfl ?_
              refine x_getI B (k := 7) 7 rfl rfl xc_0 (by decide) h0 (Or.inl q408) (fun _ h => h) dX1_line_273 (fun r_273 => ?_)
              refine x_wide (cells' := 617) (slots' := 628) (by omega) (by omega) ?_
              refine x_iret B hup ?_ dX1_line_276
              refine ⟨hkY, ⟨by rw [h8]; omega, hIf.1⟩, ?_⟩
              rw [if_pos ⟨by unfold x_in; rw [if_pos (by omega)], by unfold x_in; rw [if_pos (by omega)]⟩, he, h7]
              exact ⟨rfl, rfl, hR⟩
          · refine x_iload B dX1_line_196 rfl ?_
            refine x_bipush B dX1_line_198 (by decide) ?_
            refine x_icmp_gt B (tgt := 267) dX1_line_200 (by decide) ⟨by omega, by omega⟩ ⟨by omega, by omega⟩ (fun h_200 => ?_) (fun h_200 => ?_)
            · rw [e_in_e (by omega)] at he
              unfold e_re at he
              refine x_iload B dX1_line_267 rfl ?_
              refine x_if_ne B (tgt := 277) dX1_line_269 (by decide) ⟨by omega, by omega⟩ (fun h_269 => ?_) (fun h_269 => ?_)
              · rw [if_neg (show ¬ best = 0 by omega)] at he
                refine x_iload B dX1_line_277 rfl ?_
                refine x_iload B dX1_line_279 rfl ?_
                refine x_iadd B dX1_line_281 ?_
                refine x_istw_6 B dX1_line_282 (by first | rfl | exact x_cr _ _) ?_
                refine x_iconst B dX1_line_284 ?_
                refine x_istw_7 B dX1_line_285 (by first | rfl | exact x_cr _ _) ?_
                refine x_iconst B dX1_line_287 ?_
                refine x_istw_8 B dX1_line_288 (by first | rfl | exact x_cr _ _) ?_
                refine x_iconst B dX1_line_290 ?_
                refine x_istw_9 B dX1_line_291 (by first | rfl | exact x_cr _ _) ?_
                refine x_iconst B dX1_line_293 ?_
                refine x_istw_10 B dX1_line_294 (by first | rfl | exact x_cr _ _) ?_
                refine x_iinc_11 B dX1_line_296 (by first | rfl | exact x_cr _ _) ?_
                refine x_goto B (tgt := 184) dX1_line_299 (by decide) ?_
                refine ih0 (kf - 1) _ _ _ _ _ _ _ _ _ _ ⟨⟨hup, hT2⟩, hH, hIf, hkY, h8, ⟨h7, hR⟩, hi, hw, ⟨⟨by omega, by omega, by omega⟩, ⟨by omega, by omega⟩, ⟨by omega, by omega⟩, fun _ => ⟨⟨by omega, by omega⟩, by omega⟩, ⟨by omega, by omega⟩, ⟨by omega, by omega⟩, ⟨by omega, by omega⟩, by omega, by (split <;> omega)⟩, he⟩ (by omega)
              · rw [if_pos (show best = 0 by omega)] at he
                refine x_aload_n B dX1_line_272 rfl ?_
                refine x_getI B (k := 7) 7 rfl rfl xc_0 (by decide) h0 (Or.inl q408) (fun _ h => h) dX1_line_273 (fun r_273 => ?_)
                refine x_wide (cells' := 617) (slots' := 628) (by omega) (by omega) ?_
                refine x_iret B hup ?_ dX1_line_276
                refine ⟨hkY, ⟨by rw [h8]; omega, hIf.1⟩, ?_⟩
                rw [if_pos ⟨by unfold x_in; rw [if_pos (by omega)], by unfold x_in; rw [if_pos (by omega)]⟩, he, h7]
                exact ⟨rfl, rfl, hR⟩
            · refine x_aload_n B dX1_line_203 rfl ?_
              refine x_getC0 B (k := 14) hT rfl rfl xc_0 (by decide) h0 (Or.inl q415) (fun _ h => h) dX1_line_204 (fun k_204 => ?_)
              refine x_iload B dX1_line_207 rfl ?_
              refine x_iload B dX1_line_209 rfl ?_
              refine x_iload B dX1_line_211 rfl ?_
              refine x_iload B dX1_line_213 rfl ?_
              refine x_iload B dX1_line_215 rfl ?_
              refine x_iload B dX1_line_217 rfl ?_
              refine x_go (x_rV B k_204 (show x_cl[5]? = some _ from rfl) ((f_latC hH hIf ⟨by omega, by omega⟩ hs hb h3 (fun q => hfl (by omega)) hl) ) (lw_V q1206 q1182 q1183 q118 q1184) hv_X6_loadAt ⟨by decide, by decide⟩ ⟨by decide, by decide⟩ rfl rfl (by simp [x_cr, x_c1, x_c2]) dX1_line_219) (fun v_219 X_219 p_219 => ?_)
              obtain ⟨rfl, hg, hI2⟩ := p_219
              have hd : f_lat (c_O X i) (q_lA X i w) t sum tr fl best least = (f_d (c_O X i) (q_lA X i w) t sum tr fl best least) := by unfold f_lat; rw [if_neg (by omega)]
              rw [hd]
              have hfl2 := hfl (by omega)
              have hdr := f_d_r hH (tr := tr) (t := t) (sum := sum) (fl := fl) (best := best) (least := least) ⟨by omega, by omega⟩ hs hb hfr.1 ⟨by omega, by omega⟩
              have e7 : X_219 0 7 = n0 := by rw [hg 0 (by omega)]; exact h7
              have hH2 := hH.fr hg
              refine x_istw_12 B dX1_line_222 (by first | rfl | exact x_cr _ _) ?_
              refine x_aload_n B dX1_line_224 rfl ?_
              refine x_iload B dX1_line_225 rfl ?_
              refine x_i2l B dX1_line_227 ⟨by omega, by omega⟩ ?_
              refine x_goV (x_rV B h0 (show x_cl[0]? = some _ from rfl) (c_X1_tell hT h0 ⟨by omega, by omega⟩ ⟨by omega, by omega⟩) (lw_V q806 q808 qs16 q110 q809) hv_X1_tell ⟨by decide, by decide⟩ ⟨by decide, by decide⟩ rfl rfl (by simp [x_cr, x_c1, x_c2]) dX1_line_228) ?_
              have hH3 := (hH2.up (a := 32) (i := X_219 0 7) (z := (f_d (c_O X i) (q_lA X i w) t sum tr fl best least)) k32 (by unfold a_kd; simp) (by omega)).up (a := 0) (i := 7) (z := X_219 0 7 + 1) h0 (by unfold a_kd; simp) (by omega)
              have hI3 := hI2.cg (Y := (x_up (x_up X_219 32 (X_219 0 7) (f_d (c_O X i) (q_lA X i w) t sum tr fl best least)) 0 7 (X_219 0 7 + 1))) (fun a a1 a2 => by rw [x_up_o _ (by omega), x_up_o _ (by omega)])
              have hk3 : k_eq X (x_up (x_up X_219 32 (X_219 0 7) (f_d (c_O X i) (q_lA X i w) t sum tr fl best least)) 0 7 (X_219 0 7 + 1)) := ((hkY.trans (g38.k (fun a ha => hg a (by omega)))).up (Or.inr (Or.inl rfl)) hlo0).up7 (Or.inl rfl)
              refine x_iinc_7 B dX1_line_231 (by first | rfl | exact x_cr _ _) ?_
              refine x_iload B dX1_line_234 rfl ?_
              refine x_aload B dX1_line_236 rfl ?_
              refine x_goP (x_rU B (n := 0) (x_rcG B) (c_X13_failed (Or.inl rfl)) (lw_U q1207 q877 q878 q876 q134 q880) rfl (by decide +kernel) ⟨by decide, by decide⟩ ⟨by decide, by decide⟩ rfl rfl (by simp [x_cr, x_c1, x_c2]) dX1_line_238) ?_
              refine x_iadd B dX1_line_241 ?_
              refine x_istw_8 B dX1_line_242 (by first | rfl | exact x_cr _ _) ?_
              refine x_aload B dX1_line_244 rfl ?_
              refine x_iload B dX1_line_246 rfl ?_
              refine x_iload B dX1_line_248 rfl ?_
              refine x_goP (x_rAN B (n := 2) (x_rcG B) (c_X18_best ) q1208 q859 q860 q861 q862 q858 (by decide +kernel) ⟨by decide, by decide⟩ ⟨by decide, by decide⟩ rfl rfl (by simp [x_cr, x_c1, x_c2]) dX1_line_250) ?_
              refine x_istw_9 B dX1_line_253 (by first | rfl | exact x_cr _ _) ?_
              refine x_aload B dX1_line_255 rfl ?_
              refine x_iload B dX1_line_257 rfl ?_
              refine x_goP (x_rAN B (n := 1) (x_rcG B) (c_X18_least ) q1209 q868 q869 q870 q871 q867 (by decide +kernel) ⟨by decide, by decide⟩ ⟨by decide, by decide⟩ rfl rfl (by simp [x_cr, x_c1, x_c2]) dX1_line_259) ?_
              refine x_istw_10 B dX1_line_262 (by first | rfl | exact x_cr _ _) ?_
              refine x_goto B (tgt := 190) dX1_line_264 (by decide) ?_
              refine x_fg_12 ?_
              obtain ⟨q, rfl⟩ : ∃ g, q = g + 1 := ⟨q - 1, by omega⟩
              unfold e_in at he
              rw [if_pos ⟨by omega, by omega⟩] at he
              refine ih q _ _ _ _ (n0 + 1) (fun j => if j = n0 then (f_d (c_O X i) (q_lA X i w) t sum tr fl best least) else R j) _ ⟨⟨hup, hT2⟩, hH3, hI3, hk3, ?_, ⟨?_, fun k k1 k2 => ?_⟩, hi, hw, ⟨hs, ⟨by omega, by omega⟩, fun _ => ⟨⟨by omega, by omega⟩, by omega⟩, ⟨by omega, by omega⟩, ⟨by omega, by omega⟩, ⟨by omega, by omega⟩, ⟨by omega, by omega⟩, by omega, by omega⟩, he⟩ (by omega)
              · rw [x_up_o _ (by omega), x_up_o _ (by omega), hg.e38]; exact h8
              · rw [x_up_s, e7]
              · rw [x_up_o _ (by omega), e7]
                by_cases e : k = n0
                · subst e; rw [x_up_s, if_pos rfl]
                · rw [x_up_n _ (Or.inr e), if_neg e, hg 32 (by omega)]; exact hR k k1 (by omega)
      refine x_iload B dX1_line_184 rfl ?_
      refine x_iconst B dX1_line_186 ?_
      refine x_icmp_ge B (tgt := 302) dX1_line_187 (by decide) ⟨by omega, by omega⟩ ⟨by omega, by omega⟩ (fun h_187 => ?_) (fun h_187 => ?_)
      · rw [e_out_e (by omega)] at he
        refine x_aload_n B dX1_line_302 rfl ?_
        refine x_getI B (k := 7) 7 rfl rfl xc_0 (by decide) h0 (Or.inl q408) (fun _ h => h) dX1_line_303 (fun r_303 => ?_)
        refine x_wide (cells' := 617) (slots' := 628) (by omega) (by omega) ?_
        refine x_iret B hup ?_ dX1_line_306
        refine ⟨hkY, ⟨by rw [h8]; omega, hIf.1⟩, ?_⟩
        rw [if_pos ⟨by unfold x_in; rw [if_pos (by omega)], by unfold x_in; rw [if_pos (by omega)]⟩, he, h7]
        exact ⟨rfl, rfl, hR⟩
      · refine lp_190 _ 3 _ _ _ _ _ _ _ ⟨⟨hup, hT2⟩, hH, hIf, hkY, h8, ⟨h7, hR⟩, hi, hw, ⟨hs, h3, hfl, hfr, hb, hl, ⟨by omega, by omega⟩, by omega, by (rw [if_neg (by omega)] at hn0; omega)⟩, ?_⟩ (Nat.lt_succ_self _)
        obtain ⟨kf, rfl⟩ : ∃ g, kf = g + 1 := ⟨kf - 1, by omega⟩
        rw [e_out_s h_187] at he
        exact he
  refine x_aload_n B dX1_line_0 rfl ?_
  refine x_iload_n B dX1_line_1 rfl ?_
  refine x_goP (x_rV B h0 (show x_cl[0]? = some _ from rfl) (c_X1_isLifter hI ⟨by omega, by omega⟩) (lw_V q735 q737 qs13 q110 q738) hv_X1_isLifter ⟨by decide, by decide⟩ ⟨by show _ ≤ 617; omega, by show _ ≤ 628; omega⟩ rfl rfl (by simp [x_cr, x_c1, x_c2]) dX1_line_2) ?_
  refine x_if_eq B (tgt := 18) dX1_line_5 (by decide) ⟨by omega, by omega⟩ (fun h_5 => ?_) (fun h_5 => ?_)
  · refine x_iconst B dX1_line_18 ?_
    refine x_wide (cells' := 617) (slots' := 628) (by omega) (by omega) ?_
    refine x_iret B (by first | exact hup | exact (fun _ _ h => h)) ?_ dX1_line_19
    exact ⟨k_eq.rf X, hB.b2 (fun _ _ _ => rfl), by rw [if_neg (by omega)]; exact ⟨rfl, rfl, rfl⟩⟩
  · refine x_iload_n B dX1_line_8 rfl ?_
    refine x_i2l B dX1_line_9 ⟨by omega, by omega⟩ ?_
    refine x_lconst B 0 dX1_line_10 (by decide) ?_
    refine x_lconst B 1 dX1_line_11 (by decide) ?_
    refine x_goP (x_rS B (c_X1_in ⟨by omega, by omega⟩ ⟨by omega, by omega⟩ ⟨by omega, by omega⟩) (lw_S q464 q465 q110 q466) hd_X1_in ⟨by decide, by decide⟩ ⟨by show _ ≤ 617; omega, by show _ ≤ 628; omega⟩ rfl rfl (by simp [x_cr, x_c1, x_c2]) dX1_line_12) ?_
    refine x_if_ne B (tgt := 20) dX1_line_15 (by decide) ⟨by omega, by omega⟩ (fun h_15 => ?_) (fun h_15 => ?_)
    · have hi : 0 ≤ i ∧ i < X 1 2 := by unfold x_in at h_5; split at h_5 <;> omega
      have hw : 0 ≤ w ∧ w ≤ 1 := by unfold x_in at h_15; split at h_15 <;> omega
      have g1 : c_M X 3 (-1) 1 = X 3 1 := c_M_g (by omega)
      have g2 : c_M X 3 (-1) 2 = X 3 2 := c_M_g (by omega)
      have g3 : c_M X 3 (-1) 3 = X 3 3 := c_M_g (by omega)
      have s2 : c_M X 3 i 2 = X (3 + 1 + 1 + 2 * i) 2 := c_M_s hi (by omega)
      have s3 : c_M X 3 i 3 = X (3 + 1 + 1 + 2 * i) 3 := c_M_s hi (by omega)
      have s4 : c_M X 3 i 4 = X (3 + 1 + 1 + 2 * i) 4 := c_M_s hi (by omega)
      have s6 : c_M X 3 i 6 = X (3 + 1 + 1 + 2 * i) 6 := c_M_s hi (by omega)
      have s7 : c_M X 3 i 7 = X (3 + 1 + 1 + 2 * i) 7 := c_M_s hi (by omega)
      have es := c_sum (X := X) (mo := 3) hi
      have hsr := m_sum_r hW hi.1 hi.2
      obtain ⟨⟨hW1, hWr, hWb⟩, hW2, hW3⟩ := id hW
      have w2 := hW2 i hi.1 hi.2
      have w3 := hW3 i hi.1 hi.2
      have hj := hJ i hi.1 hi.2
      refine x_aload_n B dX1_line_20 rfl ?_
      refine x_getC0 B (k := 14) hT rfl rfl xc_0 (by decide) h0 (Or.inl q415) (fun _ h => h) dX1_line_21 (fun k_21 => ?_)
      refine x_aload_n B dX1_line_24 rfl ?_
      refine x_getC0 B (k := 0) hT rfl rfl xc_0 (by decide) h0 (Or.inl q394) (fun _ h => h) dX1_line_25 (fun k_25 => ?_)
      refine x_iload_n B dX1_line_28 rfl ?_
      refine x_goP (x_rV B k_25 (show x_cl[1]? = some _ from rfl) (c_J2_get hT (by assumption) (by omega) ⟨by omega, by omega⟩) (lw_V q745 q372 q373 q113 q374) hv_J2_get ⟨by decide, by decide⟩ ⟨by show _ ≤ 617; omega, by show _ ≤ 628; omega⟩ rfl rfl (by simp [x_cr, x_c1, x_c2]) dX1_line_29) ?_
      refine x_cast B (hl _ (by omega) (by omega)) (show x_cl[8]? = some _ from rfl) q746 dX1_line_32 ?_
      refine x_iload_n B dX1_line_35 rfl ?_
      refine x_if_ne B (tgt := 49) dX1_line_36 (by decide) ⟨by omega, by omega⟩ (fun h_36 => ?_) (fun h_36 => ?_)
      · refine x_aload_n B dX1_line_49 rfl ?_
        refine x_iload_n B dX1_line_50 rfl ?_
        refine x_goK (x_rVK B h0 (show x_cl[0]? = some _ from rfl) (c_X1_win hC k87 hi) (lw_V q1123 q1125 qs25 q110 q1126) hv_X1_win ⟨by decide, by decide⟩ ⟨by decide, by decide⟩ rfl rfl (by simp [x_cr, x_c1, x_c2]) dX1_line_51) (fun v_51 κ_51 X_51 p_51 => ?_)
        obtain ⟨ma, rfl, hA4, hup, hT3, hke, hre0, hfe⟩ := p_51
        have hA3 : x_Aim κ_51 X_51 ma (q_lA X i w) := by unfold q_lA; rw [if_neg (by omega)]; exact hA4
        have hve := hke.v hI hlo
        have hC1 := (hve.C hC).up hup hT3
        have h0 := hup _ _ h0
        have k_21 := hup _ _ k_21
        have e1 := congrFun (hve.1 1 (by omega) (by omega)) 2
        have hT := hT3
        refine x_go (x_rV B k_21 (show x_cl[5]? = some _ from rfl) (c_X6_looks hT3 k_21 (hB.cg hfe).1) (lw_V q1166 q1167 q1168 q118 q1169) hv_X6_looks ⟨by decide, by decide⟩ ⟨by show _ ≤ 617; omega, by show _ ≤ 628; omega⟩ rfl rfl (by simp [x_cr, x_c1, x_c2]) dX1_line_54) (fun v_54 X_54 p_54 => ?_)
        obtain ⟨rfl, f1, f2, f3, f4, f5⟩ := p_54
        obtain ⟨hH, hIf⟩ := f_lk hC1 (by rw [e1]; exact hi) hA3 (hB.cg hfe) f1 (by rw [f2]; exact (congrFun (hve.1 2 (by omega) (by omega)) i).symm) f3 f4 f5 (f_w (c_O X i) (q_lA X i w) 12) (f_d (c_O X i) (q_lA X i w))
        rw [hve.O] at hH
        have hk2 : k_eq X X_54 := hke.trans (g38.k (fun a ha => f1 a (by omega) (by omega)))
        refine x_aload_n B dX1_line_57 rfl ?_
        refine x_iconst B dX1_line_58 ?_
        refine x_putI B (k := 7) 7 rfl rfl rfl ⟨by omega, by omega⟩ xc_0 (by decide) rfl nn_0_7 (fun _ => rfl) h0 (Or.inl q408) (fun _ h => h) dX1_line_59 ?_
        have hkY : k_eq X (x_up X_54 0 7 0) := hk2.up7 (Or.inl rfl)
        have hH1 := hH.up (a := 0) (i := 7) (z := 0) h0 (by unfold a_kd; simp) (by omega)
        have hI1 := hIf.cg (Y := (x_up X_54 0 7 0)) (fun a a1 a2 => x_up_o _ (by omega))
        have h81 : (x_up X_54 0 7 0) 38 8 = X 38 8 + 121 := by rw [x_up_o _ (by omega), f4, hfe 38 (by omega) (by omega)]
        have hv2 := hkY.v hI hlo
        have es5 : (x_up X_54 0 7 0) (3 + 1 + 1 + 2 * i) = X (3 + 1 + 1 + 2 * i) := hv2.1 _ (by omega) (by omega)
        have eb : (x_up X_54 0 7 0) (3 + 1 + 1 + 2 * i + 1) = X (3 + 1 + 1 + 2 * i + 1) := hv2.1 _ (by omega) (by omega)
        have y31 : (x_up X_54 0 7 0) 3 1 = X 3 1 := by rw [hv2.1 3 (by omega) (by omega)]
        have y33 : (x_up X_54 0 7 0) 3 3 = X 3 3 := by rw [hv2.1 3 (by omega) (by omega)]
        have y1 : (x_up X_54 0 7 0) (3 + 1 + 1 + 2 * i) 1 = X (3 + 1 + 1 + 2 * i) 1 := by rw [es5]
        have y2 : (x_up X_54 0 7 0) (3 + 1 + 1 + 2 * i) 2 = X (3 + 1 + 1 + 2 * i) 2 := by rw [es5]
        have y3 : (x_up X_54 0 7 0) (3 + 1 + 1 + 2 * i) 3 = X (3 + 1 + 1 + 2 * i) 3 := by rw [es5]
        have y4 : (x_up X_54 0 7 0) (3 + 1 + 1 + 2 * i) 4 = X (3 + 1 + 1 + 2 * i) 4 := by rw [es5]
        have y6 : (x_up X_54 0 7 0) (3 + 1 + 1 + 2 * i) 6 = X (3 + 1 + 1 + 2 * i) 6 := by rw [es5]
        have y7 : (x_up X_54 0 7 0) (3 + 1 + 1 + 2 * i) 7 = X (3 + 1 + 1 + 2 * i) 7 := by rw [es5]
        refine x_aload_n B dX1_line_62 rfl ?_
        refine x_getC0 B (k := 2) hT rfl rfl xc_0 (by decide) h0 (Or.inl q400) (fun _ h => h) dX1_line_63 (fun k_63 => ?_)
        refine x_getC1 B (k := 0) hT rfl rfl xc_2 (by decide) k_63 (Or.inr q244) (fun _ h => h) dX1_line_66 (fun k_66 => ?_)
        refine x_iload_n B dX1_line_69 rfl ?_
        refine x_aaldC B (t := 10) hT k_66 rfl rfl rfl rfl ⟨by omega, by omega⟩ dX1_line_70 (fun k_70 => ?_)
        refine x_astw_4 B dX1_line_71 (by first | rfl | exact x_cr _ _) ?_
        refine x_aload B dX1_line_73 rfl ?_
        refine x_getZ B (k := 7) 7 rfl rfl xc_3 (by decide) k_70 (Or.inr q223) (fun _ h => h) dX1_line_75 (fun r_75 => ?_)
        refine x_if_ne B (tgt := 91) dX1_line_78 (by decide) ⟨by omega, by omega⟩ (fun h_78 => ?_) (fun h_78 => ?_)
        · refine x_iconst B dX1_line_91 ?_
          refine x_wide (cells' := 617) (slots' := 628) (by omega) (by omega) ?_
          refine x_iret B (by first | exact hup | exact (fun _ _ h => h)) ?_ dX1_line_92
          refine ⟨hkY, ⟨by rw [h81]; omega, hI1.1⟩, ?_⟩
          rw [if_pos ⟨by omega, by omega⟩]
          have hz : q_li X i w 1 = (0, fun _ => 0) := by unfold q_li q_ln; rw [if_pos (by first | exact Or.inl (by omega) | exact Or.inr (by rw [g1]; by_cases q : X 3 1 = 3; exact q; rw [y31, if_neg q] at h_88; omega))]
          rw [hz]
          exact ⟨rfl, x_up_s _ _ _ _, fun k k1 k2 => by omega⟩
        · refine x_aload_n B dX1_line_81 rfl ?_
          refine x_getC0 B (k := 2) hT rfl rfl xc_0 (by decide) h0 (Or.inl q400) (fun _ h => h) dX1_line_82 (fun k_82 => ?_)
          refine x_goP (x_rV B k_82 (show x_cl[2]? = some _ from rfl) (c_X2_isOver hT (by assumption)) (lw_V q1205 q368 q369 q114 q370) hv_X2_isOver ⟨by decide, by decide⟩ ⟨by show _ ≤ 617; omega, by show _ ≤ 628; omega⟩ rfl rfl (by simp [x_cr, x_c1, x_c2]) dX1_line_85) ?_
          refine x_if_eq B (tgt := 93) dX1_line_88 (by decide) ⟨by split <;> omega, by split <;> omega⟩ (fun h_88 => ?_) (fun h_88 => ?_)
          · have hne : X 3 1 ≠ 3 := by intro q; rw [y31, if_pos q] at h_88; omega
            have h70 : c_M X 3 i 7 = 0 := by omega
            have hre := m_rest hW hi.1 hi.2 h70 (by omega)
            have sb : c_M X 3 i (10 + X 3 1) = X (3 + 1 + 1 + 2 * i + 1) (X 3 1) := by rw [c_M_b hi (by omega)]; congr 1; omega
            rw [g1, sb, ← es] at hre
            have ssE : s_sum (x_up X_54 0 7 0) (3 + 1 + 1 + 2 * i) = s_sum X (3 + 1 + 1 + 2 * i) := by unfold s_sum; rw [es5, eb]
            have hre2 : 0 ≤ s_sum (x_up X_54 0 7 0) (3 + 1 + 1 + 2 * i) - (x_up X_54 0 7 0) (3 + 1 + 1 + 2 * i + 1) ((x_up X_54 0 7 0) 3 1) ∧ s_sum (x_up X_54 0 7 0) (3 + 1 + 1 + 2 * i) - (x_up X_54 0 7 0) (3 + 1 + 1 + 2 * i + 1) ((x_up X_54 0 7 0) 3 1) ≤ 40 * (x_up X_54 0 7 0) 3 1 := by rw [ssE, eb, y31]; exact hre.1
            have hb2 : 0 ≤ (x_up X_54 0 7 0) (3 + 1 + 1 + 2 * i + 1) ((x_up X_54 0 7 0) 3 1) ∧ (x_up X_54 0 7 0) (3 + 1 + 1 + 2 * i + 1) ((x_up X_54 0 7 0) 3 1) ≤ 40 := by rw [eb, y31]; exact hre.2
            have slE : s_least (x_up X_54 0 7 0) (3 + 1 + 1 + 2 * i) ((x_up X_54 0 7 0) 3 3) = m_least (c_M X 3) i := by unfold s_least m_least; rw [es5, y33, s3, s6, s4, g3]
            have hlr := m_least_r hW hi.1 hi.2
            rw [← slE] at hlr
            have hqe : q_li X i w 1 = e_out (c_O X i) (q_lA X i w) 1 3 ((x_up X_54 0 7 0) 3 1) (s_sum (x_up X_54 0 7 0) (3 + 1 + 1 + 2 * i) - (x_up X_54 0 7 0) (3 + 1 + 1 + 2 * i + 1) ((x_up X_54 0 7 0) 3 1)) (if (x_up X_54 0 7 0) (3 + 1 + 1 + 2 * i) 3 = 0 then 3 else (x_up X_54 0 7 0) (3 + 1 + 1 + 2 * i) 1) ((x_up X_54 0 7 0) (3 + 1 + 1 + 2 * i) 2) ((x_up X_54 0 7 0) (3 + 1 + 1 + 2 * i + 1) ((x_up X_54 0 7 0) 3 1)) (s_least (x_up X_54 0 7 0) (3 + 1 + 1 + 2 * i) ((x_up X_54 0 7 0) 3 3)) 0 (fun _ => 0) := by
              rw [slE, ssE, es5, eb, y31]
              unfold q_li q_ln
              rw [if_neg (by omega), g1, g2, s2, s3, s6, sb, es]
              by_cases q : X (3 + 1 + 1 + 2 * i) 3 = 0
              · rw [if_pos q, if_pos q]
              · rw [if_neg q, if_neg q, hj (by omega)]
            have hsr2 : -1000 ≤ s_sum (x_up X_54 0 7 0) (3 + 1 + 1 + 2 * i) ∧ s_sum (x_up X_54 0 7 0) (3 + 1 + 1 + 2 * i) ≤ 1000 := by omega
            refine x_iload_n B dX1_line_93 rfl ?_
            refine x_goP (x_rS B (c_X13_of ⟨by omega, by omega⟩) (lw_S q840 q841 q134 q842) hd_X13_of ⟨by decide, by decide⟩ ⟨by show _ ≤ 617; omega, by show _ ≤ 628; omega⟩ rfl rfl (by simp [x_cr, x_c1, x_c2]) dX1_line_94) ?_
            refine x_astw_5 B dX1_line_97 (by first | rfl | exact x_cr _ _) ?_
            refine x_aload B dX1_line_99 rfl ?_
            refine x_goP (x_rV B k_70 (show x_cl[3]? = some _ from rfl) (c_X3_sum hT (by assumption)) (lw_V q789 q790 q791 q115 q792) hv_X3_sum ⟨by decide, by decide⟩ ⟨by show _ ≤ 617; omega, by show _ ≤ 628; omega⟩ rfl rfl (by simp [x_cr, x_c1, x_c2]) dX1_line_101) ?_
            refine x_aload B dX1_line_104 rfl ?_
            refine x_getC1 B (k := 0) hT rfl rfl xc_3 (by decide) k_70 (Or.inr q196) (fun _ h => h) dX1_line_106 (fun k_106 => ?_)
            refine x_aload_n B dX1_line_109 rfl ?_
            refine x_getC0 B (k := 2) hT rfl rfl xc_0 (by decide) h0 (Or.inl q400) (fun _ h => h) dX1_line_110 (fun k_110 => ?_)
            refine x_getI B (k := 1) 1 rfl rfl xc_2 (by decide) k_110 (Or.inr q248) (fun _ h => h) dX1_line_113 (fun r_113 => ?_)
            refine x_iald B k_106 ⟨by omega, by omega⟩ dX1_line_116 (fun r_116 => ?_)
            refine x_isub B dX1_line_117 ?_
            refine x_istw_6 B dX1_line_118 (by first | rfl | exact x_cr _ _) ?_
            refine x_aload B dX1_line_120 rfl ?_
            refine x_getI B (k := 3) 3 rfl rfl xc_3 (by decide) k_70 (Or.inr q211) (fun _ h => h) dX1_line_122 (fun r_122 => ?_)
            refine x_if_ne B (tgt := 132) dX1_line_125 (by decide) ⟨by omega, by omega⟩ (fun h_125 => ?_) (fun h_125 => ?_)
            · refine x_aload B dX1_line_132 rfl ?_
              refine x_getI B (k := 1) 1 rfl rfl xc_3 (by decide) k_70 (Or.inr q200) (fun _ h => h) dX1_line_134 (fun r_134 => ?_)
              refine x_istw_7 B dX1_line_137 (by first | rfl | exact x_cr _ _) ?_
              refine x_aload B dX1_line_139 rfl ?_
              refine x_getI B (k := 2) 2 rfl rfl xc_3 (by decide) k_70 (Or.inr q206) (fun _ h => h) dX1_line_141 (fun r_141 => ?_)
              refine x_istw_8 B dX1_line_144 (by first | rfl | exact x_cr _ _) ?_
              refine x_aload B dX1_line_146 rfl ?_
              refine x_getC1 B (k := 0) hT rfl rfl xc_3 (by decide) k_70 (Or.inr q196) (fun _ h => h) dX1_line_148 (fun k_148 => ?_)
              refine x_aload_n B dX1_line_151 rfl ?_
              refine x_getC0 B (k := 2) hT rfl rfl xc_0 (by decide) h0 (Or.inl q400) (fun _ h => h) dX1_line_152 (fun k_152 => ?_)
              refine x_getI B (k := 1) 1 rfl rfl xc_2 (by decide) k_152 (Or.inr q248) (fun _ h => h) dX1_line_155 (fun r_155 => ?_)
              refine x_iald B k_148 ⟨by omega, by omega⟩ dX1_line_158 (fun r_158 => ?_)
              refine x_istw_9 B dX1_line_159 (by first | rfl | exact x_cr _ _) ?_
              refine x_aload B dX1_line_161 rfl ?_
              refine x_aload_n B dX1_line_163 rfl ?_
              refine x_getC0 B (k := 2) hT rfl rfl xc_0 (by decide) h0 (Or.inl q400) (fun _ h => h) dX1_line_164 (fun k_164 => ?_)
              refine x_getI B (k := 3) 3 rfl rfl xc_2 (by decide) k_164 (Or.inr q253) (fun _ h => h) dX1_line_167 (fun r_167 => ?_)
              refine x_goP (x_rV B k_70 (show x_cl[3]? = some _ from rfl) (c_X3_least hT (by assumption) ⟨by omega, by omega⟩) (lw_V q777 q778 q779 q115 q780) hv_X3_least ⟨by decide, by decide⟩ ⟨by show _ ≤ 617; omega, by show _ ≤ 628; omega⟩ rfl rfl (by simp [x_cr, x_c1, x_c2]) dX1_line_170) ?_
              refine x_istw_10 B dX1_line_173 (by first | rfl | exact x_cr _ _) ?_
              refine x_aload_n B dX1_line_175 rfl ?_
              refine x_getC0 B (k := 2) hT rfl rfl xc_0 (by decide) h0 (Or.inl q400) (fun _ h => h) dX1_line_176 (fun k_176 => ?_)
              refine x_getI B (k := 1) 1 rfl rfl xc_2 (by decide) k_176 (Or.inr q248) (fun _ h => h) dX1_line_179 (fun r_179 => ?_)
              refine x_istw_11 B dX1_line_182 (by first | rfl | exact x_cr _ _) ?_
              refine x_wide (cells' := 617) (slots' := 628) (by omega) (by omega) ?_
              first
              | rw [if_pos (by omega)] at hqe
              | rw [if_neg (by omega)] at hqe
              refine lp_184 _ 3 _ _ _ _ _ _ 0 (fun _ => 0) _ _ ⟨⟨hup, hT3⟩, hH1, hI1, hkY, h81, ⟨x_up_s _ _ _ _, fun k k1 k2 => by omega⟩, hi, hw, ⟨⟨by omega, by omega, by omega⟩, hre2, ⟨by omega, by omega⟩, fun q => ⟨⟨by omega, by omega⟩, by omega⟩, ⟨by omega, by omega⟩, hb2, ⟨by omega, by omega⟩, by omega, by (rw [if_neg (by omega)]; omega)⟩, hqe⟩ (Nat.lt_succ_self _)
            · refine x_iconst B dX1_line_128 ?_
              refine x_goto B (tgt := 137) dX1_line_129 (by decide) ?_
              refine x_istw_7 B dX1_line_137 (by first | rfl | exact x_cr _ _) ?_
              refine x_aload B dX1_line_139 rfl ?_
              refine x_getI B (k := 2) 2 rfl rfl xc_3 (by decide) k_70 (Or.inr q206) (fun _ h => h) dX1_line_141 (fun r_141 => ?_)
              refine x_istw_8 B dX1_line_144 (by first | rfl | exact x_cr _ _) ?_
              refine x_aload B dX1_line_146 rfl ?_
              refine x_getC1 B (k := 0) hT rfl rfl xc_3 (by decide) k_70 (Or.inr q196) (fun _ h => h) dX1_line_148 (fun k_148 => ?_)
              refine x_aload_n B dX1_line_151 rfl ?_
              refine x_getC0 B (k := 2) hT rfl rfl xc_0 (by decide) h0 (Or.inl q400) (fun _ h => h) dX1_line_152 (fun k_152 => ?_)
              refine x_getI B (k := 1) 1 rfl rfl xc_2 (by decide) k_152 (Or.inr q248) (fun _ h => h) dX1_line_155 (fun r_155 => ?_)
              refine x_iald B k_148 ⟨by omega, by omega⟩ dX1_line_158 (fun r_158 => ?_)
              refine x_istw_9 B dX1_line_159 (by first | rfl | exact x_cr _ _) ?_
              refine x_aload B dX1_line_161 rfl ?_
              refine x_aload_n B dX1_line_163 rfl ?_
              refine x_getC0 B (k := 2) hT rfl rfl xc_0 (by decide) h0 (Or.inl q400) (fun _ h => h) dX1_line_164 (fun k_164 => ?_)
              refine x_getI B (k := 3) 3 rfl rfl xc_2 (by decide) k_164 (Or.inr q253) (fun _ h => h) dX1_line_167 (fun r_167 => ?_)
              refine x_goP (x_rV B k_70 (show x_cl[3]? = some _ from rfl) (c_X3_least hT (by assumption) ⟨by omega, by omega⟩) (lw_V q777 q778 q779 q115 q780) hv_X3_least ⟨by decide, by decide⟩ ⟨by show _ ≤ 617; omega, by show _ ≤ 628; omega⟩ rfl rfl (by simp [x_cr, x_c1, x_c2]) dX1_line_170) ?_
              refine x_istw_10 B dX1_line_173 (by first | rfl | exact x_cr _ _) ?_
              refine x_aload_n B dX1_line_175 rfl ?_
              refine x_getC0 B (k := 2) hT rfl rfl xc_0 (by decide) h0 (Or.inl q400) (fun _ h => h) dX1_line_176 (fun k_176 => ?_)
              refine x_getI B (k := 1) 1 rfl rfl xc_2 (by decide) k_176 (Or.inr q248) (fun _ h => h) dX1_line_179 (fun r_179 => ?_)
              refine x_istw_11 B dX1_line_182 (by first | rfl | exact x_cr _ _) ?_
              refine x_wide (cells' := 617) (slots' := 628) (by omega) (by omega) ?_
              first
              | rw [if_pos (by omega)] at hqe
              | rw [if_neg (by omega)] at hqe
              refine lp_184 _ 3 _ _ _ _ _ _ 0 (fun _ => 0) _ _ ⟨⟨hup, hT3⟩, hH1, hI1, hkY, h81, ⟨x_up_s _ _ _ _, fun k k1 k2 => by omega⟩, hi, hw, ⟨⟨by omega, by omega, by omega⟩, hre2, ⟨by omega, by omega⟩, fun q => ⟨⟨by omega, by omega⟩, by omega⟩, ⟨by omega, by omega⟩, hb2, ⟨by omega, by omega⟩, by omega, by (rw [if_neg (by omega)]; omega)⟩, hqe⟩ (Nat.lt_succ_self _)
          · refine x_iconst B dX1_line_91 ?_
            refine x_wide (cells' := 617) (slots' := 628) (by omega) (by omega) ?_
            refine x_iret B (by first | exact hup | exact (fun _ _ h => h)) ?_ dX1_line_92
            refine ⟨hkY, ⟨by rw [h81]; omega, hI1.1⟩, ?_⟩
            rw [if_pos ⟨by omega, by omega⟩]
            have hz : q_li X i w 1 = (0, fun _ => 0) := by unfold q_li q_ln; rw [if_pos (by first | exact Or.inl (by omega) | exact Or.inr (by rw [g1]; by_cases q : X 3 1 = 3; exact q; rw [y31, if_neg q] at h_88; omega))]
            rw [hz]
            exact ⟨rfl, x_up_s _ _ _ _, fun k k1 k2 => by omega⟩
      · refine x_new B xc_12 q947 q948 q136 (xd_12 E) xe_12 (by decide) (by decide) dX1_line_39 (fun z_39 n_39 => ?_)
        have hr : x_raw (.inl (12, 0)) := Or.inl ⟨_, rfl⟩
        have hup : ∀ b k, κ b = some k → x_ku κ (X (-1) 0) (.inl (12, 0)) b = some k := x_ku_le n_39
        have hT3 := hT.ku n_39 hr
        have hke := (k_eq.rf X).nw (x_df 12) hlo0
        have hfe : f_eq X (x_nw X (x_df 12)) := f_eq.nw (fun _ _ _ => rfl) _ hlo0
        have hA3 : x_Aim (x_ku κ (X (-1) 0) (.inl (12, 0))) (x_nw X (x_df 12)) (X (-1) 0) (q_lA X i w) := by unfold q_lA; rw [if_pos (by omega)]; exact Or.inl ⟨x_ku_s _ _ _, fun _ _ _ => rfl⟩
        refine x_dup B dX1_line_42 (by first | rfl | exact x_cr _ _) ?_
        refine x_goV (x_rIN B (by omega) (c_X14_init (by omega)) q949 q950 q136 q951 rfl hd_X14_init ⟨by decide, by decide⟩ ⟨by show _ ≤ 617; omega, by show _ ≤ 628; omega⟩ rfl rfl (by simp [x_cr, x_c1, x_c2]) dX1_line_43) ?_
        refine x_goto B (tgt := 54) dX1_line_46 (by decide) ?_
        have hve := hke.v hI hlo
        have hC1 := (hve.C hC).up hup hT3
        have h0 := hup _ _ h0
        have k_21 := hup _ _ k_21
        have e1 := congrFun (hve.1 1 (by omega) (by omega)) 2
        have hT := hT3
        refine x_go (x_rV B k_21 (show x_cl[5]? = some _ from rfl) (c_X6_looks hT3 k_21 (hB.cg hfe).1) (lw_V q1166 q1167 q1168 q118 q1169) hv_X6_looks ⟨by decide, by decide⟩ ⟨by show _ ≤ 617; omega, by show _ ≤ 628; omega⟩ rfl rfl (by simp [x_cr, x_c1, x_c2]) dX1_line_54) (fun v_54 X_54 p_54 => ?_)
        obtain ⟨rfl, f1, f2, f3, f4, f5⟩ := p_54
        obtain ⟨hH, hIf⟩ := f_lk hC1 (by rw [e1]; exact hi) hA3 (hB.cg hfe) f1 (by rw [f2]; exact (congrFun (hve.1 2 (by omega) (by omega)) i).symm) f3 f4 f5 (f_w (c_O X i) (q_lA X i w) 12) (f_d (c_O X i) (q_lA X i w))
        rw [hve.O] at hH
        have hk2 : k_eq X X_54 := hke.trans (g38.k (fun a ha => f1 a (by omega) (by omega)))
        refine x_aload_n B dX1_line_57 rfl ?_
        refine x_iconst B dX1_line_58 ?_
        refine x_putI B (k := 7) 7 rfl rfl rfl ⟨by omega, by omega⟩ xc_0 (by decide) rfl nn_0_7 (fun _ => rfl) h0 (Or.inl q408) (fun _ h => h) dX1_line_59 ?_
        have hkY : k_eq X (x_up X_54 0 7 0) := hk2.up7 (Or.inl rfl)
        have hH1 := hH.up (a := 0) (i := 7) (z := 0) h0 (by unfold a_kd; simp) (by omega)
        have hI1 := hIf.cg (Y := (x_up X_54 0 7 0)) (fun a a1 a2 => x_up_o _ (by omega))
        have h81 : (x_up X_54 0 7 0) 38 8 = X 38 8 + 121 := by rw [x_up_o _ (by omega), f4, hfe 38 (by omega) (by omega)]
        have hv2 := hkY.v hI hlo
        have es5 : (x_up X_54 0 7 0) (3 + 1 + 1 + 2 * i) = X (3 + 1 + 1 + 2 * i) := hv2.1 _ (by omega) (by omega)
        have eb : (x_up X_54 0 7 0) (3 + 1 + 1 + 2 * i + 1) = X (3 + 1 + 1 + 2 * i + 1) := hv2.1 _ (by omega) (by omega)
        have y31 : (x_up X_54 0 7 0) 3 1 = X 3 1 := by rw [hv2.1 3 (by omega) (by omega)]
        have y33 : (x_up X_54 0 7 0) 3 3 = X 3 3 := by rw [hv2.1 3 (by omega) (by omega)]
        have y1 : (x_up X_54 0 7 0) (3 + 1 + 1 + 2 * i) 1 = X (3 + 1 + 1 + 2 * i) 1 := by rw [es5]
        have y2 : (x_up X_54 0 7 0) (3 + 1 + 1 + 2 * i) 2 = X (3 + 1 + 1 + 2 * i) 2 := by rw [es5]
        have y3 : (x_up X_54 0 7 0) (3 + 1 + 1 + 2 * i) 3 = X (3 + 1 + 1 + 2 * i) 3 := by rw [es5]
        have y4 : (x_up X_54 0 7 0) (3 + 1 + 1 + 2 * i) 4 = X (3 + 1 + 1 + 2 * i) 4 := by rw [es5]
        have y6 : (x_up X_54 0 7 0) (3 + 1 + 1 + 2 * i) 6 = X (3 + 1 + 1 + 2 * i) 6 := by rw [es5]
        have y7 : (x_up X_54 0 7 0) (3 + 1 + 1 + 2 * i) 7 = X (3 + 1 + 1 + 2 * i) 7 := by rw [es5]
        refine x_aload_n B dX1_line_62 rfl ?_
        refine x_getC0 B (k := 2) hT rfl rfl xc_0 (by decide) h0 (Or.inl q400) (fun _ h => h) dX1_line_63 (fun k_63 => ?_)
        refine x_getC1 B (k := 0) hT rfl rfl xc_2 (by decide) k_63 (Or.inr q244) (fun _ h => h) dX1_line_66 (fun k_66 => ?_)
        refine x_iload_n B dX1_line_69 rfl ?_
        refine x_aaldC B (t := 10) hT k_66 rfl rfl rfl rfl ⟨by omega, by omega⟩ dX1_line_70 (fun k_70 => ?_)
        refine x_astw_4 B dX1_line_71 (by first | rfl | exact x_cr _ _) ?_
        refine x_aload B dX1_line_73 rfl ?_
        refine x_getZ B (k := 7) 7 rfl rfl xc_3 (by decide) k_70 (Or.inr q223) (fun _ h => h) dX1_line_75 (fun r_75 => ?_)
        refine x_if_ne B (tgt := 91) dX1_line_78 (by decide) ⟨by omega, by omega⟩ (fun h_78 => ?_) (fun h_78 => ?_)
        · refine x_iconst B dX1_line_91 ?_
          refine x_wide (cells' := 617) (slots' := 628) (by omega) (by omega) ?_
          refine x_iret B (by first | exact hup | exact (fun _ _ h => h)) ?_ dX1_line_92
          refine ⟨hkY, ⟨by rw [h81]; omega, hI1.1⟩, ?_⟩
          rw [if_pos ⟨by omega, by omega⟩]
          have hz : q_li X i w 1 = (0, fun _ => 0) := by unfold q_li q_ln; rw [if_pos (by first | exact Or.inl (by omega) | exact Or.inr (by rw [g1]; by_cases q : X 3 1 = 3; exact q; rw [y31, if_neg q] at h_88; omega))]
          rw [hz]
          exact ⟨rfl, x_up_s _ _ _ _, fun k k1 k2 => by omega⟩
        · refine x_aload_n B dX1_line_81 rfl ?_
          refine x_getC0 B (k := 2) hT rfl rfl xc_0 (by decide) h0 (Or.inl q400) (fun _ h => h) dX1_line_82 (fun k_82 => ?_)
          refine x_goP (x_rV B k_82 (show x_cl[2]? = some _ from rfl) (c_X2_isOver hT (by assumption)) (lw_V q1205 q368 q369 q114 q370) hv_X2_isOver ⟨by decide, by decide⟩ ⟨by show _ ≤ 617; omega, by show _ ≤ 628; omega⟩ rfl rfl (by simp [x_cr, x_c1, x_c2]) dX1_line_85) ?_
          refine x_if_eq B (tgt := 93) dX1_line_88 (by decide) ⟨by split <;> omega, by split <;> omega⟩ (fun h_88 => ?_) (fun h_88 => ?_)
          · have hne : X 3 1 ≠ 3 := by intro q; rw [y31, if_pos q] at h_88; omega
            have h70 : c_M X 3 i 7 = 0 := by omega
            have hre := m_rest hW hi.1 hi.2 h70 (by omega)
            have sb : c_M X 3 i (10 + X 3 1) = X (3 + 1 + 1 + 2 * i + 1) (X 3 1) := by rw [c_M_b hi (by omega)]; congr 1; omega
            rw [g1, sb, ← es] at hre
            have ssE : s_sum (x_up X_54 0 7 0) (3 + 1 + 1 + 2 * i) = s_sum X (3 + 1 + 1 + 2 * i) := by unfold s_sum; rw [es5, eb]
            have hre2 : 0 ≤ s_sum (x_up X_54 0 7 0) (3 + 1 + 1 + 2 * i) - (x_up X_54 0 7 0) (3 + 1 + 1 + 2 * i + 1) ((x_up X_54 0 7 0) 3 1) ∧ s_sum (x_up X_54 0 7 0) (3 + 1 + 1 + 2 * i) - (x_up X_54 0 7 0) (3 + 1 + 1 + 2 * i + 1) ((x_up X_54 0 7 0) 3 1) ≤ 40 * (x_up X_54 0 7 0) 3 1 := by rw [ssE, eb, y31]; exact hre.1
            have hb2 : 0 ≤ (x_up X_54 0 7 0) (3 + 1 + 1 + 2 * i + 1) ((x_up X_54 0 7 0) 3 1) ∧ (x_up X_54 0 7 0) (3 + 1 + 1 + 2 * i + 1) ((x_up X_54 0 7 0) 3 1) ≤ 40 := by rw [eb, y31]; exact hre.2
            have slE : s_least (x_up X_54 0 7 0) (3 + 1 + 1 + 2 * i) ((x_up X_54 0 7 0) 3 3) = m_least (c_M X 3) i := by unfold s_least m_least; rw [es5, y33, s3, s6, s4, g3]
            have hlr := m_least_r hW hi.1 hi.2
            rw [← slE] at hlr
            have hqe : q_li X i w 1 = e_out (c_O X i) (q_lA X i w) 1 3 ((x_up X_54 0 7 0) 3 1) (s_sum (x_up X_54 0 7 0) (3 + 1 + 1 + 2 * i) - (x_up X_54 0 7 0) (3 + 1 + 1 + 2 * i + 1) ((x_up X_54 0 7 0) 3 1)) (if (x_up X_54 0 7 0) (3 + 1 + 1 + 2 * i) 3 = 0 then 3 else (x_up X_54 0 7 0) (3 + 1 + 1 + 2 * i) 1) ((x_up X_54 0 7 0) (3 + 1 + 1 + 2 * i) 2) ((x_up X_54 0 7 0) (3 + 1 + 1 + 2 * i + 1) ((x_up X_54 0 7 0) 3 1)) (s_least (x_up X_54 0 7 0) (3 + 1 + 1 + 2 * i) ((x_up X_54 0 7 0) 3 3)) 0 (fun _ => 0) := by
              rw [slE, ssE, es5, eb, y31]
              unfold q_li q_ln
              rw [if_neg (by omega), g1, g2, s2, s3, s6, sb, es]
              by_cases q : X (3 + 1 + 1 + 2 * i) 3 = 0
              · rw [if_pos q, if_pos q]
              · rw [if_neg q, if_neg q, hj (by omega)]
            have hsr2 : -1000 ≤ s_sum (x_up X_54 0 7 0) (3 + 1 + 1 + 2 * i) ∧ s_sum (x_up X_54 0 7 0) (3 + 1 + 1 + 2 * i) ≤ 1000 := by omega
            refine x_iload_n B dX1_line_93 rfl ?_
            refine x_goP (x_rS B (c_X13_of ⟨by omega, by omega⟩) (lw_S q840 q841 q134 q842) hd_X13_of ⟨by decide, by decide⟩ ⟨by show _ ≤ 617; omega, by show _ ≤ 628; omega⟩ rfl rfl (by simp [x_cr, x_c1, x_c2]) dX1_line_94) ?_
            refine x_astw_5 B dX1_line_97 (by first | rfl | exact x_cr _ _) ?_
            refine x_aload B dX1_line_99 rfl ?_
            refine x_goP (x_rV B k_70 (show x_cl[3]? = some _ from rfl) (c_X3_sum hT (by assumption)) (lw_V q789 q790 q791 q115 q792) hv_X3_sum ⟨by decide, by decide⟩ ⟨by show _ ≤ 617; omega, by show _ ≤ 628; omega⟩ rfl rfl (by simp [x_cr, x_c1, x_c2]) dX1_line_101) ?_
            refine x_aload B dX1_line_104 rfl ?_
            refine x_getC1 B (k := 0) hT rfl rfl xc_3 (by decide) k_70 (Or.inr q196) (fun _ h => h) dX1_line_106 (fun k_106 => ?_)
            refine x_aload_n B dX1_line_109 rfl ?_
            refine x_getC0 B (k := 2) hT rfl rfl xc_0 (by decide) h0 (Or.inl q400) (fun _ h => h) dX1_line_110 (fun k_110 => ?_)
            refine x_getI B (k := 1) 1 rfl rfl xc_2 (by decide) k_110 (Or.inr q248) (fun _ h => h) dX1_line_113 (fun r_113 => ?_)
            refine x_iald B k_106 ⟨by omega, by omega⟩ dX1_line_116 (fun r_116 => ?_)
            refine x_isub B dX1_line_117 ?_
            refine x_istw_6 B dX1_line_118 (by first | rfl | exact x_cr _ _) ?_
            refine x_aload B dX1_line_120 rfl ?_
            refine x_getI B (k := 3) 3 rfl rfl xc_3 (by decide) k_70 (Or.inr q211) (fun _ h => h) dX1_line_122 (fun r_122 => ?_)
            refine x_if_ne B (tgt := 132) dX1_line_125 (by decide) ⟨by omega, by omega⟩ (fun h_125 => ?_) (fun h_125 => ?_)
            · refine x_aload B dX1_line_132 rfl ?_
              refine x_getI B (k := 1) 1 rfl rfl xc_3 (by decide) k_70 (Or.inr q200) (fun _ h => h) dX1_line_134 (fun r_134 => ?_)
              refine x_istw_7 B dX1_line_137 (by first | rfl | exact x_cr _ _) ?_
              refine x_aload B dX1_line_139 rfl ?_
              refine x_getI B (k := 2) 2 rfl rfl xc_3 (by decide) k_70 (Or.inr q206) (fun _ h => h) dX1_line_141 (fun r_141 => ?_)
              refine x_istw_8 B dX1_line_144 (by first | rfl | exact x_cr _ _) ?_
              refine x_aload B dX1_line_146 rfl ?_
              refine x_getC1 B (k := 0) hT rfl rfl xc_3 (by decide) k_70 (Or.inr q196) (fun _ h => h) dX1_line_148 (fun k_148 => ?_)
              refine x_aload_n B dX1_line_151 rfl ?_
              refine x_getC0 B (k := 2) hT rfl rfl xc_0 (by decide) h0 (Or.inl q400) (fun _ h => h) dX1_line_152 (fun k_152 => ?_)
              refine x_getI B (k := 1) 1 rfl rfl xc_2 (by decide) k_152 (Or.inr q248) (fun _ h => h) dX1_line_155 (fun r_155 => ?_)
              refine x_iald B k_148 ⟨by omega, by omega⟩ dX1_line_158 (fun r_158 => ?_)
              refine x_istw_9 B dX1_line_159 (by first | rfl | exact x_cr _ _) ?_
              refine x_aload B dX1_line_161 rfl ?_
              refine x_aload_n B dX1_line_163 rfl ?_
              refine x_getC0 B (k := 2) hT rfl rfl xc_0 (by decide) h0 (Or.inl q400) (fun _ h => h) dX1_line_164 (fun k_164 => ?_)
              refine x_getI B (k := 3) 3 rfl rfl xc_2 (by decide) k_164 (Or.inr q253) (fun _ h => h) dX1_line_167 (fun r_167 => ?_)
              refine x_goP (x_rV B k_70 (show x_cl[3]? = some _ from rfl) (c_X3_least hT (by assumption) ⟨by omega, by omega⟩) (lw_V q777 q778 q779 q115 q780) hv_X3_least ⟨by decide, by decide⟩ ⟨by show _ ≤ 617; omega, by show _ ≤ 628; omega⟩ rfl rfl (by simp [x_cr, x_c1, x_c2]) dX1_line_170) ?_
              refine x_istw_10 B dX1_line_173 (by first | rfl | exact x_cr _ _) ?_
              refine x_aload_n B dX1_line_175 rfl ?_
              refine x_getC0 B (k := 2) hT rfl rfl xc_0 (by decide) h0 (Or.inl q400) (fun _ h => h) dX1_line_176 (fun k_176 => ?_)
              refine x_getI B (k := 1) 1 rfl rfl xc_2 (by decide) k_176 (Or.inr q248) (fun _ h => h) dX1_line_179 (fun r_179 => ?_)
              refine x_istw_11 B dX1_line_182 (by first | rfl | exact x_cr _ _) ?_
              refine x_wide (cells' := 617) (slots' := 628) (by omega) (by omega) ?_
              first
              | rw [if_pos (by omega)] at hqe
              | rw [if_neg (by omega)] at hqe
              refine lp_184 _ 3 _ _ _ _ _ _ 0 (fun _ => 0) _ _ ⟨⟨hup, hT3⟩, hH1, hI1, hkY, h81, ⟨x_up_s _ _ _ _, fun k k1 k2 => by omega⟩, hi, hw, ⟨⟨by omega, by omega, by omega⟩, hre2, ⟨by omega, by omega⟩, fun q => ⟨⟨by omega, by omega⟩, by omega⟩, ⟨by omega, by omega⟩, hb2, ⟨by omega, by omega⟩, by omega, by (rw [if_neg (by omega)]; omega)⟩, hqe⟩ (Nat.lt_succ_self _)
            · refine x_iconst B dX1_line_128 ?_
              refine x_goto B (tgt := 137) dX1_line_129 (by decide) ?_
              refine x_istw_7 B dX1_line_137 (by first | rfl | exact x_cr _ _) ?_
              refine x_aload B dX1_line_139 rfl ?_
              refine x_getI B (k := 2) 2 rfl rfl xc_3 (by decide) k_70 (Or.inr q206) (fun _ h => h) dX1_line_141 (fun r_141 => ?_)
              refine x_istw_8 B dX1_line_144 (by first | rfl | exact x_cr _ _) ?_
              refine x_aload B dX1_line_146 rfl ?_
              refine x_getC1 B (k := 0) hT rfl rfl xc_3 (by decide) k_70 (Or.inr q196) (fun _ h => h) dX1_line_148 (fun k_148 => ?_)
              refine x_aload_n B dX1_line_151 rfl ?_
              refine x_getC0 B (k := 2) hT rfl rfl xc_0 (by decide) h0 (Or.inl q400) (fun _ h => h) dX1_line_152 (fun k_152 => ?_)
              refine x_getI B (k := 1) 1 rfl rfl xc_2 (by decide) k_152 (Or.inr q248) (fun _ h => h) dX1_line_155 (fun r_155 => ?_)
              refine x_iald B k_148 ⟨by omega, by omega⟩ dX1_line_158 (fun r_158 => ?_)
              refine x_istw_9 B dX1_line_159 (by first | rfl | exact x_cr _ _) ?_
              refine x_aload B dX1_line_161 rfl ?_
              refine x_aload_n B dX1_line_163 rfl ?_
              refine x_getC0 B (k := 2) hT rfl rfl xc_0 (by decide) h0 (Or.inl q400) (fun _ h => h) dX1_line_164 (fun k_164 => ?_)
              refine x_getI B (k := 3) 3 rfl rfl xc_2 (by decide) k_164 (Or.inr q253) (fun _ h => h) dX1_line_167 (fun r_167 => ?_)
              refine x_goP (x_rV B k_70 (show x_cl[3]? = some _ from rfl) (c_X3_least hT (by assumption) ⟨by omega, by omega⟩) (lw_V q777 q778 q779 q115 q780) hv_X3_least ⟨by decide, by decide⟩ ⟨by show _ ≤ 617; omega, by show _ ≤ 628; omega⟩ rfl rfl (by simp [x_cr, x_c1, x_c2]) dX1_line_170) ?_
              refine x_istw_10 B dX1_line_173 (by first | rfl | exact x_cr _ _) ?_
              refine x_aload_n B dX1_line_175 rfl ?_
              refine x_getC0 B (k := 2) hT rfl rfl xc_0 (by decide) h0 (Or.inl q400) (fun _ h => h) dX1_line_176 (fun k_176 => ?_)
              refine x_getI B (k := 1) 1 rfl rfl xc_2 (by decide) k_176 (Or.inr q248) (fun _ h => h) dX1_line_179 (fun r_179 => ?_)
              refine x_istw_11 B dX1_line_182 (by first | rfl | exact x_cr _ _) ?_
              refine x_wide (cells' := 617) (slots' := 628) (by omega) (by omega) ?_
              first
              | rw [if_pos (by omega)] at hqe
              | rw [if_neg (by omega)] at hqe
              refine lp_184 _ 3 _ _ _ _ _ _ 0 (fun _ => 0) _ _ ⟨⟨hup, hT3⟩, hH1, hI1, hkY, h81, ⟨x_up_s _ _ _ _, fun k k1 k2 => by omega⟩, hi, hw, ⟨⟨by omega, by omega, by omega⟩, hre2, ⟨by omega, by omega⟩, fun q => ⟨⟨by omega, by omega⟩, by omega⟩, ⟨by omega, by omega⟩, hb2, ⟨by omega, by omega⟩, by omega, by (rw [if_neg (by omega)]; omega)⟩, hqe⟩ (Nat.lt_succ_self _)
          · refine x_iconst B dX1_line_91 ?_
            refine x_wide (cells' := 617) (slots' := 628) (by omega) (by omega) ?_
            refine x_iret B (by first | exact hup | exact (fun _ _ h => h)) ?_ dX1_line_92
            refine ⟨hkY, ⟨by rw [h81]; omega, hI1.1⟩, ?_⟩
            rw [if_pos ⟨by omega, by omega⟩]
            have hz : q_li X i w 1 = (0, fun _ => 0) := by unfold q_li q_ln; rw [if_pos (by first | exact Or.inl (by omega) | exact Or.inr (by rw [g1]; by_cases q : X 3 1 = 3; exact q; rw [y31, if_neg q] at h_88; omega))]
            rw [hz]
            exact ⟨rfl, x_up_s _ _ _ _, fun k k1 k2 => by omega⟩
    · refine x_iconst B dX1_line_18 ?_
      refine x_wide (cells' := 617) (slots' := 628) (by omega) (by omega) ?_
      refine x_iret B (by first | exact hup | exact (fun _ _ h => h)) ?_ dX1_line_19
      exact ⟨k_eq.rf X, hB.b2 (fun _ _ _ => rfl), by rw [if_neg (by omega)]; exact ⟨rfl, rfl, rfl⟩⟩
theorem c_X1_line_0 {l : Launch} {E : x_E} {κ : x_Ka} {X : x_X} {i w : Int} (hC : n_C κ X) (k87 : κ 87 = some (.inr (1, 1))) (hB : f_B X) (hx : xR i) (hy : xR w) : x_Met l yX1_line cX1_line 13 (some .int) 61 617 628 E κ X [x_rf E 0, vi i, vi w, vi 0] κ (fun v_ Y_ => k_eq X Y_ ∧ f_B2 X Y_ ∧ (if x_in i 0 (X 1 2 - 1) = 1 ∧ x_in w 0 1 = 1 then (v_ = some (vi (q_li X i w 0).1) ∧ Y_ 0 7 = (q_li X i w 0).1 ∧ ∀ k, 0 ≤ k → k < (q_li X i w 0).1 → Y_ 32 k = (q_li X i w 0).2 k) else (v_ = some (vi (-1)) ∧ r_eq X Y_))) := by
  refine x_Met.of [(false, x_rf E 0), (false, vi i), (false, vi w), (false, vi 0)] [some (x_rf E 0), some (vi i), some (vi w), some (vi 0), none, none, none, none, none, none, none, none, none] 9 (by decide) rfl rfl ⟨x_cr E (0), rfl, rfl, rfl, trivial⟩ rfl rfl ?_
  intro p e s m args below meth c hargs hin B
  obtain ⟨hI, hP, hO, hW, hJ⟩ := id hC
  obtain ⟨hT, h0, hn, hl, hla⟩ := id hI
  refine x_lows (fun hlow => ?_)
  have hlo := hI.lo k87 hlow
  have hlo0 := hlo.1
  have z1 := x_in_01 i 0 (X 1 2 - 1)
  have z2 := x_in_01 w 0 1
  have lp_184 : ∀ (n : Nat) (kf : Nat) (t sum tr fl best least n0 : Int) (R : Int → Int) (κ2 : x_Ka) (Y : x_X), (((∀ b k, κ b = some k → κ2 b = some k) ∧ x_T κ2) ∧ f_H κ2 Y (c_O X i) (q_lA X i w) ∧ f_I Y (f_w (c_O X i) (q_lA X i w) 12) (f_d (c_O X i) (q_lA X i w)) ∧ k_eq X Y ∧ Y 38 8 = X 38 8 + 121 ∧ (Y 0 7 = n0 ∧ ∀ k, 0 ≤ k → k < n0 → Y 32 k = R k) ∧ (0 ≤ i ∧ i < X 1 2) ∧ (0 ≤ w ∧ w ≤ 1) ∧ ((0 ≤ t ∧ t ≤ 3 ∧ 3 ≤ (kf : Int) + t) ∧ (0 ≤ sum ∧ sum ≤ 40 * t) ∧ (0 ≤ tr ∧ tr ≤ 3) ∧ (tr < 3 ∧ least ≤ 40 → (0 ≤ fl ∧ fl ≤ tr) ∧ 1 ≤ least) ∧ (0 ≤ fl ∧ fl ≤ 6) ∧ (0 ≤ best ∧ best ≤ 40) ∧ (0 ≤ least ∧ least ≤ 41) ∧ (0 ≤ n0 ∧ n0 + (if t = 3 then 3 else 3 - tr) + 3 * (2 - t) ≤ 9)) ∧ q_li X i w 0 = e_out (c_O X i) (q_lA X i w) 0 kf t sum tr fl best least n0 R) → ((4 - t).toNat < n) → x_G p l e (x_rm 61 617 628) s m args below meth c 13 E 617 628 (MQ below (x_Q E κ (fun v_ Y_ => k_eq X Y_ ∧ f_B2 X Y_ ∧ (if x_in i 0 (X 1 2 - 1) = 1 ∧ x_in w 0 1 = 1 then (v_ = some (vi (q_li X i w 0).1) ∧ Y_ 0 7 = (q_li X i w 0).1 ∧ ∀ k, 0 ≤ k → k < (q_li X i w 0).1 → Y_ 32 k = (q_li X i w 0).2 k) else (v_ = some (vi (-1)) ∧ r_eq X Y_)))) args s 617 628 (fun q => E.1 ≤ q)) κ2 184 [some (x_rf E 0), some (vi i), some (vi w), some (vi 0), some (x_rf E (3 + 1 + 1 + 2 * i)), some (x_rf E (-3)), some (vi sum), some (vi tr), some (vi fl), some (vi best), some (vi least), some (vi t), none] [] Y := by
    intro n
    induction n with
    | zero => intro kf t sum tr fl best least n0 R κ2 Y hinv hme; exfalso; omega
    | succ n ih =>
      intro kf t sum tr fl best least n0 R κ2 Y hinv hme
      have ih0 := ih
      obtain ⟨⟨hup, hT2⟩, hH, hIf, hkY, h8, ⟨h7, hR⟩, hi, hw, hrg, he⟩ := hinv
      have h0 := hup _ _ h0
      have hT := hT2
      have k38 := hH.1.k38
      have k32 : κ2 32 = some (.inr (1, 64)) := hT.1 0 0 h0 6 (0, 32, .inr (1, 64)) rfl
      obtain ⟨ht, hs, h3, hfl, hfr, hb, hl, hn0⟩ := hrg
      have lp_190 : ∀ (n : Nat) (q : Nat) (tr fl best least n0 : Int) (R : Int → Int) (Y : x_X), (((∀ b k, κ b = some k → κ2 b = some k) ∧ x_T κ2) ∧ f_H κ2 Y (c_O X i) (q_lA X i w) ∧ f_I Y (f_w (c_O X i) (q_lA X i w) 12) (f_d (c_O X i) (q_lA X i w)) ∧ k_eq X Y ∧ Y 38 8 = X 38 8 + 121 ∧ (Y 0 7 = n0 ∧ ∀ k, 0 ≤ k → k < n0 → Y 32 k = R k) ∧ (0 ≤ i ∧ i < X 1 2) ∧ (0 ≤ w ∧ w ≤ 1) ∧ ((0 ≤ sum ∧ sum ≤ 40 * t) ∧ (0 ≤ tr ∧ tr ≤ 3) ∧ (tr < 3 ∧ least ≤ 40 → (0 ≤ fl ∧ fl ≤ tr) ∧ 1 ≤ least) ∧ (0 ≤ fl ∧ fl ≤ 6) ∧ (0 ≤ best ∧ best ≤ 40) ∧ (0 ≤ least ∧ least ≤ 41) ∧ (t ≤ 2 ∧ 3 ≤ (q : Int) + tr) ∧ (0 ≤ n0 ∧ n0 + (3 - tr) + 3 * (2 - t) ≤ 9)) ∧ q_li X i w 0 = e_re (c_O X i) (q_lA X i w) 0 (kf - 1) t sum (e_in (f_d (c_O X i) (q_lA X i w) t sum) 0 q tr fl best least n0 R)) → ((4 - tr).toNat < n) → x_G p l e (x_rm 61 617 628) s m args below meth c 13 E 617 628 (MQ below (x_Q E κ (fun v_ Y_ => k_eq X Y_ ∧ f_B2 X Y_ ∧ (if x_in i 0 (X 1 2 - 1) = 1 ∧ x_in w 0 1 = 1 then (v_ = some (vi (q_li X i w 0).1) ∧ Y_ 0 7 = (q_li X i w 0).1 ∧ ∀ k, 0 ≤ k → k < (q_li X i w 0).1 → Y_ 32 k = (q_li X i w 0).2 k) else (v_ = some (vi (-1)) ∧ r_eq X Y_)))) args s 617 628 (fun q => E.1 ≤ q)) κ2 190 [some (x_rf E 0), some (vi i), some (vi w), some (vi 0), some (x_rf E (3 + 1 + 1 + 2 * i)), some (x_rf E (-3)), some (vi sum), some (vi tr), some (vi fl), some (vi best), some (vi least), some (vi t), none] [] Y := by
        intro n
        induction n with
        | zero => intro q tr fl best least n0 R Y hinv hme; exfalso; omega
        | succ n ih =>
          intro q tr fl best least n0 R Y hinv hme
          obtain ⟨⟨hup, hT2⟩, hH, hIf, hkY, h8, ⟨h7, hR⟩, hi, hw, hrg, he⟩ := hinv
          have hT := hT2
          have k38 := hH.1.k38
          have k32 : κ2 32 = some (.inr (1, 64)) := hT.1 0 0 h0 6 (0, 32, .inr (1, 64)) rfl
          obtain ⟨hs, h3, hfl, hfr, hb, hl, hq, hn0⟩ := hrg
          refine x_iload B dX1_line_190 rfl ?_
          refine x_iconst B dX1_line_192 ?_
          refine x_icmp_ge B (tgt := 267) dX1_line_193 (by decide) ⟨by omega, by omega⟩ ⟨by omega, by omega⟩ (fun h_193 => ?_) (fun h_193 => ?_)
          · rw [e_in_e (by omega)] at he
            unfold e_re at he
            refine x_iload B dX1_line_267 rfl ?_
            refine x_if_ne B (tgt := 277) dX1_line_269 (by decide) ⟨by omega, by omega⟩ (fun h_269 => ?_) (fun h_269 => ?_)
            · rw [if_neg (show ¬ best = 0 by omega)] at he
              refine x_iload B dX1_line_277 rfl ?_
              refine x_iload B dX1_line_279 rfl ?_
              refine x_iadd B dX1_line_281 ?_
              refine x_istw_6 B dX1_line_282 (by first | rfl | exact x_cr _ _) ?_
              refine x_iconst B dX1_line_284 ?_
              refine x_istw_7 B dX1_line_285 (by first | rfl | exact x_cr _ _) ?_
              refine x_iconst B dX1_line_287 ?_
              refine x_istw_8 B dX1_line_288 (by first | rfl | exact x_cr _ _) ?_
              refine x_iconst B dX1_line_290 ?_
              refine x_istw_9 B dX1_line_291 (by first | rfl | exact x_cr _ _) ?_
              refine x_iconst B dX1_line_293 ?_
              refine x_istw_10 B dX1_line_294 (by first | rfl | exact x_cr _ _) ?_
              refine x_iinc_11 B dX1_line_296 (by first | rfl | exact x_cr _ _) ?_
              refine x_goto B (tgt := 184) dX1_line_299 (by decide) ?_
              refine ih0 (kf - 1) _ _ _ _ _ _ _ _ _ _ ⟨⟨hup, hT2⟩, hH, hIf, hkY, h8, ⟨h7, hR⟩, hi, hw, ⟨⟨by omega, by omega, by omega⟩, ⟨by omega, by omega⟩, ⟨by omega, by omega⟩, fun _ => ⟨⟨by omega, by omega⟩, by omega⟩, ⟨by omega, by omega⟩, ⟨by omega, by omega⟩, ⟨by omega, by omega⟩, by omega, by (split <;> omega)⟩, he⟩ (by omega)
            · rw [if_pos (show best = 0 by omega)] at he
              refine x_aload_n B dX1_line_272 rfl ?_
              refine x_getI B (k := 7) 7 rfl rfl xc_0 (by decide) h0 (Or.inl q408) (fun _ h => h) dX1_line_273 (fun r_273 => ?_)
              refine x_wide (cells' := 617) (slots' := 628) (by omega) (by omega) ?_
              refine x_iret B hup ?_ dX1_line_276
              refine ⟨hkY, ⟨by rw [h8]; omega, hIf.1⟩, ?_⟩
              rw [if_pos ⟨by unfold x_in; rw [if_pos (by omega)], by unfold x_in; rw [if_pos (by omega)]⟩, he, h7]
              exact ⟨rfl, rfl, hR⟩
          · refine x_iload B dX1_line_196 rfl ?_
            refine x_bipush B dX1_line_198 (by decide) ?_
            refine x_icmp_gt B (tgt := 267) dX1_line_200 (by decide) ⟨by omega, by omega⟩ ⟨by omega, by omega⟩ (fun h_200 => ?_) (fun h_200 => ?_)
            · rw [e_in_e (by omega)] at he
              unfold e_re at he
              refine x_iload B dX1_line_267 rfl ?_
              refine x_if_ne B (tgt := 277) dX1_line_269 (by decide) ⟨by omega, by omega⟩ (fun h_269 => ?_) (fun h_269 => ?_)
              · rw [if_neg (show ¬ best = 0 by omega)] at he
                refine x_iload B dX1_line_277 rfl ?_
                refine x_iload B dX1_line_279 rfl ?_
                refine x_iadd B dX1_line_281 ?_
                refine x_istw_6 B dX1_line_282 (by first | rfl | exact x_cr _ _) ?_
                refine x_iconst B dX1_line_284 ?_
                refine x_istw_7 B dX1_line_285 (by first | rfl | exact x_cr _ _) ?_
                refine x_iconst B dX1_line_287 ?_
                refine x_istw_8 B dX1_line_288 (by first | rfl | exact x_cr _ _) ?_
                refine x_iconst B dX1_line_290 ?_
                refine x_istw_9 B dX1_line_291 (by first | rfl | exact x_cr _ _) ?_
                refine x_iconst B dX1_line_293 ?_
                refine x_istw_10 B dX1_line_294 (by first | rfl | exact x_cr _ _) ?_
                refine x_iinc_11 B dX1_line_296 (by first | rfl | exact x_cr _ _) ?_
                refine x_goto B (tgt := 184) dX1_line_299 (by decide) ?_
                refine ih0 (kf - 1) _ _ _ _ _ _ _ _ _ _ ⟨⟨hup, hT2⟩, hH, hIf, hkY, h8, ⟨h7, hR⟩, hi, hw, ⟨⟨by omega, by omega, by omega⟩, ⟨by omega, by omega⟩, ⟨by omega, by omega⟩, fun _ => ⟨⟨by omega, by omega⟩, by omega⟩, ⟨by omega, by omega⟩, ⟨by omega, by omega⟩, ⟨by omega, by omega⟩, by omega, by (split <;> omega)⟩, he⟩ (by omega)
              · rw [if_pos (show best = 0 by omega)] at he
                refine x_aload_n B dX1_line_272 rfl ?_
                refine x_getI B (k := 7) 7 rfl rfl xc_0 (by decide) h0 (Or.inl q408) (fun _ h => h) dX1_line_273 (fun r_273 => ?_)
                refine x_wide (cells' := 617) (slots' := 628) (by omega) (by omega) ?_
                refine x_iret B hup ?_ dX1_line_276
                refine ⟨hkY, ⟨by rw [h8]; omega, hIf.1⟩, ?_⟩
                rw [if_pos ⟨by unfold x_in; rw [if_pos (by omega)], by unfold x_in; rw [if_pos (by omega)]⟩, he, h7]
                exact ⟨rfl, rfl, hR⟩
            · refine x_aload_n B dX1_line_203 rfl ?_
              refine x_getC0 B (k := 14) hT rfl rfl xc_0 (by decide) h0 (Or.inl q415) (fun _ h => h) dX1_line_204 (fun k_204 => ?_)
              refine x_iload B dX1_line_207 rfl ?_
              refine x_iload B dX1_line_209 rfl ?_
              refine x_iload B dX1_line_211 rfl ?_
              refine x_iload B dX1_line_213 rfl ?_
              refine x_iload B dX1_line_215 rfl ?_
              refine x_iload B dX1_line_217 rfl ?_
              refine x_go (x_rV B k_204 (show x_cl[5]? = some _ from rfl) ((f_latC hH hIf ⟨by omega, by omega⟩ hs hb h3 (fun q => hfl (by omega)) hl) ) (lw_V q1206 q1182 q1183 q118 q1184) hv_X6_loadAt ⟨by decide, by decide⟩ ⟨by decide, by decide⟩ rfl rfl (by simp [x_cr, x_c1, x_c2]) dX1_line_219) (fun v_219 X_219 p_219 => ?_)
              obtain ⟨rfl, hg, hI2⟩ := p_219
              have hd : f_lat (c_O X i) (q_lA X i w) t sum tr fl best least = (f_d (c_O X i) (q_lA X i w) t sum tr fl best least) := by unfold f_lat; rw [if_neg (by omega)]
              rw [hd]
              have hfl2 := hfl (by omega)
              have hdr := f_d_r hH (tr := tr) (t := t) (sum := sum) (fl := fl) (best := best) (least := least) ⟨by omega, by omega⟩ hs hb hfr.1 ⟨by omega, by omega⟩
              have e7 : X_219 0 7 = n0 := by rw [hg 0 (by omega)]; exact h7
              have hH2 := hH.fr hg
              refine x_istw_12 B dX1_line_222 (by first | rfl | exact x_cr _ _) ?_
              refine x_aload_n B dX1_line_224 rfl ?_
              refine x_iload B dX1_line_225 rfl ?_
              refine x_i2l B dX1_line_227 ⟨by omega, by omega⟩ ?_
              refine x_goV (x_rV B h0 (show x_cl[0]? = some _ from rfl) (c_X1_tell hT h0 ⟨by omega, by omega⟩ ⟨by omega, by omega⟩) (lw_V q806 q808 qs16 q110 q809) hv_X1_tell ⟨by decide, by decide⟩ ⟨by decide, by decide⟩ rfl rfl (by simp [x_cr, x_c1, x_c2]) dX1_line_228) ?_
              have hH3 := (hH2.up (a := 32) (i := X_219 0 7) (z := (f_d (c_O X i) (q_lA X i w) t sum tr fl best least)) k32 (by unfold a_kd; simp) (by omega)).up (a := 0) (i := 7) (z := X_219 0 7 + 1) h0 (by unfold a_kd; simp) (by omega)
              have hI3 := hI2.cg (Y := (x_up (x_up X_219 32 (X_219 0 7) (f_d (c_O X i) (q_lA X i w) t sum tr fl best least)) 0 7 (X_219 0 7 + 1))) (fun a a1 a2 => by rw [x_up_o _ (by omega), x_up_o _ (by omega)])
              have hk3 : k_eq X (x_up (x_up X_219 32 (X_219 0 7) (f_d (c_O X i) (q_lA X i w) t sum tr fl best least)) 0 7 (X_219 0 7 + 1)) := ((hkY.trans (g38.k (fun a ha => hg a (by omega)))).up (Or.inr (Or.inl rfl)) hlo0).up7 (Or.inl rfl)
              refine x_iinc_7 B dX1_line_231 (by first | rfl | exact x_cr _ _) ?_
              refine x_iload B dX1_line_234 rfl ?_
              refine x_aload B dX1_line_236 rfl ?_
              refine x_goP (x_rU B (n := 0) (x_rcF B) (c_X13_failed (Or.inr rfl)) (lw_U q1207 q877 q879 q876 q134 q880) rfl (by decide +kernel) ⟨by decide, by decide⟩ ⟨by decide, by decide⟩ rfl rfl (by simp [x_cr, x_c1, x_c2]) dX1_line_238) ?_
              refine x_iadd B dX1_line_241 ?_
              refine x_istw_8 B dX1_line_242 (by first | rfl | exact x_cr _ _) ?_
              refine x_aload B dX1_line_244 rfl ?_
              refine x_iload B dX1_line_246 rfl ?_
              refine x_iload B dX1_line_248 rfl ?_
              refine x_goP (x_rAN B (n := 2) (x_rcF B) (c_X19_best ) q1208 q859 q863 q864 q865 q858 (by decide +kernel) ⟨by decide, by decide⟩ ⟨by decide, by decide⟩ rfl rfl (by simp [x_cr, x_c1, x_c2]) dX1_line_250) ?_
              refine x_istw_9 B dX1_line_253 (by first | rfl | exact x_cr _ _) ?_
              refine x_aload B dX1_line_255 rfl ?_
              refine x_iload B dX1_line_257 rfl ?_
              refine x_goP (x_rAN B (n := 1) (x_rcF B) (c_X19_least ) q1209 q868 q872 q873 q874 q867 (by decide +kernel) ⟨by decide, by decide⟩ ⟨by decide, by decide⟩ rfl rfl (by simp [x_cr, x_c1, x_c2]) dX1_line_259) ?_
              refine x_istw_10 B dX1_line_262 (by first | rfl | exact x_cr _ _) ?_
              refine x_goto B (tgt := 190) dX1_line_264 (by decide) ?_
              refine x_fg_12 ?_
              obtain ⟨q, rfl⟩ : ∃ g, q = g + 1 := ⟨q - 1, by omega⟩
              unfold e_in at he
              rw [if_pos ⟨by omega, by omega⟩] at he
              rw [Int.add_zero] at he
              refine ih q _ _ _ _ (n0 + 1) (fun j => if j = n0 then (f_d (c_O X i) (q_lA X i w) t sum tr fl best least) else R j) _ ⟨⟨hup, hT2⟩, hH3, hI3, hk3, ?_, ⟨?_, fun k k1 k2 => ?_⟩, hi, hw, ⟨hs, ⟨by omega, by omega⟩, fun _ => ⟨⟨by omega, by omega⟩, by omega⟩, ⟨by omega, by omega⟩, ⟨by omega, by omega⟩, ⟨by omega, by omega⟩, ⟨by omega, by omega⟩, by omega, by omega⟩, he⟩ (by omega)
              · rw [x_up_o _ (by omega), x_up_o _ (by omega), hg.e38]; exact h8
              · rw [x_up_s, e7]
              · rw [x_up_o _ (by omega), e7]
                by_cases e : k = n0
                · subst e; rw [x_up_s, if_pos rfl]
                · rw [x_up_n _ (Or.inr e), if_neg e, hg 32 (by omega)]; exact hR k k1 (by omega)
      refine x_iload B dX1_line_184 rfl ?_
      refine x_iconst B dX1_line_186 ?_
      refine x_icmp_ge B (tgt := 302) dX1_line_187 (by decide) ⟨by omega, by omega⟩ ⟨by omega, by omega⟩ (fun h_187 => ?_) (fun h_187 => ?_)
      · rw [e_out_e (by omega)] at he
        refine x_aload_n B dX1_line_302 rfl ?_
        refine x_getI B (k := 7) 7 rfl rfl xc_0 (by decide) h0 (Or.inl q408) (fun _ h => h) dX1_line_303 (fun r_303 => ?_)
        refine x_wide (cells' := 617) (slots' := 628) (by omega) (by omega) ?_
        refine x_iret B hup ?_ dX1_line_306
        refine ⟨hkY, ⟨by rw [h8]; omega, hIf.1⟩, ?_⟩
        rw [if_pos ⟨by unfold x_in; rw [if_pos (by omega)], by unfold x_in; rw [if_pos (by omega)]⟩, he, h7]
        exact ⟨rfl, rfl, hR⟩
      · refine lp_190 _ 3 _ _ _ _ _ _ _ ⟨⟨hup, hT2⟩, hH, hIf, hkY, h8, ⟨h7, hR⟩, hi, hw, ⟨hs, h3, hfl, hfr, hb, hl, ⟨by omega, by omega⟩, by omega, by (rw [if_neg (by omega)] at hn0; omega)⟩, ?_⟩ (Nat.lt_succ_self _)
        obtain ⟨kf, rfl⟩ : ∃ g, kf = g + 1 := ⟨kf - 1, by omega⟩
        rw [e_out_s h_187] at he
        exact he
  refine x_aload_n B dX1_line_0 rfl ?_
  refine x_iload_n B dX1_line_1 rfl ?_
  refine x_goP (x_rV B h0 (show x_cl[0]? = some _ from rfl) (c_X1_isLifter hI ⟨by omega, by omega⟩) (lw_V q735 q737 qs13 q110 q738) hv_X1_isLifter ⟨by decide, by decide⟩ ⟨by show _ ≤ 617; omega, by show _ ≤ 628; omega⟩ rfl rfl (by simp [x_cr, x_c1, x_c2]) dX1_line_2) ?_
  refine x_if_eq B (tgt := 18) dX1_line_5 (by decide) ⟨by omega, by omega⟩ (fun h_5 => ?_) (fun h_5 => ?_)
  · refine x_iconst B dX1_line_18 ?_
    refine x_wide (cells' := 617) (slots' := 628) (by omega) (by omega) ?_
    refine x_iret B (by first | exact hup | exact (fun _ _ h => h)) ?_ dX1_line_19
    exact ⟨k_eq.rf X, hB.b2 (fun _ _ _ => rfl), by rw [if_neg (by omega)]; exact ⟨rfl, rfl, rfl⟩⟩
  · refine x_iload_n B dX1_line_8 rfl ?_
    refine x_i2l B dX1_line_9 ⟨by omega, by omega⟩ ?_
    refine x_lconst B 0 dX1_line_10 (by decide) ?_
    refine x_lconst B 1 dX1_line_11 (by decide) ?_
    refine x_goP (x_rS B (c_X1_in ⟨by omega, by omega⟩ ⟨by omega, by omega⟩ ⟨by omega, by omega⟩) (lw_S q464 q465 q110 q466) hd_X1_in ⟨by decide, by decide⟩ ⟨by show _ ≤ 617; omega, by show _ ≤ 628; omega⟩ rfl rfl (by simp [x_cr, x_c1, x_c2]) dX1_line_12) ?_
    refine x_if_ne B (tgt := 20) dX1_line_15 (by decide) ⟨by omega, by omega⟩ (fun h_15 => ?_) (fun h_15 => ?_)
    · have hi : 0 ≤ i ∧ i < X 1 2 := by unfold x_in at h_5; split at h_5 <;> omega
      have hw : 0 ≤ w ∧ w ≤ 1 := by unfold x_in at h_15; split at h_15 <;> omega
      have g1 : c_M X 3 (-1) 1 = X 3 1 := c_M_g (by omega)
      have g2 : c_M X 3 (-1) 2 = X 3 2 := c_M_g (by omega)
      have g3 : c_M X 3 (-1) 3 = X 3 3 := c_M_g (by omega)
      have s2 : c_M X 3 i 2 = X (3 + 1 + 1 + 2 * i) 2 := c_M_s hi (by omega)
      have s3 : c_M X 3 i 3 = X (3 + 1 + 1 + 2 * i) 3 := c_M_s hi (by omega)
      have s4 : c_M X 3 i 4 = X (3 + 1 + 1 + 2 * i) 4 := c_M_s hi (by omega)
      have s6 : c_M X 3 i 6 = X (3 + 1 + 1 + 2 * i) 6 := c_M_s hi (by omega)
      have s7 : c_M X 3 i 7 = X (3 + 1 + 1 + 2 * i) 7 := c_M_s hi (by omega)
      have es := c_sum (X := X) (mo := 3) hi
      have hsr := m_sum_r hW hi.1 hi.2
      obtain ⟨⟨hW1, hWr, hWb⟩, hW2, hW3⟩ := id hW
      have w2 := hW2 i hi.1 hi.2
      have w3 := hW3 i hi.1 hi.2
      have hj := hJ i hi.1 hi.2
      refine x_aload_n B dX1_line_20 rfl ?_
      refine x_getC0 B (k := 14) hT rfl rfl xc_0 (by decide) h0 (Or.inl q415) (fun _ h => h) dX1_line_21 (fun k_21 => ?_)
      refine x_aload_n B dX1_line_24 rfl ?_
      refine x_getC0 B (k := 0) hT rfl rfl xc_0 (by decide) h0 (Or.inl q394) (fun _ h => h) dX1_line_25 (fun k_25 => ?_)
      refine x_iload_n B dX1_line_28 rfl ?_
      refine x_goP (x_rV B k_25 (show x_cl[1]? = some _ from rfl) (c_J2_get hT (by assumption) (by omega) ⟨by omega, by omega⟩) (lw_V q745 q372 q373 q113 q374) hv_J2_get ⟨by decide, by decide⟩ ⟨by show _ ≤ 617; omega, by show _ ≤ 628; omega⟩ rfl rfl (by simp [x_cr, x_c1, x_c2]) dX1_line_29) ?_
      refine x_cast B (hl _ (by omega) (by omega)) (show x_cl[8]? = some _ from rfl) q746 dX1_line_32 ?_
      refine x_iload_n B dX1_line_35 rfl ?_
      refine x_if_ne B (tgt := 49) dX1_line_36 (by decide) ⟨by omega, by omega⟩ (fun h_36 => ?_) (fun h_36 => ?_)
      · refine x_aload_n B dX1_line_49 rfl ?_
        refine x_iload_n B dX1_line_50 rfl ?_
        refine x_goK (x_rVK B h0 (show x_cl[0]? = some _ from rfl) (c_X1_win hC k87 hi) (lw_V q1123 q1125 qs25 q110 q1126) hv_X1_win ⟨by decide, by decide⟩ ⟨by decide, by decide⟩ rfl rfl (by simp [x_cr, x_c1, x_c2]) dX1_line_51) (fun v_51 κ_51 X_51 p_51 => ?_)
        obtain ⟨ma, rfl, hA4, hup, hT3, hke, hre0, hfe⟩ := p_51
        have hA3 : x_Aim κ_51 X_51 ma (q_lA X i w) := by unfold q_lA; rw [if_neg (by omega)]; exact hA4
        have hve := hke.v hI hlo
        have hC1 := (hve.C hC).up hup hT3
        have h0 := hup _ _ h0
        have k_21 := hup _ _ k_21
        have e1 := congrFun (hve.1 1 (by omega) (by omega)) 2
        have hT := hT3
        refine x_go (x_rV B k_21 (show x_cl[5]? = some _ from rfl) (c_X6_looks hT3 k_21 (hB.cg hfe).1) (lw_V q1166 q1167 q1168 q118 q1169) hv_X6_looks ⟨by decide, by decide⟩ ⟨by show _ ≤ 617; omega, by show _ ≤ 628; omega⟩ rfl rfl (by simp [x_cr, x_c1, x_c2]) dX1_line_54) (fun v_54 X_54 p_54 => ?_)
        obtain ⟨rfl, f1, f2, f3, f4, f5⟩ := p_54
        obtain ⟨hH, hIf⟩ := f_lk hC1 (by rw [e1]; exact hi) hA3 (hB.cg hfe) f1 (by rw [f2]; exact (congrFun (hve.1 2 (by omega) (by omega)) i).symm) f3 f4 f5 (f_w (c_O X i) (q_lA X i w) 12) (f_d (c_O X i) (q_lA X i w))
        rw [hve.O] at hH
        have hk2 : k_eq X X_54 := hke.trans (g38.k (fun a ha => f1 a (by omega) (by omega)))
        refine x_aload_n B dX1_line_57 rfl ?_
        refine x_iconst B dX1_line_58 ?_
        refine x_putI B (k := 7) 7 rfl rfl rfl ⟨by omega, by omega⟩ xc_0 (by decide) rfl nn_0_7 (fun _ => rfl) h0 (Or.inl q408) (fun _ h => h) dX1_line_59 ?_
        have hkY : k_eq X (x_up X_54 0 7 0) := hk2.up7 (Or.inl rfl)
        have hH1 := hH.up (a := 0) (i := 7) (z := 0) h0 (by unfold a_kd; simp) (by omega)
        have hI1 := hIf.cg (Y := (x_up X_54 0 7 0)) (fun a a1 a2 => x_up_o _ (by omega))
        have h81 : (x_up X_54 0 7 0) 38 8 = X 38 8 + 121 := by rw [x_up_o _ (by omega), f4, hfe 38 (by omega) (by omega)]
        have hv2 := hkY.v hI hlo
        have es5 : (x_up X_54 0 7 0) (3 + 1 + 1 + 2 * i) = X (3 + 1 + 1 + 2 * i) := hv2.1 _ (by omega) (by omega)
        have eb : (x_up X_54 0 7 0) (3 + 1 + 1 + 2 * i + 1) = X (3 + 1 + 1 + 2 * i + 1) := hv2.1 _ (by omega) (by omega)
        have y31 : (x_up X_54 0 7 0) 3 1 = X 3 1 := by rw [hv2.1 3 (by omega) (by omega)]
        have y33 : (x_up X_54 0 7 0) 3 3 = X 3 3 := by rw [hv2.1 3 (by omega) (by omega)]
        have y1 : (x_up X_54 0 7 0) (3 + 1 + 1 + 2 * i) 1 = X (3 + 1 + 1 + 2 * i) 1 := by rw [es5]
        have y2 : (x_up X_54 0 7 0) (3 + 1 + 1 + 2 * i) 2 = X (3 + 1 + 1 + 2 * i) 2 := by rw [es5]
        have y3 : (x_up X_54 0 7 0) (3 + 1 + 1 + 2 * i) 3 = X (3 + 1 + 1 + 2 * i) 3 := by rw [es5]
        have y4 : (x_up X_54 0 7 0) (3 + 1 + 1 + 2 * i) 4 = X (3 + 1 + 1 + 2 * i) 4 := by rw [es5]
        have y6 : (x_up X_54 0 7 0) (3 + 1 + 1 + 2 * i) 6 = X (3 + 1 + 1 + 2 * i) 6 := by rw [es5]
        have y7 : (x_up X_54 0 7 0) (3 + 1 + 1 + 2 * i) 7 = X (3 + 1 + 1 + 2 * i) 7 := by rw [es5]
        refine x_aload_n B dX1_line_62 rfl ?_
        refine x_getC0 B (k := 2) hT rfl rfl xc_0 (by decide) h0 (Or.inl q400) (fun _ h => h) dX1_line_63 (fun k_63 => ?_)
        refine x_getC1 B (k := 0) hT rfl rfl xc_2 (by decide) k_63 (Or.inr q244) (fun _ h => h) dX1_line_66 (fun k_66 => ?_)
        refine x_iload_n B dX1_line_69 rfl ?_
        refine x_aaldC B (t := 10) hT k_66 rfl rfl rfl rfl ⟨by omega, by omega⟩ dX1_line_70 (fun k_70 => ?_)
        refine x_astw_4 B dX1_line_71 (by first | rfl | exact x_cr _ _) ?_
        refine x_aload B dX1_line_73 rfl ?_
        refine x_getZ B (k := 7) 7 rfl rfl xc_3 (by decide) k_70 (Or.inr q223) (fun _ h => h) dX1_line_75 (fun r_75 => ?_)
        refine x_if_ne B (tgt := 91) dX1_line_78 (by decide) ⟨by omega, by omega⟩ (fun h_78 => ?_) (fun h_78 => ?_)
        · refine x_iconst B dX1_line_91 ?_
          refine x_wide (cells' := 617) (slots' := 628) (by omega) (by omega) ?_
          refine x_iret B (by first | exact hup | exact (fun _ _ h => h)) ?_ dX1_line_92
          refine ⟨hkY, ⟨by rw [h81]; omega, hI1.1⟩, ?_⟩
          rw [if_pos ⟨by omega, by omega⟩]
          have hz : q_li X i w 0 = (0, fun _ => 0) := by unfold q_li q_ln; rw [if_pos (by first | exact Or.inl (by omega) | exact Or.inr (by rw [g1]; by_cases q : X 3 1 = 3; exact q; rw [y31, if_neg q] at h_88; omega))]
          rw [hz]
          exact ⟨rfl, x_up_s _ _ _ _, fun k k1 k2 => by omega⟩
        · refine x_aload_n B dX1_line_81 rfl ?_
          refine x_getC0 B (k := 2) hT rfl rfl xc_0 (by decide) h0 (Or.inl q400) (fun _ h => h) dX1_line_82 (fun k_82 => ?_)
          refine x_goP (x_rV B k_82 (show x_cl[2]? = some _ from rfl) (c_X2_isOver hT (by assumption)) (lw_V q1205 q368 q369 q114 q370) hv_X2_isOver ⟨by decide, by decide⟩ ⟨by show _ ≤ 617; omega, by show _ ≤ 628; omega⟩ rfl rfl (by simp [x_cr, x_c1, x_c2]) dX1_line_85) ?_
          refine x_if_eq B (tgt := 93) dX1_line_88 (by decide) ⟨by split <;> omega, by split <;> omega⟩ (fun h_88 => ?_) (fun h_88 => ?_)
          · have hne : X 3 1 ≠ 3 := by intro q; rw [y31, if_pos q] at h_88; omega
            have h70 : c_M X 3 i 7 = 0 := by omega
            have hre := m_rest hW hi.1 hi.2 h70 (by omega)
            have sb : c_M X 3 i (10 + X 3 1) = X (3 + 1 + 1 + 2 * i + 1) (X 3 1) := by rw [c_M_b hi (by omega)]; congr 1; omega
            rw [g1, sb, ← es] at hre
            have ssE : s_sum (x_up X_54 0 7 0) (3 + 1 + 1 + 2 * i) = s_sum X (3 + 1 + 1 + 2 * i) := by unfold s_sum; rw [es5, eb]
            have hre2 : 0 ≤ s_sum (x_up X_54 0 7 0) (3 + 1 + 1 + 2 * i) - (x_up X_54 0 7 0) (3 + 1 + 1 + 2 * i + 1) ((x_up X_54 0 7 0) 3 1) ∧ s_sum (x_up X_54 0 7 0) (3 + 1 + 1 + 2 * i) - (x_up X_54 0 7 0) (3 + 1 + 1 + 2 * i + 1) ((x_up X_54 0 7 0) 3 1) ≤ 40 * (x_up X_54 0 7 0) 3 1 := by rw [ssE, eb, y31]; exact hre.1
            have hb2 : 0 ≤ (x_up X_54 0 7 0) (3 + 1 + 1 + 2 * i + 1) ((x_up X_54 0 7 0) 3 1) ∧ (x_up X_54 0 7 0) (3 + 1 + 1 + 2 * i + 1) ((x_up X_54 0 7 0) 3 1) ≤ 40 := by rw [eb, y31]; exact hre.2
            have slE : s_least (x_up X_54 0 7 0) (3 + 1 + 1 + 2 * i) ((x_up X_54 0 7 0) 3 3) = m_least (c_M X 3) i := by unfold s_least m_least; rw [es5, y33, s3, s6, s4, g3]
            have hlr := m_least_r hW hi.1 hi.2
            rw [← slE] at hlr
            have hqe : q_li X i w 0 = e_out (c_O X i) (q_lA X i w) 0 3 ((x_up X_54 0 7 0) 3 1) (s_sum (x_up X_54 0 7 0) (3 + 1 + 1 + 2 * i) - (x_up X_54 0 7 0) (3 + 1 + 1 + 2 * i + 1) ((x_up X_54 0 7 0) 3 1)) (if (x_up X_54 0 7 0) (3 + 1 + 1 + 2 * i) 3 = 0 then 3 else (x_up X_54 0 7 0) (3 + 1 + 1 + 2 * i) 1) ((x_up X_54 0 7 0) (3 + 1 + 1 + 2 * i) 2) ((x_up X_54 0 7 0) (3 + 1 + 1 + 2 * i + 1) ((x_up X_54 0 7 0) 3 1)) (s_least (x_up X_54 0 7 0) (3 + 1 + 1 + 2 * i) ((x_up X_54 0 7 0) 3 3)) 0 (fun _ => 0) := by
              rw [slE, ssE, es5, eb, y31]
              unfold q_li q_ln
              rw [if_neg (by omega), g1, g2, s2, s3, s6, sb, es]
              by_cases q : X (3 + 1 + 1 + 2 * i) 3 = 0
              · rw [if_pos q, if_pos q]
              · rw [if_neg q, if_neg q, hj (by omega)]
            have hsr2 : -1000 ≤ s_sum (x_up X_54 0 7 0) (3 + 1 + 1 + 2 * i) ∧ s_sum (x_up X_54 0 7 0) (3 + 1 + 1 + 2 * i) ≤ 1000 := by omega
            refine x_iload_n B dX1_line_93 rfl ?_
            refine x_goP (x_rS B (c_X13_of ⟨by omega, by omega⟩) (lw_S q840 q841 q134 q842) hd_X13_of ⟨by decide, by decide⟩ ⟨by show _ ≤ 617; omega, by show _ ≤ 628; omega⟩ rfl rfl (by simp [x_cr, x_c1, x_c2]) dX1_line_94) ?_
            refine x_astw_5 B dX1_line_97 (by first | rfl | exact x_cr _ _) ?_
            refine x_aload B dX1_line_99 rfl ?_
            refine x_goP (x_rV B k_70 (show x_cl[3]? = some _ from rfl) (c_X3_sum hT (by assumption)) (lw_V q789 q790 q791 q115 q792) hv_X3_sum ⟨by decide, by decide⟩ ⟨by show _ ≤ 617; omega, by show _ ≤ 628; omega⟩ rfl rfl (by simp [x_cr, x_c1, x_c2]) dX1_line_101) ?_
            refine x_aload B dX1_line_104 rfl ?_
            refine x_getC1 B (k := 0) hT rfl rfl xc_3 (by decide) k_70 (Or.inr q196) (fun _ h => h) dX1_line_106 (fun k_106 => ?_)
            refine x_aload_n B dX1_line_109 rfl ?_
            refine x_getC0 B (k := 2) hT rfl rfl xc_0 (by decide) h0 (Or.inl q400) (fun _ h => h) dX1_line_110 (fun k_110 => ?_)
            refine x_getI B (k := 1) 1 rfl rfl xc_2 (by decide) k_110 (Or.inr q248) (fun _ h => h) dX1_line_113 (fun r_113 => ?_)
            refine x_iald B k_106 ⟨by omega, by omega⟩ dX1_line_116 (fun r_116 => ?_)
            refine x_isub B dX1_line_117 ?_
            refine x_istw_6 B dX1_line_118 (by first | rfl | exact x_cr _ _) ?_
            refine x_aload B dX1_line_120 rfl ?_
            refine x_getI B (k := 3) 3 rfl rfl xc_3 (by decide) k_70 (Or.inr q211) (fun _ h => h) dX1_line_122 (fun r_122 => ?_)
            refine x_if_ne B (tgt := 132) dX1_line_125 (by decide) ⟨by omega, by omega⟩ (fun h_125 => ?_) (fun h_125 => ?_)
            · refine x_aload B dX1_line_132 rfl ?_
              refine x_getI B (k := 1) 1 rfl rfl xc_3 (by decide) k_70 (Or.inr q200) (fun _ h => h) dX1_line_134 (fun r_134 => ?_)
              refine x_istw_7 B dX1_line_137 (by first | rfl | exact x_cr _ _) ?_
              refine x_aload B dX1_line_139 rfl ?_
              refine x_getI B (k := 2) 2 rfl rfl xc_3 (by decide) k_70 (Or.inr q206) (fun _ h => h) dX1_line_141 (fun r_141 => ?_)
              refine x_istw_8 B dX1_line_144 (by first | rfl | exact x_cr _ _) ?_
              refine x_aload B dX1_line_146 rfl ?_
              refine x_getC1 B (k := 0) hT rfl rfl xc_3 (by decide) k_70 (Or.inr q196) (fun _ h => h) dX1_line_148 (fun k_148 => ?_)
              refine x_aload_n B dX1_line_151 rfl ?_
              refine x_getC0 B (k := 2) hT rfl rfl xc_0 (by decide) h0 (Or.inl q400) (fun _ h => h) dX1_line_152 (fun k_152 => ?_)
              refine x_getI B (k := 1) 1 rfl rfl xc_2 (by decide) k_152 (Or.inr q248) (fun _ h => h) dX1_line_155 (fun r_155 => ?_)
              refine x_iald B k_148 ⟨by omega, by omega⟩ dX1_line_158 (fun r_158 => ?_)
              refine x_istw_9 B dX1_line_159 (by first | rfl | exact x_cr _ _) ?_
              refine x_aload B dX1_line_161 rfl ?_
              refine x_aload_n B dX1_line_163 rfl ?_
              refine x_getC0 B (k := 2) hT rfl rfl xc_0 (by decide) h0 (Or.inl q400) (fun _ h => h) dX1_line_164 (fun k_164 => ?_)
              refine x_getI B (k := 3) 3 rfl rfl xc_2 (by decide) k_164 (Or.inr q253) (fun _ h => h) dX1_line_167 (fun r_167 => ?_)
              refine x_goP (x_rV B k_70 (show x_cl[3]? = some _ from rfl) (c_X3_least hT (by assumption) ⟨by omega, by omega⟩) (lw_V q777 q778 q779 q115 q780) hv_X3_least ⟨by decide, by decide⟩ ⟨by show _ ≤ 617; omega, by show _ ≤ 628; omega⟩ rfl rfl (by simp [x_cr, x_c1, x_c2]) dX1_line_170) ?_
              refine x_istw_10 B dX1_line_173 (by first | rfl | exact x_cr _ _) ?_
              refine x_aload_n B dX1_line_175 rfl ?_
              refine x_getC0 B (k := 2) hT rfl rfl xc_0 (by decide) h0 (Or.inl q400) (fun _ h => h) dX1_line_176 (fun k_176 => ?_)
              refine x_getI B (k := 1) 1 rfl rfl xc_2 (by decide) k_176 (Or.inr q248) (fun _ h => h) dX1_line_179 (fun r_179 => ?_)
              refine x_istw_11 B dX1_line_182 (by first | rfl | exact x_cr _ _) ?_
              refine x_wide (cells' := 617) (slots' := 628) (by omega) (by omega) ?_
              first
              | rw [if_pos (by omega)] at hqe
              | rw [if_neg (by omega)] at hqe
              refine lp_184 _ 3 _ _ _ _ _ _ 0 (fun _ => 0) _ _ ⟨⟨hup, hT3⟩, hH1, hI1, hkY, h81, ⟨x_up_s _ _ _ _, fun k k1 k2 => by omega⟩, hi, hw, ⟨⟨by omega, by omega, by omega⟩, hre2, ⟨by omega, by omega⟩, fun q => ⟨⟨by omega, by omega⟩, by omega⟩, ⟨by omega, by omega⟩, hb2, ⟨by omega, by omega⟩, by omega, by (rw [if_neg (by omega)]; omega)⟩, hqe⟩ (Nat.lt_succ_self _)
            · refine x_iconst B dX1_line_128 ?_
              refine x_goto B (tgt := 137) dX1_line_129 (by decide) ?_
              refine x_istw_7 B dX1_line_137 (by first | rfl | exact x_cr _ _) ?_
              refine x_aload B dX1_line_139 rfl ?_
              refine x_getI B (k := 2) 2 rfl rfl xc_3 (by decide) k_70 (Or.inr q206) (fun _ h => h) dX1_line_141 (fun r_141 => ?_)
              refine x_istw_8 B dX1_line_144 (by first | rfl | exact x_cr _ _) ?_
              refine x_aload B dX1_line_146 rfl ?_
              refine x_getC1 B (k := 0) hT rfl rfl xc_3 (by decide) k_70 (Or.inr q196) (fun _ h => h) dX1_line_148 (fun k_148 => ?_)
              refine x_aload_n B dX1_line_151 rfl ?_
              refine x_getC0 B (k := 2) hT rfl rfl xc_0 (by decide) h0 (Or.inl q400) (fun _ h => h) dX1_line_152 (fun k_152 => ?_)
              refine x_getI B (k := 1) 1 rfl rfl xc_2 (by decide) k_152 (Or.inr q248) (fun _ h => h) dX1_line_155 (fun r_155 => ?_)
              refine x_iald B k_148 ⟨by omega, by omega⟩ dX1_line_158 (fun r_158 => ?_)
              refine x_istw_9 B dX1_line_159 (by first | rfl | exact x_cr _ _) ?_
              refine x_aload B dX1_line_161 rfl ?_
              refine x_aload_n B dX1_line_163 rfl ?_
              refine x_getC0 B (k := 2) hT rfl rfl xc_0 (by decide) h0 (Or.inl q400) (fun _ h => h) dX1_line_164 (fun k_164 => ?_)
              refine x_getI B (k := 3) 3 rfl rfl xc_2 (by decide) k_164 (Or.inr q253) (fun _ h => h) dX1_line_167 (fun r_167 => ?_)
              refine x_goP (x_rV B k_70 (show x_cl[3]? = some _ from rfl) (c_X3_least hT (by assumption) ⟨by omega, by omega⟩) (lw_V q777 q778 q779 q115 q780) hv_X3_least ⟨by decide, by decide⟩ ⟨by show _ ≤ 617; omega, by show _ ≤ 628; omega⟩ rfl rfl (by simp [x_cr, x_c1, x_c2]) dX1_line_170) ?_
              refine x_istw_10 B dX1_line_173 (by first | rfl | exact x_cr _ _) ?_
              refine x_aload_n B dX1_line_175 rfl ?_
              refine x_getC0 B (k := 2) hT rfl rfl xc_0 (by decide) h0 (Or.inl q400) (fun _ h => h) dX1_line_176 (fun k_176 => ?_)
              refine x_getI B (k := 1) 1 rfl rfl xc_2 (by decide) k_176 (Or.inr q248) (fun _ h => h) dX1_line_179 (fun r_179 => ?_)
              refine x_istw_11 B dX1_line_182 (by first | rfl | exact x_cr _ _) ?_
              refine x_wide (cells' := 617) (slots' := 628) (by omega) (by omega) ?_
              first
              | rw [if_pos (by omega)] at hqe
              | rw [if_neg (by omega)] at hqe
              refine lp_184 _ 3 _ _ _ _ _ _ 0 (fun _ => 0) _ _ ⟨⟨hup, hT3⟩, hH1, hI1, hkY, h81, ⟨x_up_s _ _ _ _, fun k k1 k2 => by omega⟩, hi, hw, ⟨⟨by omega, by omega, by omega⟩, hre2, ⟨by omega, by omega⟩, fun q => ⟨⟨by omega, by omega⟩, by omega⟩, ⟨by omega, by omega⟩, hb2, ⟨by omega, by omega⟩, by omega, by (rw [if_neg (by omega)]; omega)⟩, hqe⟩ (Nat.lt_succ_self _)
          · refine x_iconst B dX1_line_91 ?_
            refine x_wide (cells' := 617) (slots' := 628) (by omega) (by omega) ?_
            refine x_iret B (by first | exact hup | exact (fun _ _ h => h)) ?_ dX1_line_92
            refine ⟨hkY, ⟨by rw [h81]; omega, hI1.1⟩, ?_⟩
            rw [if_pos ⟨by omega, by omega⟩]
            have hz : q_li X i w 0 = (0, fun _ => 0) := by unfold q_li q_ln; rw [if_pos (by first | exact Or.inl (by omega) | exact Or.inr (by rw [g1]; by_cases q : X 3 1 = 3; exact q; rw [y31, if_neg q] at h_88; omega))]
            rw [hz]
            exact ⟨rfl, x_up_s _ _ _ _, fun k k1 k2 => by omega⟩
      · refine x_new B xc_12 q947 q948 q136 (xd_12 E) xe_12 (by decide) (by decide) dX1_line_39 (fun z_39 n_39 => ?_)
        have hr : x_raw (.inl (12, 0)) := Or.inl ⟨_, rfl⟩
        have hup : ∀ b k, κ b = some k → x_ku κ (X (-1) 0) (.inl (12, 0)) b = some k := x_ku_le n_39
        have hT3 := hT.ku n_39 hr
        have hke := (k_eq.rf X).nw (x_df 12) hlo0
        have hfe : f_eq X (x_nw X (x_df 12)) := f_eq.nw (fun _ _ _ => rfl) _ hlo0
        have hA3 : x_Aim (x_ku κ (X (-1) 0) (.inl (12, 0))) (x_nw X (x_df 12)) (X (-1) 0) (q_lA X i w) := by unfold q_lA; rw [if_pos (by omega)]; exact Or.inl ⟨x_ku_s _ _ _, fun _ _ _ => rfl⟩
        refine x_dup B dX1_line_42 (by first | rfl | exact x_cr _ _) ?_
        refine x_goV (x_rIN B (by omega) (c_X14_init (by omega)) q949 q950 q136 q951 rfl hd_X14_init ⟨by decide, by decide⟩ ⟨by show _ ≤ 617; omega, by show _ ≤ 628; omega⟩ rfl rfl (by simp [x_cr, x_c1, x_c2]) dX1_line_43) ?_
        refine x_goto B (tgt := 54) dX1_line_46 (by decide) ?_
        have hve := hke.v hI hlo
        have hC1 := (hve.C hC).up hup hT3
        have h0 := hup _ _ h0
        have k_21 := hup _ _ k_21
        have e1 := congrFun (hve.1 1 (by omega) (by omega)) 2
        have hT := hT3
        refine x_go (x_rV B k_21 (show x_cl[5]? = some _ from rfl) (c_X6_looks hT3 k_21 (hB.cg hfe).1) (lw_V q1166 q1167 q1168 q118 q1169) hv_X6_looks ⟨by decide, by decide⟩ ⟨by show _ ≤ 617; omega, by show _ ≤ 628; omega⟩ rfl rfl (by simp [x_cr, x_c1, x_c2]) dX1_line_54) (fun v_54 X_54 p_54 => ?_)
        obtain ⟨rfl, f1, f2, f3, f4, f5⟩ := p_54
        obtain ⟨hH, hIf⟩ := f_lk hC1 (by rw [e1]; exact hi) hA3 (hB.cg hfe) f1 (by rw [f2]; exact (congrFun (hve.1 2 (by omega) (by omega)) i).symm) f3 f4 f5 (f_w (c_O X i) (q_lA X i w) 12) (f_d (c_O X i) (q_lA X i w))
        rw [hve.O] at hH
        have hk2 : k_eq X X_54 := hke.trans (g38.k (fun a ha => f1 a (by omega) (by omega)))
        refine x_aload_n B dX1_line_57 rfl ?_
        refine x_iconst B dX1_line_58 ?_
        refine x_putI B (k := 7) 7 rfl rfl rfl ⟨by omega, by omega⟩ xc_0 (by decide) rfl nn_0_7 (fun _ => rfl) h0 (Or.inl q408) (fun _ h => h) dX1_line_59 ?_
        have hkY : k_eq X (x_up X_54 0 7 0) := hk2.up7 (Or.inl rfl)
        have hH1 := hH.up (a := 0) (i := 7) (z := 0) h0 (by unfold a_kd; simp) (by omega)
        have hI1 := hIf.cg (Y := (x_up X_54 0 7 0)) (fun a a1 a2 => x_up_o _ (by omega))
        have h81 : (x_up X_54 0 7 0) 38 8 = X 38 8 + 121 := by rw [x_up_o _ (by omega), f4, hfe 38 (by omega) (by omega)]
        have hv2 := hkY.v hI hlo
        have es5 : (x_up X_54 0 7 0) (3 + 1 + 1 + 2 * i) = X (3 + 1 + 1 + 2 * i) := hv2.1 _ (by omega) (by omega)
        have eb : (x_up X_54 0 7 0) (3 + 1 + 1 + 2 * i + 1) = X (3 + 1 + 1 + 2 * i + 1) := hv2.1 _ (by omega) (by omega)
        have y31 : (x_up X_54 0 7 0) 3 1 = X 3 1 := by rw [hv2.1 3 (by omega) (by omega)]
        have y33 : (x_up X_54 0 7 0) 3 3 = X 3 3 := by rw [hv2.1 3 (by omega) (by omega)]
        have y1 : (x_up X_54 0 7 0) (3 + 1 + 1 + 2 * i) 1 = X (3 + 1 + 1 + 2 * i) 1 := by rw [es5]
        have y2 : (x_up X_54 0 7 0) (3 + 1 + 1 + 2 * i) 2 = X (3 + 1 + 1 + 2 * i) 2 := by rw [es5]
        have y3 : (x_up X_54 0 7 0) (3 + 1 + 1 + 2 * i) 3 = X (3 + 1 + 1 + 2 * i) 3 := by rw [es5]
        have y4 : (x_up X_54 0 7 0) (3 + 1 + 1 + 2 * i) 4 = X (3 + 1 + 1 + 2 * i) 4 := by rw [es5]
        have y6 : (x_up X_54 0 7 0) (3 + 1 + 1 + 2 * i) 6 = X (3 + 1 + 1 + 2 * i) 6 := by rw [es5]
        have y7 : (x_up X_54 0 7 0) (3 + 1 + 1 + 2 * i) 7 = X (3 + 1 + 1 + 2 * i) 7 := by rw [es5]
        refine x_aload_n B dX1_line_62 rfl ?_
        refine x_getC0 B (k := 2) hT rfl rfl xc_0 (by decide) h0 (Or.inl q400) (fun _ h => h) dX1_line_63 (fun k_63 => ?_)
        refine x_getC1 B (k := 0) hT rfl rfl xc_2 (by decide) k_63 (Or.inr q244) (fun _ h => h) dX1_line_66 (fun k_66 => ?_)
        refine x_iload_n B dX1_line_69 rfl ?_
        refine x_aaldC B (t := 10) hT k_66 rfl rfl rfl rfl ⟨by omega, by omega⟩ dX1_line_70 (fun k_70 => ?_)
        refine x_astw_4 B dX1_line_71 (by first | rfl | exact x_cr _ _) ?_
        refine x_aload B dX1_line_73 rfl ?_
        refine x_getZ B (k := 7) 7 rfl rfl xc_3 (by decide) k_70 (Or.inr q223) (fun _ h => h) dX1_line_75 (fun r_75 => ?_)
        refine x_if_ne B (tgt := 91) dX1_line_78 (by decide) ⟨by omega, by omega⟩ (fun h_78 => ?_) (fun h_78 => ?_)
        · refine x_iconst B dX1_line_91 ?_
          refine x_wide (cells' := 617) (slots' := 628) (by omega) (by omega) ?_
          refine x_iret B (by first | exact hup | exact (fun _ _ h => h)) ?_ dX1_line_92
          refine ⟨hkY, ⟨by rw [h81]; omega, hI1.1⟩, ?_⟩
          rw [if_pos ⟨by omega, by omega⟩]
          have hz : q_li X i w 0 = (0, fun _ => 0) := by unfold q_li q_ln; rw [if_pos (by first | exact Or.inl (by omega) | exact Or.inr (by rw [g1]; by_cases q : X 3 1 = 3; exact q; rw [y31, if_neg q] at h_88; omega))]
          rw [hz]
          exact ⟨rfl, x_up_s _ _ _ _, fun k k1 k2 => by omega⟩
        · refine x_aload_n B dX1_line_81 rfl ?_
          refine x_getC0 B (k := 2) hT rfl rfl xc_0 (by decide) h0 (Or.inl q400) (fun _ h => h) dX1_line_82 (fun k_82 => ?_)
          refine x_goP (x_rV B k_82 (show x_cl[2]? = some _ from rfl) (c_X2_isOver hT (by assumption)) (lw_V q1205 q368 q369 q114 q370) hv_X2_isOver ⟨by decide, by decide⟩ ⟨by show _ ≤ 617; omega, by show _ ≤ 628; omega⟩ rfl rfl (by simp [x_cr, x_c1, x_c2]) dX1_line_85) ?_
          refine x_if_eq B (tgt := 93) dX1_line_88 (by decide) ⟨by split <;> omega, by split <;> omega⟩ (fun h_88 => ?_) (fun h_88 => ?_)
          · have hne : X 3 1 ≠ 3 := by intro q; rw [y31, if_pos q] at h_88; omega
            have h70 : c_M X 3 i 7 = 0 := by omega
            have hre := m_rest hW hi.1 hi.2 h70 (by omega)
            have sb : c_M X 3 i (10 + X 3 1) = X (3 + 1 + 1 + 2 * i + 1) (X 3 1) := by rw [c_M_b hi (by omega)]; congr 1; omega
            rw [g1, sb, ← es] at hre
            have ssE : s_sum (x_up X_54 0 7 0) (3 + 1 + 1 + 2 * i) = s_sum X (3 + 1 + 1 + 2 * i) := by unfold s_sum; rw [es5, eb]
            have hre2 : 0 ≤ s_sum (x_up X_54 0 7 0) (3 + 1 + 1 + 2 * i) - (x_up X_54 0 7 0) (3 + 1 + 1 + 2 * i + 1) ((x_up X_54 0 7 0) 3 1) ∧ s_sum (x_up X_54 0 7 0) (3 + 1 + 1 + 2 * i) - (x_up X_54 0 7 0) (3 + 1 + 1 + 2 * i + 1) ((x_up X_54 0 7 0) 3 1) ≤ 40 * (x_up X_54 0 7 0) 3 1 := by rw [ssE, eb, y31]; exact hre.1
            have hb2 : 0 ≤ (x_up X_54 0 7 0) (3 + 1 + 1 + 2 * i + 1) ((x_up X_54 0 7 0) 3 1) ∧ (x_up X_54 0 7 0) (3 + 1 + 1 + 2 * i + 1) ((x_up X_54 0 7 0) 3 1) ≤ 40 := by rw [eb, y31]; exact hre.2
            have slE : s_least (x_up X_54 0 7 0) (3 + 1 + 1 + 2 * i) ((x_up X_54 0 7 0) 3 3) = m_least (c_M X 3) i := by unfold s_least m_least; rw [es5, y33, s3, s6, s4, g3]
            have hlr := m_least_r hW hi.1 hi.2
            rw [← slE] at hlr
            have hqe : q_li X i w 0 = e_out (c_O X i) (q_lA X i w) 0 3 ((x_up X_54 0 7 0) 3 1) (s_sum (x_up X_54 0 7 0) (3 + 1 + 1 + 2 * i) - (x_up X_54 0 7 0) (3 + 1 + 1 + 2 * i + 1) ((x_up X_54 0 7 0) 3 1)) (if (x_up X_54 0 7 0) (3 + 1 + 1 + 2 * i) 3 = 0 then 3 else (x_up X_54 0 7 0) (3 + 1 + 1 + 2 * i) 1) ((x_up X_54 0 7 0) (3 + 1 + 1 + 2 * i) 2) ((x_up X_54 0 7 0) (3 + 1 + 1 + 2 * i + 1) ((x_up X_54 0 7 0) 3 1)) (s_least (x_up X_54 0 7 0) (3 + 1 + 1 + 2 * i) ((x_up X_54 0 7 0) 3 3)) 0 (fun _ => 0) := by
              rw [slE, ssE, es5, eb, y31]
              unfold q_li q_ln
              rw [if_neg (by omega), g1, g2, s2, s3, s6, sb, es]
              by_cases q : X (3 + 1 + 1 + 2 * i) 3 = 0
              · rw [if_pos q, if_pos q]
              · rw [if_neg q, if_neg q, hj (by omega)]
            have hsr2 : -1000 ≤ s_sum (x_up X_54 0 7 0) (3 + 1 + 1 + 2 * i) ∧ s_sum (x_up X_54 0 7 0) (3 + 1 + 1 + 2 * i) ≤ 1000 := by omega
            refine x_iload_n B dX1_line_93 rfl ?_
            refine x_goP (x_rS B (c_X13_of ⟨by omega, by omega⟩) (lw_S q840 q841 q134 q842) hd_X13_of ⟨by decide, by decide⟩ ⟨by show _ ≤ 617; omega, by show _ ≤ 628; omega⟩ rfl rfl (by simp [x_cr, x_c1, x_c2]) dX1_line_94) ?_
            refine x_astw_5 B dX1_line_97 (by first | rfl | exact x_cr _ _) ?_
            refine x_aload B dX1_line_99 rfl ?_
            refine x_goP (x_rV B k_70 (show x_cl[3]? = some _ from rfl) (c_X3_sum hT (by assumption)) (lw_V q789 q790 q791 q115 q792) hv_X3_sum ⟨by decide, by decide⟩ ⟨by show _ ≤ 617; omega, by show _ ≤ 628; omega⟩ rfl rfl (by simp [x_cr, x_c1, x_c2]) dX1_line_101) ?_
            refine x_aload B dX1_line_104 rfl ?_
            refine x_getC1 B (k := 0) hT rfl rfl xc_3 (by decide) k_70 (Or.inr q196) (fun _ h => h) dX1_line_106 (fun k_106 => ?_)
            refine x_aload_n B dX1_line_109 rfl ?_
            refine x_getC0 B (k := 2) hT rfl rfl xc_0 (by decide) h0 (Or.inl q400) (fun _ h => h) dX1_line_110 (fun k_110 => ?_)
            refine x_getI B (k := 1) 1 rfl rfl xc_2 (by decide) k_110 (Or.inr q248) (fun _ h => h) dX1_line_113 (fun r_113 => ?_)
            refine x_iald B k_106 ⟨by omega, by omega⟩ dX1_line_116 (fun r_116 => ?_)
            refine x_isub B dX1_line_117 ?_
            refine x_istw_6 B dX1_line_118 (by first | rfl | exact x_cr _ _) ?_
            refine x_aload B dX1_line_120 rfl ?_
            refine x_getI B (k := 3) 3 rfl rfl xc_3 (by decide) k_70 (Or.inr q211) (fun _ h => h) dX1_line_122 (fun r_122 => ?_)
            refine x_if_ne B (tgt := 132) dX1_line_125 (by decide) ⟨by omega, by omega⟩ (fun h_125 => ?_) (fun h_125 => ?_)
            · refine x_aload B dX1_line_132 rfl ?_
              refine x_getI B (k := 1) 1 rfl rfl xc_3 (by decide) k_70 (Or.inr q200) (fun _ h => h) dX1_line_134 (fun r_134 => ?_)
              refine x_istw_7 B dX1_line_137 (by first | rfl | exact x_cr _ _) ?_
              refine x_aload B dX1_line_139 rfl ?_
              refine x_getI B (k := 2) 2 rfl rfl xc_3 (by decide) k_70 (Or.inr q206) (fun _ h => h) dX1_line_141 (fun r_141 => ?_)
              refine x_istw_8 B dX1_line_144 (by first | rfl | exact x_cr _ _) ?_
              refine x_aload B dX1_line_146 rfl ?_
              refine x_getC1 B (k := 0) hT rfl rfl xc_3 (by decide) k_70 (Or.inr q196) (fun _ h => h) dX1_line_148 (fun k_148 => ?_)
              refine x_aload_n B dX1_line_151 rfl ?_
              refine x_getC0 B (k := 2) hT rfl rfl xc_0 (by decide) h0 (Or.inl q400) (fun _ h => h) dX1_line_152 (fun k_152 => ?_)
              refine x_getI B (k := 1) 1 rfl rfl xc_2 (by decide) k_152 (Or.inr q248) (fun _ h => h) dX1_line_155 (fun r_155 => ?_)
              refine x_iald B k_148 ⟨by omega, by omega⟩ dX1_line_158 (fun r_158 => ?_)
              refine x_istw_9 B dX1_line_159 (by first | rfl | exact x_cr _ _) ?_
              refine x_aload B dX1_line_161 rfl ?_
              refine x_aload_n B dX1_line_163 rfl ?_
              refine x_getC0 B (k := 2) hT rfl rfl xc_0 (by decide) h0 (Or.inl q400) (fun _ h => h) dX1_line_164 (fun k_164 => ?_)
              refine x_getI B (k := 3) 3 rfl rfl xc_2 (by decide) k_164 (Or.inr q253) (fun _ h => h) dX1_line_167 (fun r_167 => ?_)
              refine x_goP (x_rV B k_70 (show x_cl[3]? = some _ from rfl) (c_X3_least hT (by assumption) ⟨by omega, by omega⟩) (lw_V q777 q778 q779 q115 q780) hv_X3_least ⟨by decide, by decide⟩ ⟨by show _ ≤ 617; omega, by show _ ≤ 628; omega⟩ rfl rfl (by simp [x_cr, x_c1, x_c2]) dX1_line_170) ?_
              refine x_istw_10 B dX1_line_173 (by first | rfl | exact x_cr _ _) ?_
              refine x_aload_n B dX1_line_175 rfl ?_
              refine x_getC0 B (k := 2) hT rfl rfl xc_0 (by decide) h0 (Or.inl q400) (fun _ h => h) dX1_line_176 (fun k_176 => ?_)
              refine x_getI B (k := 1) 1 rfl rfl xc_2 (by decide) k_176 (Or.inr q248) (fun _ h => h) dX1_line_179 (fun r_179 => ?_)
              refine x_istw_11 B dX1_line_182 (by first | rfl | exact x_cr _ _) ?_
              refine x_wide (cells' := 617) (slots' := 628) (by omega) (by omega) ?_
              first
              | rw [if_pos (by omega)] at hqe
              | rw [if_neg (by omega)] at hqe
              refine lp_184 _ 3 _ _ _ _ _ _ 0 (fun _ => 0) _ _ ⟨⟨hup, hT3⟩, hH1, hI1, hkY, h81, ⟨x_up_s _ _ _ _, fun k k1 k2 => by omega⟩, hi, hw, ⟨⟨by omega, by omega, by omega⟩, hre2, ⟨by omega, by omega⟩, fun q => ⟨⟨by omega, by omega⟩, by omega⟩, ⟨by omega, by omega⟩, hb2, ⟨by omega, by omega⟩, by omega, by (rw [if_neg (by omega)]; omega)⟩, hqe⟩ (Nat.lt_succ_self _)
            · refine x_iconst B dX1_line_128 ?_
              refine x_goto B (tgt := 137) dX1_line_129 (by decide) ?_
              refine x_istw_7 B dX1_line_137 (by first | rfl | exact x_cr _ _) ?_
              refine x_aload B dX1_line_139 rfl ?_
              refine x_getI B (k := 2) 2 rfl rfl xc_3 (by decide) k_70 (Or.inr q206) (fun _ h => h) dX1_line_141 (fun r_141 => ?_)
              refine x_istw_8 B dX1_line_144 (by first | rfl | exact x_cr _ _) ?_
              refine x_aload B dX1_line_146 rfl ?_
              refine x_getC1 B (k := 0) hT rfl rfl xc_3 (by decide) k_70 (Or.inr q196) (fun _ h => h) dX1_line_148 (fun k_148 => ?_)
              refine x_aload_n B dX1_line_151 rfl ?_
              refine x_getC0 B (k := 2) hT rfl rfl xc_0 (by decide) h0 (Or.inl q400) (fun _ h => h) dX1_line_152 (fun k_152 => ?_)
              refine x_getI B (k := 1) 1 rfl rfl xc_2 (by decide) k_152 (Or.inr q248) (fun _ h => h) dX1_line_155 (fun r_155 => ?_)
              refine x_iald B k_148 ⟨by omega, by omega⟩ dX1_line_158 (fun r_158 => ?_)
              refine x_istw_9 B dX1_line_159 (by first | rfl | exact x_cr _ _) ?_
              refine x_aload B dX1_line_161 rfl ?_
              refine x_aload_n B dX1_line_163 rfl ?_
              refine x_getC0 B (k := 2) hT rfl rfl xc_0 (by decide) h0 (Or.inl q400) (fun _ h => h) dX1_line_164 (fun k_164 => ?_)
              refine x_getI B (k := 3) 3 rfl rfl xc_2 (by decide) k_164 (Or.inr q253) (fun _ h => h) dX1_line_167 (fun r_167 => ?_)
              refine x_goP (x_rV B k_70 (show x_cl[3]? = some _ from rfl) (c_X3_least hT (by assumption) ⟨by omega, by omega⟩) (lw_V q777 q778 q779 q115 q780) hv_X3_least ⟨by decide, by decide⟩ ⟨by show _ ≤ 617; omega, by show _ ≤ 628; omega⟩ rfl rfl (by simp [x_cr, x_c1, x_c2]) dX1_line_170) ?_
              refine x_istw_10 B dX1_line_173 (by first | rfl | exact x_cr _ _) ?_
              refine x_aload_n B dX1_line_175 rfl ?_
              refine x_getC0 B (k := 2) hT rfl rfl xc_0 (by decide) h0 (Or.inl q400) (fun _ h => h) dX1_line_176 (fun k_176 => ?_)
              refine x_getI B (k := 1) 1 rfl rfl xc_2 (by decide) k_176 (Or.inr q248) (fun _ h => h) dX1_line_179 (fun r_179 => ?_)
              refine x_istw_11 B dX1_line_182 (by first | rfl | exact x_cr _ _) ?_
              refine x_wide (cells' := 617) (slots' := 628) (by omega) (by omega) ?_
              first
              | rw [if_pos (by omega)] at hqe
              | rw [if_neg (by omega)] at hqe
              refine lp_184 _ 3 _ _ _ _ _ _ 0 (fun _ => 0) _ _ ⟨⟨hup, hT3⟩, hH1, hI1, hkY, h81, ⟨x_up_s _ _ _ _, fun k k1 k2 => by omega⟩, hi, hw, ⟨⟨by omega, by omega, by omega⟩, hre2, ⟨by omega, by omega⟩, fun q => ⟨⟨by omega, by omega⟩, by omega⟩, ⟨by omega, by omega⟩, hb2, ⟨by omega, by omega⟩, by omega, by (rw [if_neg (by omega)]; omega)⟩, hqe⟩ (Nat.lt_succ_self _)
          · refine x_iconst B dX1_line_91 ?_
            refine x_wide (cells' := 617) (slots' := 628) (by omega) (by omega) ?_
            refine x_iret B (by first | exact hup | exact (fun _ _ h => h)) ?_ dX1_line_92
            refine ⟨hkY, ⟨by rw [h81]; omega, hI1.1⟩, ?_⟩
            rw [if_pos ⟨by omega, by omega⟩]
            have hz : q_li X i w 0 = (0, fun _ => 0) := by unfold q_li q_ln; rw [if_pos (by first | exact Or.inl (by omega) | exact Or.inr (by rw [g1]; by_cases q : X 3 1 = 3; exact q; rw [y31, if_neg q] at h_88; omega))]
            rw [hz]
            exact ⟨rfl, x_up_s _ _ _ _, fun k k1 k2 => by omega⟩
    · refine x_iconst B dX1_line_18 ?_
      refine x_wide (cells' := 617) (slots' := 628) (by omega) (by omega) ?_
      refine x_iret B (by first | exact hup | exact (fun _ _ h => h)) ?_ dX1_line_19
      exact ⟨k_eq.rf X, hB.b2 (fun _ _ _ => rfl), by rw [if_neg (by omega)]; exact ⟨rfl, rfl, rfl⟩⟩
