/-- a standing takes another one's place -/
def s_tk (X : x_X) (a b : Int) : x_X := fun q i => if q = a ∧ 1 ≤ i ∧ i ≤ 7 then X b i else if q = a + 1 ∧ 0 ≤ i ∧ i < 3 then X (b + 1) i else X q i
/-- a meet takes another one's, the first k standings -/
def c_tk (X : x_X) (a b k : Int) : x_X := fun q i => if q = a ∧ 1 ≤ i ∧ i ≤ 3 then X b i else if a + 1 + 1 ≤ q ∧ q < a + 1 + 1 + 2 * k ∧ (q - a) % 2 = 0 ∧ 1 ≤ i ∧ i ≤ 7 then X (q - a + b) i else if a + 1 + 1 ≤ q ∧ q < a + 1 + 1 + 2 * k ∧ (q - a) % 2 = 1 ∧ 0 ≤ i ∧ i < 3 then X (q - a + b) i else X q i
theorem s_tk_eq {X : x_X} {a b : Int} (h : a + 1 < b ∨ b + 1 < a) : x_up (x_up (x_up (x_up (x_up (x_up (x_up (x_cp X (b + 1) (a + 1)) a 1 (X b 1)) a 2 (X b 2)) a 3 (X b 3)) a 4 (X b 4)) a 5 (X b 5)) a 6 (X b 6)) a 7 (X b 7) = s_tk X a b := by
  funext q i
  simp only [s_tk, x_up, x_cp]
  grind (splits := 30)
theorem c_tk_s {X : x_X} {a b k : Int} (h : a + 14 ≤ b ∨ b + 14 ≤ a) (hk : 0 ≤ k ∧ k < 6) : s_tk (c_tk X a b k) (a + 1 + 1 + 2 * k) (b + 1 + 1 + 2 * k) = c_tk X a b (k + 1) := by
  funext q i
  simp only [s_tk, c_tk]
  by_cases e : q = a + 1 + 1 + 2 * k
  · subst e; grind
  · by_cases e2 : q = a + 1 + 1 + 2 * k + 1
    · subst e2; grind
    · grind
theorem c_tk_0 {X : x_X} {a b : Int} : x_up (x_up (x_up X a 1 (X b 1)) a 2 (X b 2)) a 3 (X b 3) = c_tk X a b 0 := by
  funext q i
  simp only [x_up, c_tk]
  grind
theorem c_M_tk {X : x_X} {a b : Int} (h : a + 14 ≤ b ∨ b + 14 ≤ a) (ha : 3 ≤ a) (hn : 0 ≤ X 1 2 ∧ X 1 2 ≤ 6) : c_M (c_tk X a b 6) a = c_M X b := by
  funext l f
  simp only [c_M, c_tk]
  grind
theorem c_fr_tk {X : x_X} {a b : Int} : c_fr a X (c_tk X a b 6) := by
  intro q hq
  funext i
  simp only [c_tk]
  rw [if_neg (by omega), if_neg (by omega), if_neg (by omega)]
theorem c_X3_takes {l : Launch} {E : x_E} {κ : x_Ka} {X : x_X} {a b : Int} (hT : x_T κ) (hk : κ a = some (.inl (3, 1))) (hb : κ b = some (.inl (3, 1))) (hab : a + 1 < b ∨ b + 1 < a) : x_Vo l yX3_takes cX3_takes 2 1 E κ X [x_rf E a, x_rf E b] (s_tk X a b) := by
  refine x_Met.of [(false, x_rf E a), (false, x_rf E b)] [some (x_rf E a), some (x_rf E b)] 0 (by decide) rfl rfl ⟨x_cr E (a), x_cr E (b), trivial⟩ rfl rfl ?_
  intro p e s m args below meth c hargs hin B
  refine x_aload_n B dX3_takes_0 rfl ?_
  refine x_getC1 B (k := 0) hT rfl rfl xc_3 (by decide) hb (Or.inl q191) (fun _ h => h) dX3_takes_1 (fun k_1 => ?_)
  refine x_iconst B dX3_takes_4 ?_
  refine x_aload_n B dX3_takes_5 rfl ?_
  refine x_getC1 B (k := 0) hT rfl rfl xc_3 (by decide) hk (Or.inl q191) (fun _ h => h) dX3_takes_6 (fun k_6 => ?_)
  refine x_iconst B dX3_takes_9 ?_
  refine x_iconst B dX3_takes_10 ?_
  refine x_cp3 B k_1 k_6 q827 dX3_takes_11 (by decide) (by decide) ?_
  refine x_aload_n B dX3_takes_14 rfl ?_
  refine x_aload_n B dX3_takes_15 rfl ?_
  refine x_getI B (k := 1) 1 rfl rfl xc_3 (by decide) hb (Or.inl q197) (fun _ h => h) dX3_takes_16 (fun r_16 => ?_)
  refine x_putI B (k := 1) 1 rfl rfl rfl ⟨by first | omega | (simp only [x_up]; grind), by first | omega | (simp only [x_up]; grind)⟩ xc_3 (by decide) rfl nn_3_1 (fun _ => rfl) hk (Or.inl q197) (fun _ h => h) dX3_takes_19 ?_
  refine x_aload_n B dX3_takes_22 rfl ?_
  refine x_aload_n B dX3_takes_23 rfl ?_
  refine x_getI B (k := 2) 2 rfl rfl xc_3 (by decide) hb (Or.inl q201) (fun _ h => h) dX3_takes_24 (fun r_24 => ?_)
  refine x_putI B (k := 2) 2 rfl rfl rfl ⟨by first | omega | (simp only [x_up]; grind), by first | omega | (simp only [x_up]; grind)⟩ xc_3 (by decide) rfl nn_3_2 (fun _ => rfl) hk (Or.inl q201) (fun _ h => h) dX3_takes_27 ?_
  refine x_aload_n B dX3_takes_30 rfl ?_
  refine x_aload_n B dX3_takes_31 rfl ?_
  refine x_getI B (k := 3) 3 rfl rfl xc_3 (by decide) hb (Or.inl q207) (fun _ h => h) dX3_takes_32 (fun r_32 => ?_)
  refine x_putI B (k := 3) 3 rfl rfl rfl ⟨by first | omega | (simp only [x_up]; grind), by first | omega | (simp only [x_up]; grind)⟩ xc_3 (by decide) rfl nn_3_3 (fun _ => rfl) hk (Or.inl q207) (fun _ h => h) dX3_takes_35 ?_
  refine x_aload_n B dX3_takes_38 rfl ?_
  refine x_aload_n B dX3_takes_39 rfl ?_
  refine x_getI B (k := 4) 4 rfl rfl xc_3 (by decide) hb (Or.inl q212) (fun _ h => h) dX3_takes_40 (fun r_40 => ?_)
  refine x_putI B (k := 4) 4 rfl rfl rfl ⟨by first | omega | (simp only [x_up]; grind), by first | omega | (simp only [x_up]; grind)⟩ xc_3 (by decide) rfl nn_3_4 (fun _ => rfl) hk (Or.inl q212) (fun _ h => h) dX3_takes_43 ?_
  refine x_aload_n B dX3_takes_46 rfl ?_
  refine x_aload_n B dX3_takes_47 rfl ?_
  refine x_getI B (k := 5) 5 rfl rfl xc_3 (by decide) hb (Or.inl q213) (fun _ h => h) dX3_takes_48 (fun r_48 => ?_)
  refine x_putI B (k := 5) 5 rfl rfl rfl ⟨by first | omega | (simp only [x_up]; grind), by first | omega | (simp only [x_up]; grind)⟩ xc_3 (by decide) rfl nn_3_5 (fun _ => rfl) hk (Or.inl q213) (fun _ h => h) dX3_takes_51 ?_
  refine x_aload_n B dX3_takes_54 rfl ?_
  refine x_aload_n B dX3_takes_55 rfl ?_
  refine x_getZ B (k := 6) 6 rfl rfl xc_3 (by decide) hb (Or.inl q216) (fun _ h => h) dX3_takes_56 (fun r_56 => ?_)
  refine x_putZ B (k := 6) 6 rfl rfl rfl ⟨by first | omega | (simp only [x_up]; grind), by first | omega | (simp only [x_up]; grind)⟩ xc_3 (by decide) rfl nn_3_6 (fun _ => rfl) hk (Or.inl q216) (fun _ h => h) dX3_takes_59 ?_
  refine x_aload_n B dX3_takes_62 rfl ?_
  refine x_aload_n B dX3_takes_63 rfl ?_
  refine x_getZ B (k := 7) 7 rfl rfl xc_3 (by decide) hb (Or.inl q220) (fun _ h => h) dX3_takes_64 (fun r_64 => ?_)
  refine x_putZ B (k := 7) 7 rfl rfl rfl ⟨by first | omega | (simp only [x_up]; grind), by first | omega | (simp only [x_up]; grind)⟩ xc_3 (by decide) rfl nn_3_7 (fun _ => rfl) hk (Or.inl q220) (fun _ h => h) dX3_takes_67 ?_
  refine x_vret B (fun _ _ h => h) ?_ dX3_takes_70
  refine ⟨rfl, ?_⟩
  have e : ∀ i, x_cp X (b + 1) (a + 1) b i = X b i := fun i => by simp only [x_cp]; rw [if_neg (by omega)]
  have n1 : ∀ (Z : x_X) (j z i : Int), x_up Z a j z b i = Z b i := fun Z j z i => x_up_n Z (Or.inl (by omega))
  simp only [n1, e]
  exact s_tk_eq hab
theorem c_X2_takes {l : Launch} {E : x_E} {κ : x_Ka} {X : x_X} {a b : Int} (hT : x_T κ) (hm : κ a = some (.inl (2, 1))) (hb : κ b = some (.inl (2, 1))) (hab : a + 14 ≤ b ∨ b + 14 ≤ a) : x_Vo l yX2_takes cX2_takes 3 2 E κ X [x_rf E a, x_rf E b] (c_tk X a b 6) := by
  refine x_Met.of [(false, x_rf E a), (false, x_rf E b)] [some (x_rf E a), some (x_rf E b), none] 1 (by decide) rfl rfl ⟨x_cr E (a), x_cr E (b), trivial⟩ rfl rfl ?_
  intro p e s m args below meth c hargs hin B
  have lp_26 : ∀ (n : Nat) (k : Int), (0 ≤ k ∧ k ≤ 6) → ((7 - k).toNat < n) → x_G p l e (x_rm 2 0 0) s m args below meth c 3 E 0 0 (MQ below (x_Q E κ (fun v_ X_ => v_ = none ∧ X_ = (c_tk X a b 6))) args s 0 0 (fun q => E.1 ≤ q)) κ 26 [some (x_rf E a), some (x_rf E b), some (vi k)] [] (c_tk X a b k) := by
    intro n
    induction n with
    | zero => intro k hi hme; exfalso; omega
    | succ n ih =>
      intro k hi hme
      refine x_iload_n B dX2_takes_26 rfl ?_
      refine x_bipush B dX2_takes_27 (by decide) ?_
      refine x_icmp_ge B (tgt := 53) dX2_takes_29 (by decide) ⟨by omega, by omega⟩ ⟨by omega, by omega⟩ (fun h_29 => ?_) (fun h_29 => ?_)
      · obtain rfl : k = 6 := by omega
        refine x_vret B (fun _ _ h => h) ?_ dX2_takes_53
        exact ⟨rfl, rfl⟩
      · refine x_aload_n B dX2_takes_32 rfl ?_
        refine x_getC1 B (k := 0) hT rfl rfl xc_2 (by decide) hm (Or.inl q242) (fun _ h => h) dX2_takes_33 (fun k_33 => ?_)
        refine x_iload_n B dX2_takes_36 rfl ?_
        refine x_aaldC B (t := 10) hT k_33 rfl rfl rfl rfl ⟨by omega, by omega⟩ dX2_takes_37 (fun k_37 => ?_)
        refine x_aload_n B dX2_takes_38 rfl ?_
        refine x_getC1 B (k := 0) hT rfl rfl xc_2 (by decide) hb (Or.inl q242) (fun _ h => h) dX2_takes_39 (fun k_39 => ?_)
        refine x_iload_n B dX2_takes_42 rfl ?_
        refine x_aaldC B (t := 10) hT k_39 rfl rfl rfl rfl ⟨by omega, by omega⟩ dX2_takes_43 (fun k_43 => ?_)
        refine x_goV (x_rV B k_37 (show x_cl[3]? = some _ from rfl) (c_X3_takes hT (by assumption) (by assumption) (by omega)) (lw_V q823 q824 q825 q115 q826) hv_X3_takes ⟨by decide, by decide⟩ ⟨by decide, by decide⟩ rfl rfl (by simp [x_cr, x_c1, x_c2]) dX2_takes_44) ?_
        refine x_iinc_2 B dX2_takes_47 (by first | rfl | exact x_cr _ _) ?_
        refine x_goto B (tgt := 26) dX2_takes_50 (by decide) ?_
        rw [c_tk_s hab ⟨hi.1, by omega⟩]
        exact ih _ ⟨by omega, by omega⟩ (by omega)
  refine x_aload_n B dX2_takes_0 rfl ?_
  refine x_aload_n B dX2_takes_1 rfl ?_
  refine x_getI B (k := 1) 1 rfl rfl xc_2 (by decide) hb (Or.inl q245) (fun _ h => h) dX2_takes_2 (fun r_2 => ?_)
  refine x_putI B (k := 1) 1 rfl rfl rfl ⟨by omega, by omega⟩ xc_2 (by decide) rfl nn_2_1 (fun _ => rfl) hm (Or.inl q245) (fun _ h => h) dX2_takes_5 ?_
  refine x_aload_n B dX2_takes_8 rfl ?_
  refine x_aload_n B dX2_takes_9 rfl ?_
  refine x_getI B (k := 2) 2 rfl rfl xc_2 (by decide) hb (Or.inl q249) (fun _ h => h) dX2_takes_10 (fun r_10 => ?_)
  refine x_putI B (k := 2) 2 rfl rfl rfl ⟨by first | omega | (simp only [x_up]; grind), by first | omega | (simp only [x_up]; grind)⟩ xc_2 (by decide) rfl nn_2_2 (fun _ => rfl) hm (Or.inl q249) (fun _ h => h) dX2_takes_13 ?_
  refine x_aload_n B dX2_takes_16 rfl ?_
  refine x_aload_n B dX2_takes_17 rfl ?_
  refine x_getI B (k := 3) 3 rfl rfl xc_2 (by decide) hb (Or.inl q251) (fun _ h => h) dX2_takes_18 (fun r_18 => ?_)
  refine x_putI B (k := 3) 3 rfl rfl rfl ⟨by first | omega | (simp only [x_up]; grind), by first | omega | (simp only [x_up]; grind)⟩ xc_2 (by decide) rfl nn_2_3 (fun _ => rfl) hm (Or.inl q251) (fun _ h => h) dX2_takes_21 ?_
  refine x_iconst B dX2_takes_24 ?_
  refine x_ist_2 B dX2_takes_25 (by first | rfl | exact x_cr _ _) ?_
  have n1 : ∀ (Z : x_X) (j z i : Int), x_up Z a j z b i = Z b i := fun Z j z i => x_up_n Z (Or.inl (by omega))
  simp only [n1]
  rw [c_tk_0]
  exact lp_26 _ _ ⟨by omega, by omega⟩ (Nat.lt_succ_self _)
