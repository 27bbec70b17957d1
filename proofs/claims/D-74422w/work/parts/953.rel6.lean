/-! ===== a lifter enters ===== -/
theorem t_wf_c {ld od ld2 od2 : Int → Int} {many : Int} (h : t_wf ld od many) (e : ∀ k, 0 ≤ k → k < many → ld2 k = ld k ∧ od2 k = od k) : t_wf ld2 od2 many := by
  refine ⟨h.1, fun k k1 k2 => ?_⟩
  have hk := h.2 k k1 k2
  have e1 := e k k1 k2
  rw [e1.1, e1.2]
  refine ⟨hk.1, hk.2.1, fun q => ?_⟩
  have e2 := e (k - 1) (by omega) (by omega)
  rw [e2.1, e2.2]
  exact hk.2.2 q
theorem Rel_en {κ κ2 : x_Ka} {X W Y V Z F : x_X} {j : Int} (h : Rel κ X j) (hj : 0 ≤ j) (hn : X 1 2 ≠ 6) (hκ : x_T κ2 ∧ (∀ b k, κ b = some k → κ2 b = some k) ∧ κ2 (X (-1) 0 + 1) = some (.inl (8, 1))) (hF : ∀ u, 0 ≤ u → u < 3 → r_G F u) (hl : ∀ l, 0 ≤ l → l < X 1 2 → c_lot X l ≠ F 0 1) (hW : e_z X W F) (hb : BG W Y) (hV : en8 Y V F) (hb8 : BG8 V Z) : Rel κ2 Z (j + 1) := by
  obtain ⟨hC, hT, hVV, hG, hS, hR⟩ := h
  obtain ⟨kT, kS, kN⟩ := hκ
  obtain ⟨⟨a1, a2, a3⟩, ⟨b2, b3⟩, h4, h5, h6, h7, h8, h10⟩ := hC.pre
  have hn6 := a1.2.2.1
  have hla := a1.2.2.2.2
  have h88 := b2.1
  obtain ⟨wo, w0, w05, wm, ⟨w10, w12⟩, ⟨w2n, w2⟩, ⟨wn0, wn1⟩, wf⟩ := hW
  obtain ⟨B, hB⟩ : ∃ B, X (-1) 0 = B := ⟨_, rfl⟩
  obtain ⟨n, hnn⟩ : ∃ n, X 1 2 = n := ⟨_, rfl⟩
  rw [hB] at wo wm w2n wn0 wn1 wf kN h88
  rw [hnn] at w12 w2n w2 hn6 hn hl
  have wl : ∀ l, 0 ≤ l → l < n → ∀ k, 0 ≤ k → k < 14 → W (X 2 l + k) = X (X 2 l + k) := fun l l1 l2 k k1 k2 => wo _ (by have := hla l l1 (by omega); omega) (by have := b2.2 l l1 (by omega); omega)
  have wl0 : ∀ l, 0 ≤ l → l < n → W (X 2 l) = X (X 2 l) := fun l l1 l2 => by have := wl l l1 l2 0 (by omega) (by omega); rw [Int.add_zero] at this; exact this
  have w2' : ∀ l, l < n → W 2 l = X 2 l := fun l hl => w2 l (by omega)
  have hlot : ∀ l, 0 ≤ l → l < n + 1 → c_lot W l = if l = n then F 0 1 else c_lot X l := fun l l1 l2 => by
    unfold c_lot
    rw [w12, if_pos ⟨l1, l2⟩]
    by_cases e : l = n
    · rw [if_pos e, e, w2n, wn1]
    · rw [if_neg e, if_pos ⟨l1, by omega⟩, w2 l e, wl0 l l1 (by omega)]
  have hpre : PRE κ2 W (j + 1) := by
    refine ⟨⟨⟨kT, kS _ _ a1.2.1, by omega, fun l l1 l2 => ?_, fun l l1 l2 => ?_⟩, fun l l1 l2 u u1 u2 => ?_, ⟨fun l l1 l2 u u1 u2 => ?_, by rw [w0 1 (by omega)]; exact a3.2⟩⟩, ⟨⟨by omega, fun l l1 l2 => ?_⟩, kS _ _ b3⟩, fun l k l1 l2 k2 => ?_, ?_, by omega, by omega, by rw [w0 7 (by omega)]; exact h8, ?_⟩
    · rw [w12] at l2
      by_cases e : l = n
      · rw [e, w2n]; exact kN
      · rw [w2 l e]; exact kS _ _ (a1.2.2.2.1 l l1 (by omega))
    · rw [w12] at l2
      by_cases e : l = n
      · rw [e, w2n]; omega
      · rw [w2 l e]; exact hla l l1 (by omega)
    · rw [w12] at l2
      by_cases e : l = n
      · have hf := wf u u1 (by omega)
        have hg := hF u u1 u2
        rw [e, w2n, hf.2.2.2.1, hf.2.2.2.2.1, hf.2.2.2.2.2]
        exact hg.2
      · rw [w2 l e, wl l l1 (by omega) 11 (by omega) (by omega), wl l l1 (by omega) 12 (by omega) (by omega), wl l l1 (by omega) 13 (by omega) (by omega)]
        exact a2 l l1 (by omega) u u1 u2
    · rw [w12] at l2
      by_cases e : l = n
      · have hf := wf u u1 (by omega)
        have hg := hF u u1 u2
        rw [e, w2n, show B + 1 + 1 + 1 + 3 * u = B + 1 + 2 + 3 * u by omega, hf.1]
        exact t_wf_c hg.1 (fun k k1 k2 => hf.2.2.1 k k1 k2)
      · have c := a3.1 l l1 (by omega) u u1 u2
        have e1 := wl l l1 (by omega) (1 + 1 + 3 * u + 1) (by omega) (by omega)
        have e2 := wl l l1 (by omega) (1 + 1 + 3 * u + 2) (by omega) (by omega)
        have e3 := wl l l1 (by omega) (1 + 1 + 3 * u) (by omega) (by omega)
        rw [show X 2 l + (1 + 1 + 3 * u + 1) = X 2 l + 1 + 1 + 3 * u + 1 by omega] at e1
        rw [show X 2 l + (1 + 1 + 3 * u + 2) = X 2 l + 1 + 1 + 3 * u + 2 by omega] at e2
        rw [show X 2 l + (1 + 1 + 3 * u) = X 2 l + 1 + 1 + 3 * u by omega] at e3
        rw [w2 l e, e1, e2, e3]
        exact c
    · rw [w12] at l2
      by_cases e : l = n
      · rw [e, w2n, wm]; omega
      · rw [w2 l e, wm]; have := b2.2 l l1 (by omega); omega
    · rw [w12] at k2
      rw [w2' l (by omega)]
      by_cases e : k = n
      · rw [e, w2n]; have := b2.2 l l1 (by omega); omega
      · rw [w2 k e]; exact h4 l k l1 l2 (by omega)
    · unfold FB at *
      rw [wo 38 (by omega) (by omega)]
      exact ⟨by omega, fun t t1 t2 k k1 k2 => by rw [wo _ (by omega) (by omega)]; exact h5.2 t t1 t2 k k1 k2⟩
    · rw [w12]
      intro a b ha hbb hab
      rw [hlot a ha.1 ha.2, hlot b hbb.1 hbb.2]
      by_cases ea : a = n
      · rw [if_pos ea, if_neg (by omega)]
        exact fun q => hl b hbb.1 (by omega) q.symm
      · rw [if_neg ea]
        by_cases eb : b = n
        · rw [if_pos eb]; exact hl a ha.1 (by omega)
        · rw [if_neg eb]; exact h10 a b ⟨ha.1, by omega⟩ ⟨hbb.1, by omega⟩ hab
  have hcf : CFr X Y := fun a q1 q2 => (hb.1 a (by omega) (by omega)).trans (wo a (by omega) (by omega))
  have hTY := hT.cf hcf kT (kS _ _ hT.1.1.2.1)
  have y64 := hcf 64 (by omega) (by omega)
  have e3 : Y 64 3 = n := by rw [y64, ← hnn]; exact hVV.1
  have hVP := hV.P (by omega) hTY.1.2.1 hF
  obtain ⟨vo, v64, ⟨v18, v3⟩, ⟨v66n, v66⟩, ⟨v67n, v67⟩, vr, v68, v69, v71⟩ := hV
  rw [e3] at v3 v66n v66 v67n v67 vr v68 v69 v71
  have yx : ∀ a, 65 ≤ a → a ≤ 86 → Y a = X a := fun a q1 q2 => hcf a (by omega) q2
  have v10 : V 64 10 = X 0 1 := by rw [v64 10 (by omega) (by omega) (by omega), y64]; exact hS.1
  have x3 : X 64 3 = n := by rw [← hnn]; exact hVV.1
  refine Rel_bg hpre hb ⟨kT, kS _ _ hT.1.1.2.1, by omega⟩ hVP ⟨fun l l1 l2 u u1 u2 => ?_, by rw [v10]; exact a3.2⟩ hb8 ⟨by omega, ?_, ?_, ?_, ?_⟩ (fun a ha => vo a (by omega) (by omega) (by omega)) ⟨by rw [v10, hb.2.1 1 (by omega), w0 1 (by omega)], by rw [v18, hb.2.1 5 (by omega), w05], fun p hp => ?_⟩ ⟨?_, ?_⟩
  · rw [v3] at l2
    by_cases e : l = n
    · have hr := vr u u1 (by omega)
      rw [e, hr.1]
      exact t_wf_c (hF u u1 u2).1 (fun k k1 k2 => hr.2.1 k k1 k2)
    · have ho := hT.1.2.2.1.1 l l1 (by omega) u u1 u2
      rw [v68 _ (by omega), yx 68 (by omega) (by omega)]
      refine t_wf_c ho (fun k k1 k2 => ?_)
      have hm := ho.1.2
      rw [(v69 (6 * (3 * l + u) + k) (by omega)).1, (v69 (6 * (3 * l + u) + k) (by omega)).2, yx 69 (by omega) (by omega), yx 70 (by omega) (by omega)]
      exact ⟨rfl, rfl⟩
  · funext l
    have e := congrFun hVV.2.2.1 l
    unfold t_body c_body at *
    rw [v3, w12]
    rw [x3, hnn] at e
    by_cases q : 0 ≤ l ∧ l < n + 1
    · rw [if_pos q, if_pos q]
      by_cases z : l = n
      · rw [z, v66n, w2n, wn0]
      · rw [if_pos ⟨q.1, by omega⟩, if_pos ⟨q.1, by omega⟩] at e
        rw [v66 l z, yx 66 (by omega) (by omega), w2 l z, wl0 l q.1 (by omega)]; exact e
    · rw [if_neg q, if_neg q]
  · funext l
    have e := congrFun hVV.2.2.2.1 l
    unfold t_lot c_lot at *
    rw [v3, w12]
    rw [x3, hnn] at e
    by_cases q : 0 ≤ l ∧ l < n + 1
    · rw [if_pos q, if_pos q]
      by_cases z : l = n
      · rw [z, v67n, w2n, wn1]
      · rw [if_pos ⟨q.1, by omega⟩, if_pos ⟨q.1, by omega⟩] at e
        rw [v67 l z, yx 67 (by omega) (by omega), w2 l z, wl0 l q.1 (by omega)]; exact e
    · rw [if_neg q, if_neg q]
  · funext l u k
    have e := congrFun (congrFun (congrFun hVV.2.2.2.2.1 l) u) k
    unfold t_p3 c_p3 at *
    rw [v3, w12]
    rw [x3, hnn] at e
    by_cases q : 0 ≤ l ∧ l < n + 1 ∧ 0 ≤ u ∧ u < 3 ∧ 0 ≤ k ∧ k < 3
    · rw [if_pos q, if_pos q]
      by_cases z : l = n
      · have hf := wf u q.2.2.1 (by omega)
        rw [z, w2n, (vr u q.2.2.1 (by omega)).2.2 k q.2.2.2.2.1 (by omega)]
        rcases (show k = 0 ∨ k = 1 ∨ k = 2 by omega) with w | w | w <;> rw [w]
        · rw [Int.add_zero, hf.2.2.2.1]
        · rw [show B + 1 + 11 + 1 = B + 1 + 12 by omega, hf.2.2.2.2.1]
        · rw [show B + 1 + 11 + 2 = B + 1 + 13 by omega, hf.2.2.2.2.2]
      · rw [if_pos ⟨q.1, by omega, q.2.2⟩, if_pos ⟨q.1, by omega, q.2.2⟩] at e
        have e2 := wl l q.1 (by omega) (11 + k) (by omega) (by omega)
        rw [show X 2 l + (11 + k) = X 2 l + 11 + k by omega] at e2
        rw [v71 _ (by omega), yx 71 (by omega) (by omega), w2 l z, e2]; exact e
    · rw [if_neg q, if_neg q]
  · funext l u x f
    unfold t_O c_O l_odds
    rw [v3, w12, v10, w0 1 (by omega)]
    by_cases q : 0 ≤ l ∧ l < n + 1 ∧ 0 ≤ u ∧ u < 3
    · rw [if_pos q, if_pos q]
      have key : t_tb V l u x = l_od W (W 2 l) u x := by
        by_cases z : l = n
        · have hf := wf u q.2.2.1 (by omega)
          have hr := vr u q.2.2.1 (by omega)
          have e1 : t_tb V l u x = t_of (F (20 + u)) (F (30 + u)) (F (10 + u) 0) x := by
            unfold t_tb
            rw [z, hr.1]
            exact t_of_c hf.2.1.1 (fun k k1 k2 => hr.2.1 k k1 k2)
          have e2 : l_od W (W 2 l) u x = t_of (F (20 + u)) (F (30 + u)) (F (10 + u) 0) x := by
            unfold l_od
            rw [z, w2n, show B + 1 + 1 + 1 + 3 * u = B + 1 + 2 + 3 * u by omega, hf.1]
            exact t_of_c hf.2.1.1 (fun k k1 k2 => hf.2.2.1 k k1 k2)
          rw [e1, e2]
        · have ho := hT.1.2.2.1.1 l q.1 (by omega) u q.2.2.1 q.2.2.2
          have e1 : t_tb V l u x = t_tb X l u x := by
            unfold t_tb
            rw [v68 _ (by omega), yx 68 (by omega) (by omega)]
            refine t_of_c ho.1.1 (fun k k1 k2 => ?_)
            have hm := ho.1.2
            rw [(v69 (6 * (3 * l + u) + k) (by omega)).1, (v69 (6 * (3 * l + u) + k) (by omega)).2, yx 69 (by omega) (by omega), yx 70 (by omega) (by omega)]
            exact ⟨rfl, rfl⟩
          have e2 : l_od W (W 2 l) u x = l_od X (X 2 l) u x := by
            have e1 := wl l q.1 (by omega) (1 + 1 + 3 * u + 1) (by omega) (by omega)
            have e2 := wl l q.1 (by omega) (1 + 1 + 3 * u + 2) (by omega) (by omega)
            have e3 := wl l q.1 (by omega) (1 + 1 + 3 * u) (by omega) (by omega)
            rw [show X 2 l + (1 + 1 + 3 * u + 1) = X 2 l + 1 + 1 + 3 * u + 1 by omega] at e1
            rw [show X 2 l + (1 + 1 + 3 * u + 2) = X 2 l + 1 + 1 + 3 * u + 2 by omega] at e2
            rw [show X 2 l + (1 + 1 + 3 * u) = X 2 l + 1 + 1 + 3 * u by omega] at e3
            unfold l_od
            rw [w2 l z, e1, e2, e3]
          rw [e1, e2]
          exact tb_eq hVV.2.2.2.2.2 hT.1.2.2.1 a3 hVV.1 ⟨q.1, by omega⟩ q.2.2 x
      rw [key]
    · rw [if_neg q, if_neg q]
  · rw [hb.2.1 5 (by omega), w05] at hp
    rw [vo 75 (by omega) (by omega) (by omega), yx 75 (by omega) (by omega), hb.1 31 (by omega) (by omega), wo 31 (by omega) (by omega)]
    exact hS.2.2 p (by omega)
  · rw [v64 1 (by omega) (by omega) (by omega), y64, hb.2.1 7 (by omega), w0 7 (by omega)]; exact hR.1
  · rw [vo 65 (by omega) (by omega) (by omega), yx 65 (by omega) (by omega), hb.2.1 7 (by omega), w0 7 (by omega), hb.1 32 (by omega) (by omega), wo 32 (by omega) (by omega)]; exact hR.2
