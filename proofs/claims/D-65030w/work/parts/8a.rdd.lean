/-! PLAIN LEAN, 51: the component's rules -/
section DE
variable {σ : AS} {O : List Nat} {d : Nat} {h : MH}
theorem iA_all (l : List Nat) : (iA l).all isI = true := by simp [iA, isI]
set_option maxRecDepth 20000 in
theorem w_rules (H : CP σ O h) (hL : WL σ) (hV : WV σ) (hS : WS σ) : Ret (run (d + 6) 19 0 [.ref 5, .null, .null, .null] [] h) (CQ h (.int (rlr (prs (tx σ) (σ.1 3) 7 0 0 (σ.2 13)))) (rls σ (prs (tx σ) (σ.1 3) 7 0 0 (σ.2 13))) O) := by
  obtain ⟨rr, er, es, ep, ra, sa, pa, ⟨k1, ⟨ap, pl, k2⟩, k3, ⟨v0, v1, v2, v3, k4⟩, k5, k6, k7, k8, k9, o, k10⟩, H2⟩ := H
  have hN := H2.1
  have h35 := H2.2.1
  have c2 := H2.2.2.2.2.2.2.2.2.2.2.2.2.2.2.2.2.2.2.2.1
  have c3 := H2.2.2.2.2.2.2.2.2.2.2.2.2.2.2.2.2.2.2.2.2
  have s5 := hS.2.2.2.2
  have l12 : (σ.2 12).length = 40 := hL.2.2.2.2.2.2.2.2.2.2.2.1
  have l13 : (σ.2 13).length = 4 := hL.2.2.2.2.2.2.2.2.2.2.2.2.1
  have rl := hN.lt k5 (by decide)
  have hc : 5 ≤ rr ∧ (h.1 rr).1 = 20 ∧ (h.1 rr).2.all isI = true ∧ okN 8 [] = true := by
    rw [k5]; exact ⟨by omega, rfl, iA_all _, rfl⟩
  have e1 : run (d + 6) 19 0 [.ref 5, .null, .null, .null] [] h = run (d + 6) 19 16 [.ref 5, .ref h.2.1, .null, .null] [.ref h.2.1, .ref 9] (hnew h (20, iA (σ.2 13))) := by
    simp (disch := first | omega | (simp only [nlg_r, nlg_i, nlg_n, ok_0, ok_i, ok_r, ok_l]; done) | assumption | (simp only [List.length_set, List.length_append, List.length_cons, List.length_nil]; omega)) only [r_19_0, r_19_1, r_19_4, r_19_7, r_19_10, r_19_11, r_19_12, r_19_15, aft_v, aft_n, aft_t, gf_0, gf_s, pf_e, tg_e, hp_s, hp_n, hp_2, List.set_cons_zero, List.set_cons_succ, b2i_t, b2i_f, Ret_s, nlg_r, nlg_i, nlg_n, ok_0, ok_i, ok_r, ok_l, zi_e, zi_n, zi_t, Nat.reduceEqDiff, Nat.not_le, Nat.reduceLeDiff, if_true, if_false, eq_self, ↓reduceIte, Nat.reduceLT, Nat.le_refl, nle1, nez1, nez2, k1, c5, k5, hc, hn_s, hn_n]
  rw [e1]
  have g1 : ∀ b, b ≠ h.2.1 → (hnew h (20, iA (σ.2 13))).1 b = h.1 b := fun b hb => hn_n _ _ _ hb
  have gA : (hnew h (20, iA (σ.2 13))).1 h.2.1 = (20, iA (σ.2 13)) := hn_s _ _
  have g2 : (hnew h (20, iA (σ.2 13))).2 = (h.2.1 + 1, h.2.2 + 4) := by rw [hn_2]; simp [iA, l13]
  generalize hnew h (20, iA (σ.2 13)) = g at *
  have g9 : g.1 9 = (1, [.ref 10, .int (nI (σ.1 3)), .int ap, .int pl]) := (g1 9 (by omega)).trans k2
  have e2 : run (d + 5) 60 0 [.ref 9, .ref h.2.1, .null, .null, .null, .null, .null] [] g = run (d + 5) 60 9 [.ref 9, .ref h.2.1, .int (nI 0), .int 1, .null, .null, .null] [] (hput g 9 (rdC (σ.1 3) 0 pl)) := by
    simp (disch := first | omega | (simp only [nlg_r, nlg_i, nlg_n, ok_0, ok_i, ok_r, ok_l]; done) | assumption | (simp only [List.length_set, List.length_append, List.length_cons, List.length_nil]; omega)) only [r_60_0, r_60_1, r_60_2, r_60_5, r_60_6, r_60_7, r_60_8, aft_v, aft_n, aft_t, gf_0, gf_s, pf_e, tg_e, hp_s, hp_n, hp_2, List.set_cons_zero, List.set_cons_succ, b2i_t, b2i_f, Ret_s, nlg_r, nlg_i, nlg_n, ok_0, ok_i, ok_r, ok_l, zi_e, zi_n, zi_t, Nat.reduceEqDiff, Nat.not_le, Nat.reduceLeDiff, if_true, if_false, eq_self, ↓reduceIte, Nat.reduceLT, Nat.le_refl, nle1, nez1, nez2, g9, rdC, show nI 0 = 0 from rfl]
  have f9 : ∀ b, b ≠ 9 → b ≠ h.2.1 → (hput g 9 (rdC (σ.1 3) 0 pl)).1 b = h.1 b := fun b hb hb2 => by rw [hp_n _ _ _ _ hb, g1 _ hb2]
  obtain ⟨o1, h1, e3, hp⟩ := c_60l (d := d) (A := h.2.1) l12 s5 hV h35 7 0 0 (σ.2 13) pl (hput g 9 (rdC (σ.1 3) 0 pl)) .null .null .null l13 rfl (by omega) (by omega) (by omega) (by show 35 ≤ g.2.1; rw [g2]; show 35 ≤ h.2.1 + 1; omega) (hp_s _ _ _)
    ((f9 10 (by omega) (by omega)).trans k3) ((f9 2 (by omega) (by omega)).trans c2) ((f9 3 (by omega) (by omega)).trans c3) (by rw [hp_n _ _ _ _ (by omega)]; exact gA)
  rw [← e2] at e3
  have f2 : (hput g 9 (rdC (σ.1 3) 0 pl)).2 = (h.2.1 + 1, h.2.2 + 4) := g2
  generalize hput g 9 (rdC (σ.1 3) 0 pl) = g3 at *
  cases hP : prs (tx σ) (σ.1 3) 7 0 0 (σ.2 13) with
  | inl q =>
    rw [hP] at hp
    obtain ⟨g', a, p1, p2, p3, p4, p5⟩ := hp
    subst p1 p2
    have t1 : hnd 19 16 (40 + 2) = some (some 28) := by decide +kernel
    rw [f2] at p3
    have p31 : g'.2.1 = h.2.1 + 1 := by rw [p3]
    have ee : g3.2.1 = g'.2.1 := by rw [f2, p31]
    rw [ee] at e3
    have hF : ∀ b, b ≠ 9 → b ≠ h.2.1 → b ≠ h.2.1 + 1 → (hx 2 g').1 b = h.1 b := fun b hb hb2 hb3 => by rw [hx_n _ _ _ (by omega), p5 b hb hb2, f9 b hb hb2]
    have x5 : (hx 2 g').1 5 = (0, [.ref 6, .ref 7, .ref 8, .ref 9, .ref 11, .ref rr, .ref 13, .int (nI (σ.1 1)), .int (nI (σ.1 2)), .ref 14, .ref 15, .int (nI (σ.1 0))]) := (hF 5 (by omega) (by omega) (by omega)).trans k1
    have x9 : (hx 2 g').1 9 = (1, [.ref 10, .int (nI (σ.1 3)), .int (nI a), .int (nI q)]) := by rw [hx_n _ _ _ (by omega), p4, rdC]
    have x2 : (hx 2 g').2 = (h.2.1 + 2, h.2.2 + 10) := by rw [hx_2, p3]
    have e4 : run (d + 6) 19 16 [.ref 5, .ref h.2.1, .null, .null] [.ref h.2.1, .ref 9] g = run (d + 6) 19 28 [.ref 5, .ref h.2.1, .null, .null] [.ref g'.2.1] (hx 2 g') := by
      simp (disch := first | omega | (simp only [nlg_r, nlg_i, nlg_n, ok_0, ok_i, ok_r, ok_l]; done) | assumption | (simp only [List.length_set, List.length_append, List.length_cons, List.length_nil]; omega)) only [r_19_16, aft_v, aft_n, aft_t, gf_0, gf_s, pf_e, tg_e, hp_s, hp_n, hp_2, List.set_cons_zero, List.set_cons_succ, b2i_t, b2i_f, Ret_s, nlg_r, nlg_i, nlg_n, ok_0, ok_i, ok_r, ok_l, zi_e, zi_n, zi_t, Nat.reduceEqDiff, Nat.not_le, Nat.reduceLeDiff, if_true, if_false, eq_self, ↓reduceIte, Nat.reduceLT, Nat.le_refl, nle1, nez1, nez2, g9, e3, thy t1]
    rw [e4]
    generalize g'.2.1 = ga at *
    generalize hx 2 g' = g4 at *
    simp (disch := first | omega | (simp only [nlg_r, nlg_i, nlg_n, ok_0, ok_i, ok_r, ok_l]; done) | assumption | (simp only [List.length_set, List.length_append, List.length_cons, List.length_nil]; omega)) only [r_19_28, r_19_29, r_19_30, r_19_31, r_19_34, r_19_37, r_19_38, r_19_39, r_19_40, r_19_43, r_19_44, r_19_47, r_19_48, aft_v, aft_n, aft_t, gf_0, gf_s, pf_e, tg_e, hp_s, hp_n, hp_2, List.set_cons_zero, List.set_cons_succ, b2i_t, b2i_f, Ret_s, nlg_r, nlg_i, nlg_n, ok_0, ok_i, ok_r, ok_l, zi_e, zi_n, zi_t, Nat.reduceEqDiff, Nat.not_le, Nat.reduceLeDiff, if_true, if_false, eq_self, ↓reduceIte, Nat.reduceLT, Nat.le_refl, nle1, nez1, nez2, x5, x9]
    refine ⟨rfl, ⟨rr, er, es, ep, ra, sa, pa, ?_, H2.keep ?_ ?_ (fun b hb hlt => ?_) (fun _ _ _ => rfl)⟩, ⟨fun b hb => ?_, ?_, ?_, ?_⟩⟩
    · refine ⟨?_, ⟨_, _, hp_s _ _ _⟩, ?_, ⟨v0, v1, v2, v3, ?_⟩, ?_, k6, ?_, ?_, ?_, o, ?_⟩ <;> rw [hp_n _ _ _ _ (by omega), hF _ (by omega) (by omega) (by omega)]
      · exact k1
      · exact k3
      · exact k4
      · exact k5
      · exact k7
      · exact k8
      · exact k9
      · exact k10
    · intro b hb
      have hb' : g4.2.1 ≤ b := hb
      rw [x2] at hb'
      have hb2 : h.2.1 + 2 ≤ b := hb'
      rw [hp_n _ _ _ _ (by omega), hF _ (by omega) (by omega) (by omega)]
      exact hN b (by omega)
    · show h.2.1 ≤ g4.2.1
      rw [x2]
      show h.2.1 ≤ h.2.1 + 2
      omega
    · rw [hp_n _ _ _ _ (by omega), hF _ (by omega) (by omega) (by omega)]
    · rw [hp_n _ _ _ _ (by omega), hF _ (by omega) (by omega) (by omega)]
    · show h.2.1 ≤ g4.2.1
      rw [x2]
      show h.2.1 ≤ h.2.1 + 2
      omega
    · show g4.2.1 ≤ h.2.1 + 5
      rw [x2]
      show h.2.1 + 2 ≤ h.2.1 + 5
      omega
    · show g4.2.2 ≤ h.2.2 + 1000
      rw [x2]
      show h.2.2 + 10 ≤ h.2.2 + 1000
      omega
  | inr cR =>
    obtain ⟨c, R⟩ := cR
    rw [hP] at hp
    obtain ⟨p1, p2, ⟨a, p, p3⟩, p4, p5⟩ := hp
    subst p1
    rw [f2] at p2
    have hF : ∀ b, b ≠ 9 → b ≠ h.2.1 → h1.1 b = h.1 b := fun b hb hb2 => by rw [p5 b hb hb2, f9 b hb hb2]
    have x5 : h1.1 5 = (0, [.ref 6, .ref 7, .ref 8, .ref 9, .ref 11, .ref rr, .ref 13, .int (nI (σ.1 1)), .int (nI (σ.1 2)), .ref 14, .ref 15, .int (nI (σ.1 0))]) := (hF 5 (by omega) (by omega)).trans k1
    have x9 : h1.1 9 = (1, [.ref 10, .int (nI (σ.1 3)), .int (nI a), .int p]) := by rw [p3, rdC]
    simp (disch := first | omega | (simp only [nlg_r, nlg_i, nlg_n, ok_0, ok_i, ok_r, ok_l]; done) | assumption | (simp only [List.length_set, List.length_append, List.length_cons, List.length_nil]; omega)) only [r_19_16, r_19_19, r_19_20, r_19_21, r_19_22, r_19_25, r_19_28, r_19_29, r_19_30, r_19_31, r_19_34, r_19_37, r_19_38, r_19_39, r_19_40, r_19_43, r_19_44, r_19_47, r_19_48, aft_v, aft_n, aft_t, gf_0, gf_s, pf_e, tg_e, hp_s, hp_n, hp_2, List.set_cons_zero, List.set_cons_succ, b2i_t, b2i_f, Ret_s, nlg_r, nlg_i, nlg_n, ok_0, ok_i, ok_r, ok_l, zi_e, zi_n, zi_t, Nat.reduceEqDiff, Nat.not_le, Nat.reduceLeDiff, if_true, if_false, eq_self, ↓reduceIte, Nat.reduceLT, Nat.le_refl, nle1, nez1, nez2, g9, e3, x5, x9]
    have q5 : 5 < h.2.1 := by omega
    refine ⟨rfl, ⟨h.2.1, er, es, ep, ra, sa, pa, ?_, H2.keep ?_ ?_ (fun b hb hlt => ?_) ?_⟩, ⟨fun b hb => ?_, ?_, ?_, ?_⟩⟩
    · refine ⟨?_, ⟨_, _, hp_s _ _ _⟩, ?_, ⟨v0, v1, v2, v3, ?_⟩, ?_, Or.inr h35, ?_, ?_, ?_, o, ?_⟩
      · rw [hp_n _ _ _ _ (by omega), hp_s]; rfl
      · rw [hp_n _ _ _ _ (by omega), hp_n _ _ _ _ (by omega), hF _ (by omega) (by omega)]; exact k3
      · rw [hp_n _ _ _ _ (by omega), hp_n _ _ _ _ (by omega), hF _ (by omega) (by omega)]; exact k4
      · rw [hp_n _ _ _ _ (by omega), hp_n _ _ _ _ (by omega)]; exact p4
      · rw [hp_n _ _ _ _ (by omega), hp_n _ _ _ _ (by omega), hF _ (by omega) (by omega)]; exact k7
      · rw [hp_n _ _ _ _ (by omega), hp_n _ _ _ _ (by omega), hF _ (by omega) (by omega)]; exact k8
      · rw [hp_n _ _ _ _ (by omega), hp_n _ _ _ _ (by omega), hF _ (by omega) (by omega)]; exact k9
      · rw [hp_n _ _ _ _ (by omega), hp_n _ _ _ _ (by omega), hF _ (by omega) (by omega)]; exact k10
    · intro b hb
      have hb' : h1.2.1 ≤ b := hb
      rw [p2] at hb'
      have hb2 : h.2.1 + 1 ≤ b := hb'
      rw [hp_n _ _ _ _ (by omega), hp_n _ _ _ _ (by omega), hF _ (by omega) (by omega)]
      exact hN b (by omega)
    · show h.2.1 ≤ h1.2.1
      rw [p2]
      show h.2.1 ≤ h.2.1 + 1
      omega
    · rw [hp_n _ _ _ _ (by omega), hp_n _ _ _ _ (by omega), hF _ (by omega) (by omega)]
    · intro j j1 j2
      show (uc σ 13 R).2 j = σ.2 j
      rw [uc_2, if_neg (by omega)]
    · rw [hp_n _ _ _ _ (by omega), hp_n _ _ _ _ (by omega), hF _ (by omega) (by omega)]
    · show h.2.1 ≤ h1.2.1
      rw [p2]
      show h.2.1 ≤ h.2.1 + 1
      omega
    · show h1.2.1 ≤ h.2.1 + 5
      rw [p2]
      show h.2.1 + 1 ≤ h.2.1 + 5
      omega
    · show h1.2.2 ≤ h.2.2 + 1000
      rw [p2]
      show h.2.2 + 4 ≤ h.2.2 + 1000
      omega
end DE
