/-! PLAIN LEAN, 49: the component's reader: number, one statement -/
theorem thw {d i pc k b : Nat} {L : List Value} {h : MH} {o : MO} (hm : mhan i = []) (hk : k < 3) : thrK d i pc L h.2.1 (hx k (hput h b o)) = some (.inr h.2.1, hx k (hput h b o)) := thx (h := hput h b o) hm hk
section DC
variable {σ : AS} {d : Nat} {h : MH} {p : Int32}
theorem c_63 {s a : Nat} (k9 : h.1 9 = rdC s a p) (k10 : h.1 10 = (22, iA (σ.2 12))) (hl : (σ.2 12).length = 40) (hs : s ≤ 40) (ha : a ≤ s) (hV : WV σ) (hq : ¬ (num (tx σ) s 5 a 0).1 = a) :
    run (d + 1) 63 0 [.ref 9, .null, .null] [] h = some (.inl (some (.int (nI (num (tx σ) s 5 a 0).2))), hput h 9 (rdC s (num (tx σ) s 5 a 0).1 p)) := by
  have e := c_63l (d := d) hl hs hV 5 0 a 0 h (by omega) ha (by omega) k9 k10
  have nb := num_b (t := tx σ) (sz := s) 5 a 0 ha
  simp only [show nI 0 = 0 from rfl, Nat.zero_add] at e
  generalize hE : (num (tx σ) s 5 a 0).1 = z at *
  generalize hv : (num (tx σ) s 5 a 0).2 = v at *
  have q : ¬ z - a ≤ 0 := by omega
  simp (disch := first | omega | (simp only [nlg_r, nlg_i, nlg_n, ok_0, ok_i, ok_r, ok_l]; done) | assumption | (simp only [List.length_set, List.length_append, List.length_cons, List.length_nil]; omega)) only [r_63_0, r_63_1, r_63_2, r_63_3, aft_v, aft_n, aft_t, gf_0, gf_s, pf_e, tg_e, hp_s, hp_n, hp_2, List.set_cons_zero, List.set_cons_succ, b2i_t, b2i_f, Ret_s, nlg_r, nlg_i, nlg_n, ok_0, ok_i, ok_r, ok_l, zi_e, zi_n, zi_t, Nat.reduceEqDiff, Nat.not_le, Nat.reduceLeDiff, if_true, if_false, eq_self, ↓reduceIte, Nat.reduceLT, Nat.le_refl, nle1, nez1, nez2, e]
  simp (disch := first | omega | (simp only [nlg_r, nlg_i, nlg_n, ok_0, ok_i, ok_r, ok_l]; done) | assumption | (simp only [List.length_set, List.length_append, List.length_cons, List.length_nil]; omega)) only [r_63_56, r_63_57, r_63_58, r_63_61, r_63_62, r_63_65, r_63_66, r_63_67, r_63_70, r_63_73, r_63_74, aft_v, aft_n, aft_t, gf_0, gf_s, pf_e, tg_e, hp_s, hp_n, hp_2, List.set_cons_zero, List.set_cons_succ, b2i_t, b2i_f, Ret_s, nlg_r, nlg_i, nlg_n, ok_0, ok_i, ok_r, ok_l, zi_e, zi_n, zi_t, Nat.reduceEqDiff, Nat.not_le, Nat.reduceLeDiff, if_true, if_false, eq_self, ↓reduceIte, Nat.reduceLT, Nat.le_refl, nle1, nez1, nez2, ei_r, ei_l, ni_r, ni_l, ti_r, ti_l, ai_r, ai_l, si_r, si_l, mi_r, mi_l, di_r, nI_eq, nI_leI, nI_ltI, nI_add, pk_sub, pk_mul, pk_div, pk_rem, nI_l, lN_i, q, rdC, c_62t]
theorem c_63f {s a : Nat} (k9 : h.1 9 = rdC s a p) (k10 : h.1 10 = (22, iA (σ.2 12))) (hl : (σ.2 12).length = 40) (hs : s ≤ 40) (ha : a ≤ s) (hV : WV σ) (h35 : 35 ≤ h.2.1) (hq : (num (tx σ) s 5 a 0).1 = a) :
    run (d + 1) 63 0 [.ref 9, .null, .null] [] h = some (.inr h.2.1, hx 2 (hput h 9 (rdC s a (nI a)))) := by
  have e := c_63l (d := d) hl hs hV 5 0 a 0 h (by omega) ha (by omega) k9 k10
  simp only [show nI 0 = 0 from rfl, Nat.zero_add, hq, Nat.sub_self, hp_id k9] at e
  generalize hv : (num (tx σ) s 5 a 0).2 = v at *
  have e2 := c_62f (d := d) (w := a) k9 h35
  have k9' := k9
  simp only [rdC] at k9'
  simp (disch := first | omega | (simp only [nlg_r, nlg_i, nlg_n, ok_0, ok_i, ok_r, ok_l]; done) | assumption | (simp only [List.length_set, List.length_append, List.length_cons, List.length_nil]; omega)) only [r_63_0, r_63_1, r_63_2, r_63_3, aft_v, aft_n, aft_t, gf_0, gf_s, pf_e, tg_e, hp_s, hp_n, hp_2, List.set_cons_zero, List.set_cons_succ, b2i_t, b2i_f, Ret_s, nlg_r, nlg_i, nlg_n, ok_0, ok_i, ok_r, ok_l, zi_e, zi_n, zi_t, Nat.reduceEqDiff, Nat.not_le, Nat.reduceLeDiff, if_true, if_false, eq_self, ↓reduceIte, Nat.reduceLT, Nat.le_refl, nle1, nez1, nez2, e]
  simp (disch := first | omega | (simp only [nlg_r, nlg_i, nlg_n, ok_0, ok_i, ok_r, ok_l]; done) | assumption | (simp only [List.length_set, List.length_append, List.length_cons, List.length_nil]; omega)) only [r_63_56, r_63_57, r_63_58, r_63_61, r_63_62, r_63_65, r_63_66, r_63_67, r_63_70, r_63_73, r_63_74, aft_v, aft_n, aft_t, gf_0, gf_s, pf_e, tg_e, hp_s, hp_n, hp_2, List.set_cons_zero, List.set_cons_succ, b2i_t, b2i_f, Ret_s, nlg_r, nlg_i, nlg_n, ok_0, ok_i, ok_r, ok_l, zi_e, zi_n, zi_t, Nat.reduceEqDiff, Nat.not_le, Nat.reduceLeDiff, if_true, if_false, eq_self, ↓reduceIte, Nat.reduceLT, Nat.le_refl, nle1, nez1, nez2, k9', e2, thw mh63 (show 2 < 3 by omega)]
/-- what reading comes to -/
def RdP (σ : AS) (s A : Nat) (h : MH) (r : Nat ⊕ (Nat × List Nat)) : Option Value ⊕ Nat → MH → Prop := fun o h' => match r with
  | .inl q => ∃ g a, o = .inr h.2.1 ∧ h' = hx 2 g ∧ g.2 = h.2 ∧ g.1 9 = rdC s a (nI q) ∧ ∀ b, b ≠ 9 → b ≠ A → g.1 b = h.1 b
  | .inr (c, R) => o = .inl (some (.int (nI c))) ∧ h'.2 = h.2 ∧ (∃ a p, h'.1 9 = rdC s a p) ∧ h'.1 A = (20, iA R) ∧ ∀ b, b ≠ 9 → b ≠ A → h'.1 b = h.1 b
theorem m1_lt : ((-1 : Int32) < 0) = True := by decide
set_option maxRecDepth 20000 in
theorem c_60a {s i n A : Nat} {x4 x5 x6 : Value} (k9 : h.1 9 = rdC s i p) (k10 : h.1 10 = (22, iA (σ.2 12))) (k2 : h.1 2 = (8, [.ref 3, .int 0])) (k3 : h.1 3 = (23, [.int 67, .int 76, .int 71, .int 87])) (hl : (σ.2 12).length = 40) (hs : s ≤ 40) (hi : i ≤ s) (hn : n ≤ 6) (hV : WV σ) (h35 : 35 ≤ h.2.1)
    (hb : (if i < s then plc (tx σ i) else none) = none ∨ n = 6) : run (d + 5) 60 9 [.ref 9, .ref A, .int (nI n), .int 1, x4, x5, x6] [] h = some (.inr h.2.1, hx 2 (hput h 9 (rdC s i (nI i)))) := by
  have e61 := c_61 (d := d + 4) k9 k10 hl hs (by omega) hV
  have hc : hrE (tx σ) s i ≤ 126 := by unfold hrE; split; exact (hV i).2.2.2.2.2.2.2.2.2.2.2.1; omega
  have e124 := c_124 (d := d) (h := h) (c := hrE (tx σ) s i) (by omega) k2 k3
  have e62 := c_62f (d := d + 4) (w := i) k9 h35
  have k9' := k9
  simp only [rdC] at k9'
  by_cases q1 : i < s
  · have q2 : ¬ s ≤ i := by omega
    have eh : hrE (tx σ) s i = tx σ i := by unfold hrE; rw [if_pos q1]
    rw [eh] at e61 e124
    rw [if_pos q1] at hb
    cases hp : plc (tx σ i) with
    | none =>
      rw [hp, oI_0] at e124
      conv => lhs; rw [r_60_9]
      simp (disch := first | omega | (simp only [nlg_r, nlg_i, nlg_n, ok_0, ok_i, ok_r, ok_l]; done) | assumption | (simp only [List.length_set, List.length_append, List.length_cons, List.length_nil]; omega)) only [r_60_10, r_60_13, r_60_15, r_60_16, r_60_19, r_60_22, r_60_24, r_60_25, r_60_26, r_60_29, r_60_30, r_60_33, r_60_36, r_60_38, r_60_41, r_60_42, r_60_44, r_60_47, r_60_48, r_60_51, r_60_52, r_60_53, r_60_56, aft_v, aft_n, aft_t, gf_0, gf_s, pf_e, tg_e, hp_s, hp_n, hp_2, List.set_cons_zero, List.set_cons_succ, b2i_t, b2i_f, Ret_s, nlg_r, nlg_i, nlg_n, ok_0, ok_i, ok_r, ok_l, zi_e, zi_n, zi_t, Nat.reduceEqDiff, Nat.not_le, Nat.reduceLeDiff, if_true, if_false, eq_self, ↓reduceIte, Nat.reduceLT, Nat.le_refl, nle1, nez1, nez2, ei_r, ei_l, ni_r, ni_l, ti_r, ti_l, ai_r, ai_l, si_r, si_l, mi_r, mi_l, di_r, nI_eq, nI_leI, nI_ltI, nI_add, pk_sub, pk_mul, pk_div, pk_rem, nI_l, lN_i, k9', k2, e61, e124, q2, m1_lt, e62, thw mh60 (show 2 < 3 by omega)]
    | some w =>
      rw [hp, oI_s] at e124
      have w4 := plc_lt hp
      have hn6 : n = 6 := by rcases hb with z | z; rw [hp] at z; cases z; exact z
      have q3 : ¬ w < 0 := by omega
      have q4 : 6 ≤ n := by omega
      conv => lhs; rw [r_60_9]
      simp (disch := first | omega | (simp only [nlg_r, nlg_i, nlg_n, ok_0, ok_i, ok_r, ok_l]; done) | assumption | (simp only [List.length_set, List.length_append, List.length_cons, List.length_nil]; omega)) only [r_60_10, r_60_13, r_60_15, r_60_16, r_60_19, r_60_22, r_60_24, r_60_25, r_60_26, r_60_29, r_60_30, r_60_33, r_60_36, r_60_38, r_60_41, r_60_42, r_60_44, r_60_47, r_60_48, r_60_51, r_60_52, r_60_53, r_60_56, aft_v, aft_n, aft_t, gf_0, gf_s, pf_e, tg_e, hp_s, hp_n, hp_2, List.set_cons_zero, List.set_cons_succ, b2i_t, b2i_f, Ret_s, nlg_r, nlg_i, nlg_n, ok_0, ok_i, ok_r, ok_l, zi_e, zi_n, zi_t, Nat.reduceEqDiff, Nat.not_le, Nat.reduceLeDiff, if_true, if_false, eq_self, ↓reduceIte, Nat.reduceLT, Nat.le_refl, nle1, nez1, nez2, ei_r, ei_l, ni_r, ni_l, ti_r, ti_l, ai_r, ai_l, si_r, si_l, mi_r, mi_l, di_r, nI_eq, nI_leI, nI_ltI, nI_add, pk_sub, pk_mul, pk_div, pk_rem, nI_l, lN_i, k9', k2, e61, e124, q2, q3, q4, e62, thw mh60 (show 2 < 3 by omega)]
  · have q2 : s ≤ i := by omega
    conv => lhs; rw [r_60_9]
    simp (disch := first | omega | (simp only [nlg_r, nlg_i, nlg_n, ok_0, ok_i, ok_r, ok_l]; done) | assumption | (simp only [List.length_set, List.length_append, List.length_cons, List.length_nil]; omega)) only [r_60_10, r_60_13, r_60_15, r_60_16, r_60_19, r_60_22, r_60_24, r_60_25, r_60_26, r_60_29, r_60_30, r_60_33, r_60_36, r_60_38, r_60_41, r_60_42, r_60_44, r_60_47, r_60_48, r_60_51, r_60_52, r_60_53, r_60_56, aft_v, aft_n, aft_t, gf_0, gf_s, pf_e, tg_e, hp_s, hp_n, hp_2, List.set_cons_zero, List.set_cons_succ, b2i_t, b2i_f, Ret_s, nlg_r, nlg_i, nlg_n, ok_0, ok_i, ok_r, ok_l, zi_e, zi_n, zi_t, Nat.reduceEqDiff, Nat.not_le, Nat.reduceLeDiff, if_true, if_false, eq_self, ↓reduceIte, Nat.reduceLT, Nat.le_refl, nle1, nez1, nez2, ei_r, ei_l, ni_r, ni_l, ti_r, ti_l, ai_r, ai_l, si_r, si_l, mi_r, mi_l, di_r, nI_eq, nI_leI, nI_ltI, nI_add, pk_sub, pk_mul, pk_div, pk_rem, nI_l, lN_i, k9', k2, e61, e124, q2, e62, thw mh60 (show 2 < 3 by omega)]
set_option maxRecDepth 20000 in
theorem c_60b {s i n A w : Nat} {x4 x5 x6 : Value} (k9 : h.1 9 = rdC s i p) (k10 : h.1 10 = (22, iA (σ.2 12))) (k2 : h.1 2 = (8, [.ref 3, .int 0])) (k3 : h.1 3 = (23, [.int 67, .int 76, .int 71, .int 87])) (hl : (σ.2 12).length = 40) (hs : s ≤ 40) (hi : i < s) (hn : n < 6) (hV : WV σ)
    (hb : plc (tx σ i) = some w) (n4 : nlg x4 = true) : run (d + 5) 60 9 [.ref 9, .ref A, .int (nI n), .int 1, x4, x5, x6] [] h = run (d + 5) 60 75 [.ref 9, .ref A, .int (nI n), .int 1, .int (nI w), .int (nI (i + 1)), x6] [] (hput h 9 (rdC s (i + 1) p)) := by
  have e61 := c_61 (d := d + 4) k9 k10 hl hs (by omega) hV
  have eh : hrE (tx σ) s i = tx σ i := by unfold hrE; rw [if_pos hi]
  rw [eh] at e61
  have hc : tx σ i ≤ 126 := (hV i).2.2.2.2.2.2.2.2.2.2.2.1
  have e124 := c_124 (d := d) (h := h) (c := tx σ i) (by omega) k2 k3
  rw [hb, oI_s] at e124
  have w4 := plc_lt hb
  have q2 : ¬ s ≤ i := by omega
  have q3 : ¬ w < 0 := by omega
  have q4 : ¬ 6 ≤ n := by omega
  have k9' := k9
  simp only [rdC] at k9'
  conv => lhs; rw [r_60_9]
  simp (disch := first | omega | (simp only [nlg_r, nlg_i, nlg_n, ok_0, ok_i, ok_r, ok_l]; done) | assumption | (simp only [List.length_set, List.length_append, List.length_cons, List.length_nil]; omega)) only [r_60_10, r_60_13, r_60_15, r_60_16, r_60_19, r_60_22, r_60_24, r_60_25, r_60_26, r_60_29, r_60_30, r_60_33, r_60_36, r_60_38, r_60_41, r_60_42, r_60_44, r_60_47, r_60_48, r_60_51, r_60_52, r_60_53, r_60_56, r_60_59, r_60_60, r_60_61, r_60_64, r_60_65, r_60_66, r_60_69, r_60_70, r_60_73, aft_v, aft_n, aft_t, gf_0, gf_s, pf_e, tg_e, hp_s, hp_n, hp_2, List.set_cons_zero, List.set_cons_succ, b2i_t, b2i_f, Ret_s, nlg_r, nlg_i, nlg_n, ok_0, ok_i, ok_r, ok_l, zi_e, zi_n, zi_t, Nat.reduceEqDiff, Nat.not_le, Nat.reduceLeDiff, if_true, if_false, eq_self, ↓reduceIte, Nat.reduceLT, Nat.le_refl, nle1, nez1, nez2, ei_r, ei_l, ni_r, ni_l, ti_r, ti_l, ai_r, ai_l, si_r, si_l, mi_r, mi_l, di_r, nI_eq, nI_leI, nI_ltI, nI_add, pk_sub, pk_mul, pk_div, pk_rem, nI_l, lN_i, k9', k2, e61, e124, q2, q3, q4, c_62t, rdC]
end DC
