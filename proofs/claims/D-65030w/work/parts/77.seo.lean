/-! PLAIN LEAN, 38: closed, reopens, harvest, changed in the component -/
theorem mh9o : hnd 9 7 (40 + 0) = some (some 22) ∧ hnd 9 7 (40 + 1) = some (some 26) := by decide +kernel
theorem mh10o : hnd 10 5 (40 + 0) = some (some 13) ∧ hnd 10 5 (40 + 1) = some (some 17) := by decide +kernel
theorem mh7o : hnd 7 4 (40 + 0) = some (some 12) ∧ hnd 7 4 (40 + 2) = some (some 15) := by decide +kernel
theorem mh11o : hnd 11 4 (40 + 0) = some (some 12) := by decide +kernel
section CS
variable {σ σ' : AS} {O : List Nat} {d rr er es ep : Nat} {ra sa pa : List Nat} {h h' : MH}
theorem w_closed1 (H : CP σ O h) {a y t : Int32} (hc : inR a 0 3 = false) : Ret (run (d + 4) 9 0 [.ref 5, .int a, .int y, .int t, .ref 34, .null] [] h) (CR h 1 0 σ O) := by
  obtain ⟨hx1, hx2, hN, h35⟩ := H.x 0
  obtain ⟨rr, hM⟩ := H.c5
  have e : run (d + 3) 40 0 [.ref 5, .int a, .int y, .int t] [] h = some (.inr h.2.1, hx 0 h) := by
    simp (disch := first | omega | (simp only [nlg_r, nlg_i, nlg_n, ok_0, ok_i, ok_r, ok_l]; done) | assumption | (simp only [List.length_set, List.length_append, List.length_cons, List.length_nil]; omega)) only [r_40_0, r_40_1, r_40_4, r_40_7, r_40_8, r_40_9, r_40_12, r_40_15, r_40_18, r_40_19, r_40_20, r_40_23, r_40_26, r_40_29, r_40_30, r_40_33, r_40_34, r_40_37, r_40_38, r_40_39, r_40_40, r_40_41, r_40_44, r_40_45, r_40_48_0, r_40_48_1, r_40_48_n, c_24, hc, c_25f, aft_v, aft_n, aft_t, gf_0, gf_s, pf_e, tg_e, hp_s, hp_n, hp_2, List.set_cons_zero, List.set_cons_succ, b2i_t, b2i_f, Ret_s, nlg_r, nlg_i, nlg_n, ok_0, ok_i, ok_r, ok_l, zi_e, zi_n, zi_t, Nat.reduceEqDiff, Nat.not_le, Nat.reduceLeDiff, if_true, if_false, eq_self, ↓reduceIte, Nat.reduceLT, Nat.le_refl, nle1, nez1, nez2, thx mh40 (show 0 < 3 by omega)]
  simp (disch := first | omega | (simp only [nlg_r, nlg_i, nlg_n, ok_0, ok_i, ok_r, ok_l]; done) | assumption | (simp only [List.length_set, List.length_append, List.length_cons, List.length_nil]; omega)) only [r_9_0, r_9_2, r_9_3, r_9_4, r_9_5, r_9_6, r_9_7, r_9_10, r_9_13, r_9_14, r_9_17, r_9_18, r_9_19, r_9_22, r_9_24, r_9_25, r_9_26, r_9_28, r_9_29, r_9_30, r_9_31, hM, c5, aft_v, aft_n, aft_t, gf_0, gf_s, pf_e, tg_e, hp_s, hp_n, hp_2, List.set_cons_zero, List.set_cons_succ, b2i_t, b2i_f, Ret_s, nlg_r, nlg_i, nlg_n, ok_0, ok_i, ok_r, ok_l, zi_e, zi_n, zi_t, Nat.reduceEqDiff, Nat.not_le, Nat.reduceLeDiff, if_true, if_false, eq_self, ↓reduceIte, Nat.reduceLT, Nat.le_refl, nle1, nez1, nez2, e, thy mh9o.1]
  exact ⟨rfl, hx1, hx2, fun z => by cases z⟩
theorem w_closed2 (H : CP σ O h) {a y t : Int32} (h1 : inR a 0 3 = true) (hc : (inR y 0 1000 && inR t 0 1000) = false) : Ret (run (d + 4) 9 0 [.ref 5, .int a, .int y, .int t, .ref 34, .null] [] h) (CR h 2 0 σ O) := by
  obtain ⟨hx1, hx2, hN, h35⟩ := H.x 1
  obtain ⟨rr, hM⟩ := H.c5
  have e : run (d + 3) 40 0 [.ref 5, .int a, .int y, .int t] [] h = some (.inr h.2.1, hx 1 h) := by
    cases e1 : inR y 0 1000 <;> cases e2 : inR t 0 1000 <;> simp only [e1, e2, Bool.and_self, Bool.and_false, Bool.false_and, reduceCtorEq] at hc
    all_goals simp (disch := first | omega | (simp only [nlg_r, nlg_i, nlg_n, ok_0, ok_i, ok_r, ok_l]; done) | assumption | (simp only [List.length_set, List.length_append, List.length_cons, List.length_nil]; omega)) only [r_40_0, r_40_1, r_40_4, r_40_7, r_40_8, r_40_9, r_40_12, r_40_15, r_40_18, r_40_19, r_40_20, r_40_23, r_40_26, r_40_29, r_40_30, r_40_33, r_40_34, r_40_37, r_40_38, r_40_39, r_40_40, r_40_41, r_40_44, r_40_45, r_40_48_0, r_40_48_1, r_40_48_n, c_21, c_24, h1, e1, e2, c_25t, c_26f, aft_v, aft_n, aft_t, gf_0, gf_s, pf_e, tg_e, hp_s, hp_n, hp_2, List.set_cons_zero, List.set_cons_succ, b2i_t, b2i_f, Ret_s, nlg_r, nlg_i, nlg_n, ok_0, ok_i, ok_r, ok_l, zi_e, zi_n, zi_t, Nat.reduceEqDiff, Nat.not_le, Nat.reduceLeDiff, if_true, if_false, eq_self, ↓reduceIte, Nat.reduceLT, Nat.le_refl, nle1, nez1, nez2, thx mh40 (show 1 < 3 by omega)]
  simp (disch := first | omega | (simp only [nlg_r, nlg_i, nlg_n, ok_0, ok_i, ok_r, ok_l]; done) | assumption | (simp only [List.length_set, List.length_append, List.length_cons, List.length_nil]; omega)) only [r_9_0, r_9_2, r_9_3, r_9_4, r_9_5, r_9_6, r_9_7, r_9_10, r_9_13, r_9_14, r_9_17, r_9_18, r_9_19, r_9_22, r_9_24, r_9_25, r_9_26, r_9_28, r_9_29, r_9_30, r_9_31, hM, c5, aft_v, aft_n, aft_t, gf_0, gf_s, pf_e, tg_e, hp_s, hp_n, hp_2, List.set_cons_zero, List.set_cons_succ, b2i_t, b2i_f, Ret_s, nlg_r, nlg_i, nlg_n, ok_0, ok_i, ok_r, ok_l, zi_e, zi_n, zi_t, Nat.reduceEqDiff, Nat.not_le, Nat.reduceLeDiff, if_true, if_false, eq_self, ↓reduceIte, Nat.reduceLT, Nat.le_refl, nle1, nez1, nez2, e, thy mh9o.2]
  exact ⟨rfl, hx1, hx2, fun z => by cases z⟩
theorem w_closed (H : CP σ O h) (hL : WL σ) (hV : WV σ) (hW : ru σ 3 ≤ 99) (hO : O.length ≤ 60) {a y t : Nat} (ha : a ≤ 3) (hy : y ≤ 1000) (ht : t ≤ 1000) : Ret (run (d + 5) 9 0 [.ref 5, .int (nI a), .int (nI y), .int (nI t), .ref 34, .null] [] h) (CR h 0 (if onD (cls σ O a y t) y = true then 1 else 0) σ O) := by
  obtain ⟨rr, er, es, ep, ra, sa, pa, H1, H2⟩ := H
  have hM := H1.1
  have e1 : inR (nI a) 0 3 = true := inR_nI (lo := 0) (hi := 3) (by omega) ha (by omega)
  have e2 : inR (nI y) 0 1000 = true := inR_nI (lo := 0) (hi := 1000) (by omega) hy (by omega)
  have e3 : inR (nI t) 0 1000 = true := inR_nI (lo := 0) (hi := 1000) (by omega) ht (by omega)
  obtain ⟨h1, f1, f2, f3⟩ := c_38 (d := d) H1 H2 hL hV hW hO (show a ≤ 1000 by omega) hy ht
  have c52 := c_52 (d := d + 3) f2 (cls_I hV hW O a y t) hy
  have H1' := H1.s11 f3 f2
  have H2' := H2.s11 f3
  have P : CP σ O h1 := ⟨rr, er, es, ep, ra, sa, pa, H1', H2'⟩
  obtain ⟨x, ho⟩ := P.o
  have f2' := f2
  simp only [clC] at f2'
  have eR : run (d + 4) 40 0 [.ref 5, .int (nI a), .int (nI y), .int (nI t)] [] h = some (.inl (some (.int (b2i (onD (cls σ O a y t) y)))), h1) := by
    cases q : onD (cls σ O a y t) y <;> rw [q] at c52 <;> simp (disch := first | omega | (simp only [nlg_r, nlg_i, nlg_n, ok_0, ok_i, ok_r, ok_l]; done) | assumption | (simp only [List.length_set, List.length_append, List.length_cons, List.length_nil]; omega)) only [r_40_0, r_40_1, r_40_4, r_40_7, r_40_8, r_40_9, r_40_12, r_40_15, r_40_18, r_40_19, r_40_20, r_40_23, r_40_26, r_40_29, r_40_30, r_40_33, r_40_34, r_40_37, r_40_38, r_40_39, r_40_40, r_40_41, r_40_44, r_40_45, r_40_48_0, r_40_48_1, r_40_48_n, hM, c5, c_21, c_24, e1, e2, e3, c_25t, c_26t, aft_v, aft_n, aft_t, gf_0, gf_s, pf_e, tg_e, hp_s, hp_n, hp_2, List.set_cons_zero, List.set_cons_succ, b2i_t, b2i_f, Ret_s, nlg_r, nlg_i, nlg_n, ok_0, ok_i, ok_r, ok_l, zi_e, zi_n, zi_t, Nat.reduceEqDiff, Nat.not_le, Nat.reduceLeDiff, if_true, if_false, eq_self, ↓reduceIte, Nat.reduceLT, Nat.le_refl, nle1, nez1, nez2, f1, f2', c52]
  cases q : onD (cls σ O a y t) y
  · rw [q] at eR
    simp (disch := first | omega | (simp only [nlg_r, nlg_i, nlg_n, ok_0, ok_i, ok_r, ok_l]; done) | assumption | (simp only [List.length_set, List.length_append, List.length_cons, List.length_nil]; omega)) only [r_9_0, r_9_2, r_9_3, r_9_4, r_9_5, r_9_6, r_9_7, r_9_10, r_9_13, r_9_14, r_9_17, r_9_18, r_9_19, r_9_22, r_9_24, r_9_25, r_9_26, r_9_28, r_9_29, r_9_30, r_9_31, hM, c5, aft_v, aft_n, aft_t, gf_0, gf_s, pf_e, tg_e, hp_s, hp_n, hp_2, List.set_cons_zero, List.set_cons_succ, b2i_t, b2i_f, Ret_s, nlg_r, nlg_i, nlg_n, ok_0, ok_i, ok_r, ok_l, zi_e, zi_n, zi_t, Nat.reduceEqDiff, Nat.not_le, Nat.reduceLeDiff, if_true, if_false, eq_self, ↓reduceIte, Nat.reduceLT, Nat.le_refl, nle1, nez1, nez2, eR, ho, as_o]
    exact ⟨rfl, P.out _, f3.fr.put (by omega), fun _ => by rw [hp_s]; rfl⟩
  · rw [q] at eR
    simp (disch := first | omega | (simp only [nlg_r, nlg_i, nlg_n, ok_0, ok_i, ok_r, ok_l]; done) | assumption | (simp only [List.length_set, List.length_append, List.length_cons, List.length_nil]; omega)) only [r_9_0, r_9_2, r_9_3, r_9_4, r_9_5, r_9_6, r_9_7, r_9_10, r_9_13, r_9_14, r_9_17, r_9_18, r_9_19, r_9_22, r_9_24, r_9_25, r_9_26, r_9_28, r_9_29, r_9_30, r_9_31, hM, c5, aft_v, aft_n, aft_t, gf_0, gf_s, pf_e, tg_e, hp_s, hp_n, hp_2, List.set_cons_zero, List.set_cons_succ, b2i_t, b2i_f, Ret_s, nlg_r, nlg_i, nlg_n, ok_0, ok_i, ok_r, ok_l, zi_e, zi_n, zi_t, Nat.reduceEqDiff, Nat.not_le, Nat.reduceLeDiff, if_true, if_false, eq_self, ↓reduceIte, Nat.reduceLT, Nat.le_refl, nle1, nez1, nez2, eR, ho, as_o]
    exact ⟨rfl, P.out _, f3.fr.put (by omega), fun _ => by rw [hp_s]⟩
theorem w_reopens1 (H : CP σ O h) {a t : Int32} (hc : inR a 0 3 = false) : Ret (run (d + 4) 10 0 [.ref 5, .int a, .int t, .ref 34, .null] [] h) (CR h 1 0 σ O) := by
  obtain ⟨hx1, hx2, hN, h35⟩ := H.x 0
  obtain ⟨rr, hM⟩ := H.c5
  have e : run (d + 3) 41 0 [.ref 5, .int a, .int t, .null] [] h = some (.inr h.2.1, hx 0 h) := by
    simp (disch := first | omega | (simp only [nlg_r, nlg_i, nlg_n, ok_0, ok_i, ok_r, ok_l]; done) | assumption | (simp only [List.length_set, List.length_append, List.length_cons, List.length_nil]; omega)) only [r_41_0, r_41_1, r_41_4, r_41_7, r_41_8, r_41_9, r_41_12, r_41_15, r_41_18, r_41_19, r_41_20, r_41_23, r_41_24, r_41_27, r_41_28, r_41_29, r_41_32, r_41_35, r_41_36, r_41_39, r_41_42, r_41_43, c_24, hc, c_25f, aft_v, aft_n, aft_t, gf_0, gf_s, pf_e, tg_e, hp_s, hp_n, hp_2, List.set_cons_zero, List.set_cons_succ, b2i_t, b2i_f, Ret_s, nlg_r, nlg_i, nlg_n, ok_0, ok_i, ok_r, ok_l, zi_e, zi_n, zi_t, Nat.reduceEqDiff, Nat.not_le, Nat.reduceLeDiff, if_true, if_false, eq_self, ↓reduceIte, Nat.reduceLT, Nat.le_refl, nle1, nez1, nez2, thx mh41 (show 0 < 3 by omega)]
  simp (disch := first | omega | (simp only [nlg_r, nlg_i, nlg_n, ok_0, ok_i, ok_r, ok_l]; done) | assumption | (simp only [List.length_set, List.length_append, List.length_cons, List.length_nil]; omega)) only [r_10_0, r_10_1, r_10_2, r_10_3, r_10_4, r_10_5, r_10_8, r_10_9, r_10_10, r_10_13, r_10_15, r_10_16, r_10_17, r_10_19, r_10_20, r_10_21, r_10_22, hM, c5, aft_v, aft_n, aft_t, gf_0, gf_s, pf_e, tg_e, hp_s, hp_n, hp_2, List.set_cons_zero, List.set_cons_succ, b2i_t, b2i_f, Ret_s, nlg_r, nlg_i, nlg_n, ok_0, ok_i, ok_r, ok_l, zi_e, zi_n, zi_t, Nat.reduceEqDiff, Nat.not_le, Nat.reduceLeDiff, if_true, if_false, eq_self, ↓reduceIte, Nat.reduceLT, Nat.le_refl, nle1, nez1, nez2, e, thy mh10o.1]
  exact ⟨rfl, hx1, hx2, fun z => by cases z⟩
theorem w_reopens2 (H : CP σ O h) {a t : Int32} (h1 : inR a 0 3 = true) (hc : inR t 0 1000 = false) : Ret (run (d + 4) 10 0 [.ref 5, .int a, .int t, .ref 34, .null] [] h) (CR h 2 0 σ O) := by
  obtain ⟨hx1, hx2, hN, h35⟩ := H.x 1
  obtain ⟨rr, hM⟩ := H.c5
  have e : run (d + 3) 41 0 [.ref 5, .int a, .int t, .null] [] h = some (.inr h.2.1, hx 1 h) := by
    simp (disch := first | omega | (simp only [nlg_r, nlg_i, nlg_n, ok_0, ok_i, ok_r, ok_l]; done) | assumption | (simp only [List.length_set, List.length_append, List.length_cons, List.length_nil]; omega)) only [r_41_0, r_41_1, r_41_4, r_41_7, r_41_8, r_41_9, r_41_12, r_41_15, r_41_18, r_41_19, r_41_20, r_41_23, r_41_24, r_41_27, r_41_28, r_41_29, r_41_32, r_41_35, r_41_36, r_41_39, r_41_42, r_41_43, c_21, c_24, h1, hc, c_25t, c_26f, aft_v, aft_n, aft_t, gf_0, gf_s, pf_e, tg_e, hp_s, hp_n, hp_2, List.set_cons_zero, List.set_cons_succ, b2i_t, b2i_f, Ret_s, nlg_r, nlg_i, nlg_n, ok_0, ok_i, ok_r, ok_l, zi_e, zi_n, zi_t, Nat.reduceEqDiff, Nat.not_le, Nat.reduceLeDiff, if_true, if_false, eq_self, ↓reduceIte, Nat.reduceLT, Nat.le_refl, nle1, nez1, nez2, thx mh41 (show 1 < 3 by omega)]
  simp (disch := first | omega | (simp only [nlg_r, nlg_i, nlg_n, ok_0, ok_i, ok_r, ok_l]; done) | assumption | (simp only [List.length_set, List.length_append, List.length_cons, List.length_nil]; omega)) only [r_10_0, r_10_1, r_10_2, r_10_3, r_10_4, r_10_5, r_10_8, r_10_9, r_10_10, r_10_13, r_10_15, r_10_16, r_10_17, r_10_19, r_10_20, r_10_21, r_10_22, hM, c5, aft_v, aft_n, aft_t, gf_0, gf_s, pf_e, tg_e, hp_s, hp_n, hp_2, List.set_cons_zero, List.set_cons_succ, b2i_t, b2i_f, Ret_s, nlg_r, nlg_i, nlg_n, ok_0, ok_i, ok_r, ok_l, zi_e, zi_n, zi_t, Nat.reduceEqDiff, Nat.not_le, Nat.reduceLeDiff, if_true, if_false, eq_self, ↓reduceIte, Nat.reduceLT, Nat.le_refl, nle1, nez1, nez2, e, thy mh10o.2]
  exact ⟨rfl, hx1, hx2, fun z => by cases z⟩
theorem w_reopens (H : CP σ O h) (hL : WL σ) (hV : WV σ) (hW : ru σ 3 ≤ 99) (hO : O.length ≤ 60) {a t : Nat} (ha : a ≤ 3) (ht : t ≤ 1000) : Ret (run (d + 5) 10 0 [.ref 5, .int (nI a), .int (nI t), .ref 34, .null] [] h) (CR h 0 (reo (cls σ O a 1000 t)).toInt64 σ O) := by
  obtain ⟨rr, er, es, ep, ra, sa, pa, H1, H2⟩ := H
  have hM := H1.1
  have e1 : inR (nI a) 0 3 = true := inR_nI (lo := 0) (hi := 3) (by omega) ha (by omega)
  have e3 : inR (nI t) 0 1000 = true := inR_nI (lo := 0) (hi := 1000) (by omega) ht (by omega)
  obtain ⟨h1, f1, f2, f3⟩ := c_38 (d := d) H1 H2 hL hV hW hO (show a ≤ 1000 by omega) (show 1000 ≤ 1000 by omega) ht
  simp only [show nI 1000 = 1000 from rfl] at f1
  have H1' := H1.s11 f3 f2
  have H2' := H2.s11 f3
  have P : CP σ O h1 := ⟨rr, er, es, ep, ra, sa, pa, H1', H2'⟩
  obtain ⟨x, ho⟩ := P.o
  simp only [clC] at f2
  have eR : run (d + 4) 41 0 [.ref 5, .int (nI a), .int (nI t), .null] [] h = some (.inl (some (.int (reo (cls σ O a 1000 t)))), h1) := by
    cases q : (cls σ O a 1000 t).1
    · rw [q] at f2
      simp (disch := first | omega | (simp only [nlg_r, nlg_i, nlg_n, ok_0, ok_i, ok_r, ok_l]; done) | assumption | (simp only [List.length_set, List.length_append, List.length_cons, List.length_nil]; omega)) only [r_41_0, r_41_1, r_41_4, r_41_7, r_41_8, r_41_9, r_41_12, r_41_15, r_41_18, r_41_19, r_41_20, r_41_23, r_41_24, r_41_27, r_41_28, r_41_29, r_41_32, r_41_35, r_41_36, r_41_39, r_41_42, r_41_43, hM, c5, c_21, c_24, e1, e3, c_25t, c_26t, aft_v, aft_n, aft_t, gf_0, gf_s, pf_e, tg_e, hp_s, hp_n, hp_2, List.set_cons_zero, List.set_cons_succ, b2i_t, b2i_f, Ret_s, nlg_r, nlg_i, nlg_n, ok_0, ok_i, ok_r, ok_l, zi_e, zi_n, zi_t, Nat.reduceEqDiff, Nat.not_le, Nat.reduceLeDiff, if_true, if_false, eq_self, ↓reduceIte, Nat.reduceLT, Nat.le_refl, nle1, nez1, nez2, f1, f2, reo, q]
      rfl
    · rw [q] at f2
      simp (disch := first | omega | (simp only [nlg_r, nlg_i, nlg_n, ok_0, ok_i, ok_r, ok_l]; done) | assumption | (simp only [List.length_set, List.length_append, List.length_cons, List.length_nil]; omega)) only [r_41_0, r_41_1, r_41_4, r_41_7, r_41_8, r_41_9, r_41_12, r_41_15, r_41_18, r_41_19, r_41_20, r_41_23, r_41_24, r_41_27, r_41_28, r_41_29, r_41_32, r_41_35, r_41_36, r_41_39, r_41_42, r_41_43, hM, c5, c_21, c_24, e1, e3, c_25t, c_26t, aft_v, aft_n, aft_t, gf_0, gf_s, pf_e, tg_e, hp_s, hp_n, hp_2, List.set_cons_zero, List.set_cons_succ, b2i_t, b2i_f, Ret_s, nlg_r, nlg_i, nlg_n, ok_0, ok_i, ok_r, ok_l, zi_e, zi_n, zi_t, Nat.reduceEqDiff, Nat.not_le, Nat.reduceLeDiff, if_true, if_false, eq_self, ↓reduceIte, Nat.reduceLT, Nat.le_refl, nle1, nez1, nez2, f1, f2, reo, q]
  simp (disch := first | omega | (simp only [nlg_r, nlg_i, nlg_n, ok_0, ok_i, ok_r, ok_l]; done) | assumption | (simp only [List.length_set, List.length_append, List.length_cons, List.length_nil]; omega)) only [r_10_0, r_10_1, r_10_2, r_10_3, r_10_4, r_10_5, r_10_8, r_10_9, r_10_10, r_10_13, r_10_15, r_10_16, r_10_17, r_10_19, r_10_20, r_10_21, r_10_22, hM, c5, aft_v, aft_n, aft_t, gf_0, gf_s, pf_e, tg_e, hp_s, hp_n, hp_2, List.set_cons_zero, List.set_cons_succ, b2i_t, b2i_f, Ret_s, nlg_r, nlg_i, nlg_n, ok_0, ok_i, ok_r, ok_l, zi_e, zi_n, zi_t, Nat.reduceEqDiff, Nat.not_le, Nat.reduceLeDiff, if_true, if_false, eq_self, ↓reduceIte, Nat.reduceLT, Nat.le_refl, nle1, nez1, nez2, eR, ho, as_o]
  exact ⟨rfl, P.out _, f3.fr.put (by omega), fun _ => by rw [hp_s]⟩
end CS
