/-! PLAIN LEAN, 17: harvest and changed in the twin -/
section TP1
variable {th d : Nat} {σ : AS} {h : MH} {O : List Nat}
theorem t_harvest1 (T : TW th σ h) (hL : WL σ) {r : Int32} (hc : inR r 0 (nI (σ.2 1).length - 1) = false) : Ret (run (d + 2) 83 0 [.ref 16, .int r, .null] [] h) (TP h (.int 0) 1 σ) := by
  have hn := t_noRope (d := d) (r := r) T
  obtain ⟨at_, wr, ic, op, mo, hmo, hM, a17, a18, a19, a20, a21, a22, a23, a24, a25, a26, a27, a28, a29, a30, a31, a32, a33⟩ := T
  obtain ⟨l1, l2, l3, l4, l5, l6, l7, l8, l9, l10, l11, l12, l13, l14, l15, l16⟩ := hL
  simp (disch := first | omega | (simp only [nlg_r, nlg_i, nlg_n, ok_0, ok_i, ok_r, ok_l]; done) | assumption | (simp only [List.length_set, List.length_append, List.length_cons, List.length_nil]; omega)) only [r_83_0, r_83_1, r_83_2, r_83_3, r_83_6, r_83_9, r_83_10, r_83_13, r_83_14, r_83_17, r_83_18, r_83_21, r_83_24, r_83_25, r_83_26, r_83_29, r_83_30, r_83_31, r_83_32, r_83_35, r_83_36, r_83_39, r_83_42, r_83_45, r_83_46, r_83_47, r_83_50, r_83_51, r_83_54, r_83_57, r_83_58, r_83_59, r_83_60, r_83_63, r_83_64, r_83_65, r_83_66, r_83_69, r_83_70, r_83_71, r_83_72, r_83_73, r_83_74, r_83_77, r_83_78, r_83_79, r_83_80, r_83_81, r_83_84, r_83_85, r_83_86, r_83_87, r_83_88, hn, hc, hM, mdl, aft_v, aft_n, aft_t, gf_0, gf_s, pf_e, tg_e, hp_s, hp_n, hp_2, List.set_cons_zero, List.set_cons_succ, b2i_t, b2i_f, Ret_s, nlg_r, nlg_i, nlg_n, ok_0, ok_i, ok_r, ok_l, zi_e, zi_n, zi_t, Nat.reduceEqDiff, Nat.not_le, Nat.reduceLeDiff, if_true, if_false, eq_self, ↓reduceIte, Nat.reduceLT, Nat.le_refl, nle1, nez1, nez2, Bool.not_true, Bool.not_false]
  refine ⟨?_, ⟨at_, wr, ic, op, mo, hmo, ?_, ?_⟩, ?_⟩
  · first | rfl | (simp (disch := first | omega | (simp only [nlg_r, nlg_i, nlg_n, ok_0, ok_i, ok_r, ok_l]; done) | assumption | (simp only [List.length_set, List.length_append, List.length_cons, List.length_nil]; omega)) only [aft_v, aft_n, aft_t, gf_0, gf_s, pf_e, tg_e, hp_s, hp_n, hp_2, List.set_cons_zero, List.set_cons_succ, b2i_t, b2i_f, Ret_s, nlg_r, nlg_i, nlg_n, ok_0, ok_i, ok_r, ok_l, zi_e, zi_n, zi_t, Nat.reduceEqDiff, Nat.not_le, Nat.reduceLeDiff, if_true, if_false, eq_self, ↓reduceIte, Nat.reduceLT, Nat.le_refl, nle1, nez1, nez2, ei_r, ei_l, ni_r, ni_l, ti_r, ti_l, ai_r, ai_l, si_r, si_l, mi_r, mi_l, di_r, nI_eq, nI_leI, nI_ltI, nI_add, pk_sub, pk_mul, pk_div, pk_rem, nI_l, lN_i, uc_1, uc_2, us_1, us_2, List.length_append, List.length_set, List.length_cons, List.length_nil, Nat.reduceAdd, Nat.add_sub_cancel]; done) | (simp (disch := first | omega | (simp only [nlg_r, nlg_i, nlg_n, ok_0, ok_i, ok_r, ok_l]; done) | assumption | (simp only [List.length_set, List.length_append, List.length_cons, List.length_nil]; omega)) only [aft_v, aft_n, aft_t, gf_0, gf_s, pf_e, tg_e, hp_s, hp_n, hp_2, List.set_cons_zero, List.set_cons_succ, b2i_t, b2i_f, Ret_s, nlg_r, nlg_i, nlg_n, ok_0, ok_i, ok_r, ok_l, zi_e, zi_n, zi_t, Nat.reduceEqDiff, Nat.not_le, Nat.reduceLeDiff, if_true, if_false, eq_self, ↓reduceIte, Nat.reduceLT, Nat.le_refl, nle1, nez1, nez2, ei_r, ei_l, ni_r, ni_l, ti_r, ti_l, ai_r, ai_l, si_r, si_l, mi_r, mi_l, di_r, nI_eq, nI_leI, nI_ltI, nI_add, pk_sub, pk_mul, pk_div, pk_rem, nI_l, lN_i, uc_1, uc_2, us_1, us_2, List.length_append, List.length_set, List.length_cons, List.length_nil, Nat.reduceAdd]; rfl)
  · first | (simp (disch := first | omega | (simp only [nlg_r, nlg_i, nlg_n, ok_0, ok_i, ok_r, ok_l]; done) | assumption | (simp only [List.length_set, List.length_append, List.length_cons, List.length_nil]; omega)) only [aft_v, aft_n, aft_t, gf_0, gf_s, pf_e, tg_e, hp_s, hp_n, hp_2, List.set_cons_zero, List.set_cons_succ, b2i_t, b2i_f, Ret_s, nlg_r, nlg_i, nlg_n, ok_0, ok_i, ok_r, ok_l, zi_e, zi_n, zi_t, Nat.reduceEqDiff, Nat.not_le, Nat.reduceLeDiff, if_true, if_false, eq_self, ↓reduceIte, Nat.reduceLT, Nat.le_refl, nle1, nez1, nez2, uc_1, uc_2, us_1, us_2, hM, mdl, ei_r, ei_l, ni_r, ni_l, ti_r, ti_l, ai_r, ai_l, si_r, si_l, mi_r, mi_l, di_r, nI_eq, nI_leI, nI_ltI, nI_add, pk_sub, pk_mul, pk_div, pk_rem, nI_l, lN_i, List.length_append, List.length_set, List.length_cons, List.length_nil, Nat.reduceAdd]; done) | (simp (disch := first | omega | (simp only [nlg_r, nlg_i, nlg_n, ok_0, ok_i, ok_r, ok_l]; done) | assumption | (simp only [List.length_set, List.length_append, List.length_cons, List.length_nil]; omega)) only [aft_v, aft_n, aft_t, gf_0, gf_s, pf_e, tg_e, hp_s, hp_n, hp_2, List.set_cons_zero, List.set_cons_succ, b2i_t, b2i_f, Ret_s, nlg_r, nlg_i, nlg_n, ok_0, ok_i, ok_r, ok_l, zi_e, zi_n, zi_t, Nat.reduceEqDiff, Nat.not_le, Nat.reduceLeDiff, if_true, if_false, eq_self, ↓reduceIte, Nat.reduceLT, Nat.le_refl, nle1, nez1, nez2, uc_1, uc_2, us_1, us_2, hM, mdl, ei_r, ei_l, ni_r, ni_l, ti_r, ti_l, ai_r, ai_l, si_r, si_l, mi_r, mi_l, di_r, nI_eq, nI_leI, nI_ltI, nI_add, pk_sub, pk_mul, pk_div, pk_rem, nI_l, lN_i, List.length_append, List.length_set, List.length_cons, List.length_nil, Nat.reduceAdd]; rfl)
  · simp (disch := first | omega | (simp only [nlg_r, nlg_i, nlg_n, ok_0, ok_i, ok_r, ok_l]; done) | assumption | (simp only [List.length_set, List.length_append, List.length_cons, List.length_nil]; omega)) only [TA, aft_v, aft_n, aft_t, gf_0, gf_s, pf_e, tg_e, hp_s, hp_n, hp_2, List.set_cons_zero, List.set_cons_succ, b2i_t, b2i_f, Ret_s, nlg_r, nlg_i, nlg_n, ok_0, ok_i, ok_r, ok_l, zi_e, zi_n, zi_t, Nat.reduceEqDiff, Nat.not_le, Nat.reduceLeDiff, if_true, if_false, eq_self, ↓reduceIte, Nat.reduceLT, Nat.le_refl, nle1, nez1, nez2, uc_1, uc_2, us_1, us_2, pad_push, pad_set, pad_zero, a17, a18, a19, a20, a21, a22, a23, a24, a25, a26, a27, a28, a29, a30, a31, a32, a33, and_self, List.length_append, List.length_set]
  · repeat (first | exact FrT.refl _ | refine FrT.put ?_ (by omega))
theorem t_harvest2 (T : TW th σ h) (hL : WL σ) (hV : WV σ) (hS : WS σ) (hW : ru σ 3 ≤ 99) (hO : Ord σ O) {k : Nat} (hk : k < (σ.2 1).length) (hon : onD (cls σ O ((σ.2 2).getD k 0) (σ.1 0) (σ.1 0)) (σ.1 0) = true) : Ret (run (d + 3) 83 0 [.ref 16, .int (nI k), .null] [] h) (TP h (.int 0) 2 σ) := by
  have hn := t_noRope (d := d + 1) (r := nI k) T
  have e1 : inR (nI k) 0 (nI (σ.2 1).length - 1) = true := inR_ok hk (by have := hL.1; omega)
  obtain ⟨at0, wr0, ic0, op0, hM0, T1⟩ := T.set 0
  have v3 := (hV k).2.2.1
  have hl1 := hL.1
  have s1 := hS.1
  obtain ⟨o, h', e, ho, T2, F2⟩ := tw_known (d := d) T1 hL hV hW hO (a := (σ.2 2).getD k 0) (y := σ.1 0) (t := σ.1 0) (by omega) (by omega) (by omega)
  subst ho
  rw [hon] at e
  have g2 : (pad 8 (σ.2 2)).getD k 0 = (σ.2 2).getD k 0 := pad_get (by have := hL.2.1; omega)
  have p2 := pad_len (n := 8) (l := σ.2 2) (by have := hL.1; have := hL.2.1; omega)
  simp only [mdl, show nI 0 = 0 from rfl] at e
  obtain ⟨at1, wr1, ic1, op1, hM1, T3⟩ := T2.set 2
  obtain ⟨at_, wr, ic, op, mo, hmo, hM, a17, a18, a19, a20, a21, a22, a23, a24, a25, a26, a27, a28, a29, a30, a31, a32, a33⟩ := T
  cases hM.symm.trans hM0
  simp (disch := first | omega | (simp only [nlg_r, nlg_i, nlg_n, ok_0, ok_i, ok_r, ok_l]; done) | assumption | (simp only [List.length_set, List.length_append, List.length_cons, List.length_nil]; omega)) only [r_83_0, r_83_1, r_83_2, r_83_3, r_83_6, r_83_9, r_83_10, r_83_13, r_83_14, r_83_17, r_83_18, r_83_21, r_83_24, r_83_25, r_83_26, r_83_29, r_83_30, r_83_31, r_83_32, r_83_35, r_83_36, r_83_39, r_83_42, r_83_45, r_83_46, r_83_47, r_83_50, r_83_51, r_83_54, r_83_57, r_83_58, r_83_59, r_83_60, r_83_63, r_83_64, r_83_65, r_83_66, r_83_69, r_83_70, r_83_71, r_83_72, r_83_73, r_83_74, r_83_77, r_83_78, r_83_79, r_83_80, r_83_81, r_83_84, r_83_85, r_83_86, r_83_87, r_83_88, hn, e1, hM, hM1, mdl, aft_v, aft_n, aft_t, gf_0, gf_s, pf_e, tg_e, hp_s, hp_n, hp_2, List.set_cons_zero, List.set_cons_succ, b2i_t, b2i_f, Ret_s, nlg_r, nlg_i, nlg_n, ok_0, ok_i, ok_r, ok_l, zi_e, zi_n, zi_t, Nat.reduceEqDiff, Nat.not_le, Nat.reduceLeDiff, if_true, if_false, eq_self, ↓reduceIte, Nat.reduceLT, Nat.le_refl, nle1, nez1, nez2, Bool.not_true, Bool.not_false, a20, al_i, g2, e]
  refine ⟨rfl, T3, (((FrT.refl h).put (by omega)).trans F2).put (by omega)⟩
theorem t_harvest (T : TW th σ h) (hL : WL σ) (hV : WV σ) (hS : WS σ) (hW : ru σ 3 ≤ 99) (hO : Ord σ O) {k : Nat} (hk : k < (σ.2 1).length) (hon : onD (cls σ O ((σ.2 2).getD k 0) (σ.1 0) (σ.1 0)) (σ.1 0) = false) : Ret (run (d + 3) 83 0 [.ref 16, .int (nI k), .null] [] h) (TP h (.int (nI ((σ.2 1).getD k 0 * (σ.2 3).getD k 0))) 0 (uc (uc σ 3 ((σ.2 3).set k 0)) 4 ((σ.2 4).set k 0))) := by
  have hn := t_noRope (d := d + 1) (r := nI k) T
  have e1 : inR (nI k) 0 (nI (σ.2 1).length - 1) = true := inR_ok hk (by have := hL.1; omega)
  obtain ⟨at0, wr0, ic0, op0, hM0, T1⟩ := T.set 0
  have v3 := (hV k).2.2.1
  have hl1 := hL.1
  have s1 := hS.1
  obtain ⟨o, h', e, ho, T2, F2⟩ := tw_known (d := d) T1 hL hV hW hO (a := (σ.2 2).getD k 0) (y := σ.1 0) (t := σ.1 0) (by omega) (by omega) (by omega)
  subst ho
  rw [hon] at e
  have g2 : (pad 8 (σ.2 2)).getD k 0 = (σ.2 2).getD k 0 := pad_get (by have := hL.2.1; omega)
  have p2 := pad_len (n := 8) (l := σ.2 2) (by have := hL.1; have := hL.2.1; omega)
  simp only [mdl, show nI 0 = 0 from rfl] at e
  have e9 : run (d + 1 + 2) 83 0 [.ref 16, .int (nI k), .null] [] h = run (d + 1 + 2) 83 59 [.ref 16, .int (nI k), .null] [] h' := by
    obtain ⟨at1, wr1, ic1, op1, mo1, hmo1, hM1, -⟩ := T2
    obtain ⟨at_, wr, ic, op, mo, hmo, hM, a17, a18, a19, a20, a21, a22, a23, a24, a25, a26, a27, a28, a29, a30, a31, a32, a33⟩ := T
    cases hM.symm.trans hM0
    simp (disch := first | omega | (simp only [nlg_r, nlg_i, nlg_n, ok_0, ok_i, ok_r, ok_l]; done) | assumption | (simp only [List.length_set, List.length_append, List.length_cons, List.length_nil]; omega)) only [r_83_0, r_83_1, r_83_2, r_83_3, r_83_6, r_83_9, r_83_10, r_83_13, r_83_14, r_83_17, r_83_18, r_83_21, r_83_24, r_83_25, r_83_26, r_83_29, r_83_30, r_83_31, r_83_32, r_83_35, r_83_36, r_83_39, r_83_42, r_83_45, r_83_46, r_83_47, r_83_50, r_83_51, r_83_54, r_83_57, r_83_58, hn, e1, hM, hM1, mdl, aft_v, aft_n, aft_t, gf_0, gf_s, pf_e, tg_e, hp_s, hp_n, hp_2, List.set_cons_zero, List.set_cons_succ, b2i_t, b2i_f, Ret_s, nlg_r, nlg_i, nlg_n, ok_0, ok_i, ok_r, ok_l, zi_e, zi_n, zi_t, Nat.reduceEqDiff, Nat.not_le, Nat.reduceLeDiff, if_true, if_false, eq_self, ↓reduceIte, Nat.reduceLT, Nat.le_refl, nle1, nez1, nez2, Bool.not_true, Bool.not_false, a20, al_i, g2, e, show nI 0 = 0 from rfl]
  have F1 : FrT h h' := ((FrT.refl h).put (by omega)).trans F2
  rw [show d + 3 = d + 1 + 2 from rfl, e9]
  obtain ⟨at_, wr, ic, op, mo, hmo, hM, a17, a18, a19, a20, a21, a22, a23, a24, a25, a26, a27, a28, a29, a30, a31, a32, a33⟩ := T2
  obtain ⟨l1, l2, l3, l4, l5, l6, l7, l8, l9, l10, l11, l12, l13, l14, l15, l16⟩ := hL
  have p1 := pad_len (n := 8) (l := σ.2 1) (by omega)
  have p3 := pad_len (n := 8) (l := σ.2 3) (by omega)
  have p4 := pad_len (n := 8) (l := σ.2 4) (by omega)
  have g1 : (pad 8 (σ.2 1)).getD k 0 = (σ.2 1).getD k 0 := pad_get (by omega)
  have g3 : (pad 8 (σ.2 3)).getD k 0 = (σ.2 3).getD k 0 := pad_get (by omega)
  simp (disch := first | omega | (simp only [nlg_r, nlg_i, nlg_n, ok_0, ok_i, ok_r, ok_l]; done) | assumption | (simp only [List.length_set, List.length_append, List.length_cons, List.length_nil]; omega)) only [r_83_59, r_83_60, r_83_63, r_83_64, r_83_65, r_83_66, r_83_69, r_83_70, r_83_71, r_83_72, r_83_73, r_83_74, r_83_77, r_83_78, r_83_79, r_83_80, r_83_81, r_83_84, r_83_85, r_83_86, r_83_87, r_83_88, hM, mdl, aft_v, aft_n, aft_t, gf_0, gf_s, pf_e, tg_e, hp_s, hp_n, hp_2, List.set_cons_zero, List.set_cons_succ, b2i_t, b2i_f, Ret_s, nlg_r, nlg_i, nlg_n, ok_0, ok_i, ok_r, ok_l, zi_e, zi_n, zi_t, Nat.reduceEqDiff, Nat.not_le, Nat.reduceLeDiff, if_true, if_false, eq_self, ↓reduceIte, Nat.reduceLT, Nat.le_refl, nle1, nez1, nez2, ei_r, ei_l, ni_r, ni_l, ti_r, ti_l, ai_r, ai_l, si_r, si_l, mi_r, mi_l, di_r, nI_eq, nI_leI, nI_ltI, nI_add, pk_sub, pk_mul, pk_div, pk_rem, nI_l, lN_i, a19, a21, a22, al_i, as_i, as_v, g1, g3]
  refine ⟨?_, ⟨at_, wr, ic, op, mo, hmo, ?_, ?_⟩, ?_⟩
  · rfl
  · simp (disch := first | omega | (simp only [nlg_r, nlg_i, nlg_n, ok_0, ok_i, ok_r, ok_l]; done) | assumption | (simp only [List.length_set, List.length_append, List.length_cons, List.length_nil]; omega)) only [aft_v, aft_n, aft_t, gf_0, gf_s, pf_e, tg_e, hp_s, hp_n, hp_2, List.set_cons_zero, List.set_cons_succ, b2i_t, b2i_f, Ret_s, nlg_r, nlg_i, nlg_n, ok_0, ok_i, ok_r, ok_l, zi_e, zi_n, zi_t, Nat.reduceEqDiff, Nat.not_le, Nat.reduceLeDiff, if_true, if_false, eq_self, ↓reduceIte, Nat.reduceLT, Nat.le_refl, nle1, nez1, nez2, uc_1, uc_2, hM]
  · simp (disch := first | omega | (simp only [nlg_r, nlg_i, nlg_n, ok_0, ok_i, ok_r, ok_l]; done) | assumption | (simp only [List.length_set, List.length_append, List.length_cons, List.length_nil]; omega)) only [TA, aft_v, aft_n, aft_t, gf_0, gf_s, pf_e, tg_e, hp_s, hp_n, hp_2, List.set_cons_zero, List.set_cons_succ, b2i_t, b2i_f, Ret_s, nlg_r, nlg_i, nlg_n, ok_0, ok_i, ok_r, ok_l, zi_e, zi_n, zi_t, Nat.reduceEqDiff, Nat.not_le, Nat.reduceLeDiff, if_true, if_false, eq_self, ↓reduceIte, Nat.reduceLT, Nat.le_refl, nle1, nez1, nez2, uc_1, uc_2, pad_set, a17, a18, a19, a20, a21, a22, a23, a24, a25, a26, a27, a28, a29, a30, a31, a32, a33, and_self]
  · exact F1.trans (((FrT.refl h').put (by omega)).put (by omega))
theorem t_changed1 (T : TW th σ h) (hL : WL σ) {a : Int32} (hc : inR a 0 3 = false) (hS : WS σ) : Ret (run (d + 1) 96 0 [.ref 16, .int a, .null, .null, .null] [] h) (TP h (.int 0) 1 σ) := by
  obtain ⟨s1, -⟩ := hS
  obtain ⟨at_, wr, ic, op, mo, hmo, hM, a17, a18, a19, a20, a21, a22, a23, a24, a25, a26, a27, a28, a29, a30, a31, a32, a33⟩ := T
  obtain ⟨l1, l2, l3, l4, l5, l6, l7, l8, l9, l10, l11, l12, l13, l14, l15, l16⟩ := hL
  have q : ¬ σ.1 0 < 0 := by omega
  simp (disch := first | omega | (simp only [nlg_r, nlg_i, nlg_n, ok_0, ok_i, ok_r, ok_l]; done) | assumption | (simp only [List.length_set, List.length_append, List.length_cons, List.length_nil]; omega)) only [r_96_0, r_96_1, r_96_2, r_96_3, r_96_4, r_96_7, r_96_10, r_96_11, r_96_14, r_96_15, r_96_18, r_96_19, r_96_20, r_96_21, r_96_22, r_96_23, r_96_24, r_96_27, r_96_30, r_96_31, r_96_34, r_96_37, r_96_38, r_96_39, r_96_40, r_96_41, r_96_44, r_96_47, r_96_49, r_96_50, r_96_51, r_96_52, r_96_53, r_96_56, r_96_58, r_96_61, r_96_62, r_96_63, r_96_64, r_96_67, r_96_68, r_96_69, r_96_72, r_96_75, r_96_76, c_74, hc, hM, mdl, aft_v, aft_n, aft_t, gf_0, gf_s, pf_e, tg_e, hp_s, hp_n, hp_2, List.set_cons_zero, List.set_cons_succ, b2i_t, b2i_f, Ret_s, nlg_r, nlg_i, nlg_n, ok_0, ok_i, ok_r, ok_l, zi_e, zi_n, zi_t, Nat.reduceEqDiff, Nat.not_le, Nat.reduceLeDiff, if_true, if_false, eq_self, ↓reduceIte, Nat.reduceLT, Nat.le_refl, nle1, nez1, nez2, ei_r, ei_l, ni_r, ni_l, ti_r, ti_l, ai_r, ai_l, si_r, si_l, mi_r, mi_l, di_r, nI_eq, nI_leI, nI_ltI, nI_add, pk_sub, pk_mul, pk_div, pk_rem, nI_l, lN_i, q]
  refine ⟨?_, ⟨at_, wr, ic, op, mo, hmo, ?_, ?_⟩, ?_⟩
  · first | rfl | (simp (disch := first | omega | (simp only [nlg_r, nlg_i, nlg_n, ok_0, ok_i, ok_r, ok_l]; done) | assumption | (simp only [List.length_set, List.length_append, List.length_cons, List.length_nil]; omega)) only [aft_v, aft_n, aft_t, gf_0, gf_s, pf_e, tg_e, hp_s, hp_n, hp_2, List.set_cons_zero, List.set_cons_succ, b2i_t, b2i_f, Ret_s, nlg_r, nlg_i, nlg_n, ok_0, ok_i, ok_r, ok_l, zi_e, zi_n, zi_t, Nat.reduceEqDiff, Nat.not_le, Nat.reduceLeDiff, if_true, if_false, eq_self, ↓reduceIte, Nat.reduceLT, Nat.le_refl, nle1, nez1, nez2, ei_r, ei_l, ni_r, ni_l, ti_r, ti_l, ai_r, ai_l, si_r, si_l, mi_r, mi_l, di_r, nI_eq, nI_leI, nI_ltI, nI_add, pk_sub, pk_mul, pk_div, pk_rem, nI_l, lN_i, uc_1, uc_2, us_1, us_2, List.length_append, List.length_set, List.length_cons, List.length_nil, Nat.reduceAdd, Nat.add_sub_cancel]; done) | (simp (disch := first | omega | (simp only [nlg_r, nlg_i, nlg_n, ok_0, ok_i, ok_r, ok_l]; done) | assumption | (simp only [List.length_set, List.length_append, List.length_cons, List.length_nil]; omega)) only [aft_v, aft_n, aft_t, gf_0, gf_s, pf_e, tg_e, hp_s, hp_n, hp_2, List.set_cons_zero, List.set_cons_succ, b2i_t, b2i_f, Ret_s, nlg_r, nlg_i, nlg_n, ok_0, ok_i, ok_r, ok_l, zi_e, zi_n, zi_t, Nat.reduceEqDiff, Nat.not_le, Nat.reduceLeDiff, if_true, if_false, eq_self, ↓reduceIte, Nat.reduceLT, Nat.le_refl, nle1, nez1, nez2, ei_r, ei_l, ni_r, ni_l, ti_r, ti_l, ai_r, ai_l, si_r, si_l, mi_r, mi_l, di_r, nI_eq, nI_leI, nI_ltI, nI_add, pk_sub, pk_mul, pk_div, pk_rem, nI_l, lN_i, uc_1, uc_2, us_1, us_2, List.length_append, List.length_set, List.length_cons, List.length_nil, Nat.reduceAdd]; rfl)
  · first | (simp (disch := first | omega | (simp only [nlg_r, nlg_i, nlg_n, ok_0, ok_i, ok_r, ok_l]; done) | assumption | (simp only [List.length_set, List.length_append, List.length_cons, List.length_nil]; omega)) only [aft_v, aft_n, aft_t, gf_0, gf_s, pf_e, tg_e, hp_s, hp_n, hp_2, List.set_cons_zero, List.set_cons_succ, b2i_t, b2i_f, Ret_s, nlg_r, nlg_i, nlg_n, ok_0, ok_i, ok_r, ok_l, zi_e, zi_n, zi_t, Nat.reduceEqDiff, Nat.not_le, Nat.reduceLeDiff, if_true, if_false, eq_self, ↓reduceIte, Nat.reduceLT, Nat.le_refl, nle1, nez1, nez2, uc_1, uc_2, us_1, us_2, hM, mdl, ei_r, ei_l, ni_r, ni_l, ti_r, ti_l, ai_r, ai_l, si_r, si_l, mi_r, mi_l, di_r, nI_eq, nI_leI, nI_ltI, nI_add, pk_sub, pk_mul, pk_div, pk_rem, nI_l, lN_i, List.length_append, List.length_set, List.length_cons, List.length_nil, Nat.reduceAdd]; done) | (simp (disch := first | omega | (simp only [nlg_r, nlg_i, nlg_n, ok_0, ok_i, ok_r, ok_l]; done) | assumption | (simp only [List.length_set, List.length_append, List.length_cons, List.length_nil]; omega)) only [aft_v, aft_n, aft_t, gf_0, gf_s, pf_e, tg_e, hp_s, hp_n, hp_2, List.set_cons_zero, List.set_cons_succ, b2i_t, b2i_f, Ret_s, nlg_r, nlg_i, nlg_n, ok_0, ok_i, ok_r, ok_l, zi_e, zi_n, zi_t, Nat.reduceEqDiff, Nat.not_le, Nat.reduceLeDiff, if_true, if_false, eq_self, ↓reduceIte, Nat.reduceLT, Nat.le_refl, nle1, nez1, nez2, uc_1, uc_2, us_1, us_2, hM, mdl, ei_r, ei_l, ni_r, ni_l, ti_r, ti_l, ai_r, ai_l, si_r, si_l, mi_r, mi_l, di_r, nI_eq, nI_leI, nI_ltI, nI_add, pk_sub, pk_mul, pk_div, pk_rem, nI_l, lN_i, List.length_append, List.length_set, List.length_cons, List.length_nil, Nat.reduceAdd]; rfl)
  · simp (disch := first | omega | (simp only [nlg_r, nlg_i, nlg_n, ok_0, ok_i, ok_r, ok_l]; done) | assumption | (simp only [List.length_set, List.length_append, List.length_cons, List.length_nil]; omega)) only [TA, aft_v, aft_n, aft_t, gf_0, gf_s, pf_e, tg_e, hp_s, hp_n, hp_2, List.set_cons_zero, List.set_cons_succ, b2i_t, b2i_f, Ret_s, nlg_r, nlg_i, nlg_n, ok_0, ok_i, ok_r, ok_l, zi_e, zi_n, zi_t, Nat.reduceEqDiff, Nat.not_le, Nat.reduceLeDiff, if_true, if_false, eq_self, ↓reduceIte, Nat.reduceLT, Nat.le_refl, nle1, nez1, nez2, uc_1, uc_2, us_1, us_2, pad_push, pad_set, pad_zero, a17, a18, a19, a20, a21, a22, a23, a24, a25, a26, a27, a28, a29, a30, a31, a32, a33, and_self, List.length_append, List.length_set]
  · repeat (first | exact FrT.refl _ | refine FrT.put ?_ (by omega))
/-- how many days' word has changed -/
def chg (σ : AS) (O : List Nat) (a : Nat) : Nat → Nat
  | 0 => 0
  | k + 1 => chg σ O a k + (if onD (cls σ O a k (σ.1 0)) k = onD (cls σ O a k k) k then 0 else 1)
theorem chg_le (σ : AS) (O : List Nat) (a : Nat) : ∀ k, chg σ O a k ≤ k
  | 0 => Nat.le_refl _
  | k + 1 => by have := chg_le σ O a k; unfold chg; split <;> omega
set_option maxRecDepth 20000 in
theorem t_chl (hL : WL σ) (hV : WV σ) (hS : WS σ) (hW : ru σ 3 ≤ 99) (hO : Ord σ O) {a : Nat} (ha : a ≤ 3) : ∀ (m k : Nat) (h : MH) (z : Value), k + m = σ.1 0 + 1 → TW 0 σ h → Ret (run (d + 3) 96 22 [.ref 16, .int (nI a), .int (nI (chg σ O a k)), .int (nI k), z] [] h) (TP h (.int (nI (chg σ O a (σ.1 0 + 1)))) 0 σ) := by
  have s1 := hS.1
  intro m
  induction m with
  | zero =>
    intro k h z hk T
    have hk : k = σ.1 0 + 1 := by omega
    subst hk
    have T0 := T
    obtain ⟨at_, wr, ic, op, mo, hmo, hM, -⟩ := T
    have q : σ.1 0 < σ.1 0 + 1 := by omega
    simp (disch := first | omega | (simp only [nlg_r, nlg_i, nlg_n, ok_0, ok_i, ok_r, ok_l]; done) | assumption | (simp only [List.length_set, List.length_append, List.length_cons, List.length_nil]; omega)) only [r_96_22, r_96_23, r_96_24, r_96_27, r_96_75, r_96_76, hM, mdl, aft_v, aft_n, aft_t, gf_0, gf_s, pf_e, tg_e, hp_s, hp_n, hp_2, List.set_cons_zero, List.set_cons_succ, b2i_t, b2i_f, Ret_s, nlg_r, nlg_i, nlg_n, ok_0, ok_i, ok_r, ok_l, zi_e, zi_n, zi_t, Nat.reduceEqDiff, Nat.not_le, Nat.reduceLeDiff, if_true, if_false, eq_self, ↓reduceIte, Nat.reduceLT, Nat.le_refl, nle1, nez1, nez2, ei_r, ei_l, ni_r, ni_l, ti_r, ti_l, ai_r, ai_l, si_r, si_l, mi_r, mi_l, di_r, nI_eq, nI_leI, nI_ltI, nI_add, pk_sub, pk_mul, pk_div, pk_rem, nI_l, lN_i, q]
    exact ⟨rfl, T0, FrT.refl h⟩
  | succ m ih =>
    intro k h z hk T
    obtain ⟨o1, h1, e1, ho1, T1, F1⟩ := tw_known (d := d) T hL hV hW hO (a := a) (y := k) (t := σ.1 0) (by omega) (by omega) (by omega)
    subst ho1
    obtain ⟨o2, h2, e2, ho2, T2, F2⟩ := tw_known (d := d) T1 hL hV hW hO (a := a) (y := k) (t := k) (by omega) (by omega) (by omega)
    subst ho2
    obtain ⟨o, h', e, ho, T3, F3⟩ := ih (k + 1) h2 (.int (b2i (onD (cls σ O a k (σ.1 0)) k))) (by omega) T2
    refine ⟨o, h', ?_, ho, T3, (F1.trans F2).trans F3⟩
    have q : ¬ σ.1 0 < k := by omega
    obtain ⟨at_, wr, ic, op, mo, hmo, hM, -⟩ := T
    obtain ⟨at1, wr1, ic1, op1, mo1, hmo1, hM1, -⟩ := T1
    have hcl := chg_le σ O a k
    rw [← e, chg]
    conv => lhs; rw [r_96_22]
    cases x1 : onD (cls σ O a k (σ.1 0)) k <;> cases x2 : onD (cls σ O a k k) k <;> rw [x1] at e1 <;> rw [x2] at e2 <;>
    simp (disch := first | omega | (simp only [nlg_r, nlg_i, nlg_n, ok_0, ok_i, ok_r, ok_l]; done) | assumption | (simp only [List.length_set, List.length_append, List.length_cons, List.length_nil]; omega)) only [r_96_23, r_96_24, r_96_27, r_96_30, r_96_31, r_96_34, r_96_37, r_96_38, r_96_39, r_96_40, r_96_41, r_96_44, r_96_47, r_96_49, r_96_50, r_96_51, r_96_52, r_96_53, r_96_56, r_96_58, r_96_61, r_96_62, r_96_63, r_96_64, r_96_67, r_96_68, r_96_69, r_96_72, hM, hM1, mdl, aft_v, aft_n, aft_t, gf_0, gf_s, pf_e, tg_e, hp_s, hp_n, hp_2, List.set_cons_zero, List.set_cons_succ, b2i_t, b2i_f, Ret_s, nlg_r, nlg_i, nlg_n, ok_0, ok_i, ok_r, ok_l, zi_e, zi_n, zi_t, Nat.reduceEqDiff, Nat.not_le, Nat.reduceLeDiff, if_true, if_false, eq_self, ↓reduceIte, Nat.reduceLT, Nat.le_refl, nle1, nez1, nez2, ei_r, ei_l, ni_r, ni_l, ti_r, ti_l, ai_r, ai_l, si_r, si_l, mi_r, mi_l, di_r, nI_eq, nI_leI, nI_ltI, nI_add, pk_sub, pk_mul, pk_div, pk_rem, nI_l, lN_i, q, e1, e2, Nat.add_zero, Bool.false_eq_true, Bool.true_eq_false, show nI 0 = 0 from rfl]
theorem t_changed (T : TW th σ h) (hL : WL σ) (hV : WV σ) (hS : WS σ) (hW : ru σ 3 ≤ 99) (hO : Ord σ O) {a : Nat} (ha : a ≤ 3) : Ret (run (d + 3) 96 0 [.ref 16, .int (nI a), .null, .null, .null] [] h) (TP h (.int (nI (chg σ O a (σ.1 0 + 1)))) 0 σ) := by
  obtain ⟨at_, wr, ic, op, hM, T1⟩ := T.set 0
  have e1 : inR (nI a) 0 3 = true := inR_nI (lo := 0) (hi := 3) (by omega) ha (by omega)
  obtain ⟨o, h', e, ho, T3, F3⟩ := t_chl (d := d) hL hV hS hW hO ha (σ.1 0 + 1) 0 _ .null (by omega) T1
  refine ⟨o, h', ?_, ho, T3, ((FrT.refl h).put (by omega)).trans F3⟩
  rw [← e]
  simp (disch := first | omega | (simp only [nlg_r, nlg_i, nlg_n, ok_0, ok_i, ok_r, ok_l]; done) | assumption | (simp only [List.length_set, List.length_append, List.length_cons, List.length_nil]; omega)) only [r_96_0, r_96_1, r_96_2, r_96_3, r_96_4, r_96_7, r_96_10, r_96_11, r_96_14, r_96_15, r_96_18, r_96_19, r_96_20, r_96_21, c_74, e1, hM, mdl, aft_v, aft_n, aft_t, gf_0, gf_s, pf_e, tg_e, hp_s, hp_n, hp_2, List.set_cons_zero, List.set_cons_succ, b2i_t, b2i_f, Ret_s, nlg_r, nlg_i, nlg_n, ok_0, ok_i, ok_r, ok_l, zi_e, zi_n, zi_t, Nat.reduceEqDiff, Nat.not_le, Nat.reduceLeDiff, if_true, if_false, eq_self, ↓reduceIte, Nat.reduceLT, Nat.le_refl, nle1, nez1, nez2, chg, show nI 0 = 0 from rfl]
end TP1
