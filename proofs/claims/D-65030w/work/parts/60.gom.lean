/-! PLAIN LEAN, 21: reading the text in the twin, statement by statement -/
theorem plc_lt {c q : Nat} (h : plc c = some q) : q < 4 := by
  unfold plc at h
  repeat' split at h
  all_goals first | (cases h; omega) | cases h
section TT
variable {th d : Nat} {σ : AS} {h : MH}
/-- the twin's cell, with the text's places -/
abbrev mdY (th : Nat) (σ : AS) (a w : Nat) (ic op : Int32) : MO := mdl th (σ.1 0) (σ.2 1).length (σ.1 1) (σ.1 2) (σ.2 6).length (σ.1 3) (nI a) (nI w) (σ.2 10).length ic op
theorem TY.put {a w : Nat} (T : TY th σ a w h) (a' w' : Nat) : ∃ ic op, h.1 16 = mdY th σ a w ic op ∧ TY th σ a' w' (hput h 16 (mdY th σ a' w' ic op)) := by
  obtain ⟨ic, op, mo, hmo, hM, a17, a18, a19, a20, a21, a22, a23, a24, a25, a26, a27, a28, a29, a30, a31, a32, a33⟩ := T
  refine ⟨ic, op, hM, ic, op, mo, hmo, ?_, ?_⟩
  · simp (disch := first | omega | (simp only [nlg_r, nlg_i, nlg_n, ok_0, ok_i, ok_r, ok_l]; done) | assumption | (simp only [List.length_set, List.length_append, List.length_cons, List.length_nil]; omega)) only [aft_v, aft_n, aft_t, gf_0, gf_s, pf_e, tg_e, hp_s, hp_n, hp_2, List.set_cons_zero, List.set_cons_succ, b2i_t, b2i_f, Ret_s, nlg_r, nlg_i, nlg_n, ok_0, ok_i, ok_r, ok_l, zi_e, zi_n, zi_t, Nat.reduceEqDiff, Nat.not_le, Nat.reduceLeDiff, if_true, if_false, eq_self, ↓reduceIte, Nat.reduceLT, Nat.le_refl, nle1, nez1, nez2]
  · simp (disch := first | omega | (simp only [nlg_r, nlg_i, nlg_n, ok_0, ok_i, ok_r, ok_l]; done) | assumption | (simp only [List.length_set, List.length_append, List.length_cons, List.length_nil]; omega)) only [TA, aft_v, aft_n, aft_t, gf_0, gf_s, pf_e, tg_e, hp_s, hp_n, hp_2, List.set_cons_zero, List.set_cons_succ, b2i_t, b2i_f, Ret_s, nlg_r, nlg_i, nlg_n, ok_0, ok_i, ok_r, ok_l, zi_e, zi_n, zi_t, Nat.reduceEqDiff, Nat.not_le, Nat.reduceLeDiff, if_true, if_false, eq_self, ↓reduceIte, Nat.reduceLT, Nat.le_refl, nle1, nez1, nez2, a17, a18, a19, a20, a21, a22, a23, a24, a25, a26, a27, a28, a29, a30, a31, a32, a33, and_self]
theorem TY.ta {a w : Nat} (T : TY th σ a w h) : ∃ mo, TA σ mo h := by
  obtain ⟨ic, op, mo, hmo, hM, hA⟩ := T
  exact ⟨mo, hA⟩
set_option maxRecDepth 20000 in
/-- no letter, or too many -/
theorem t_goF (hL : WL σ) (hV : WV σ) (hS : WS σ) {i n w : Nat} (T : TY th σ i w h) (hi : i ≤ 41) (hn : n ≤ 6) {on : Int32} {z3 z4 z5 z6 : Value} (hc : (if i < σ.1 3 then plc (tx σ i) else none) = none ∨ n = 6) :
    Ret (run (d + 2) 89 7 [.ref 16, .int on, .int (nI n), z3, z4, z5, z6] [] h) (fun o h' => o = .inl (some (.int (-1))) ∧ TY th σ i i h' ∧ FrT h h') := by
  have s5 := hS.2.2.2.2
  have l12 := hL.2.2.2.2.2.2.2.2.2.2.2.1
  have bt : tx σ i ≤ 126 := (hV i).2.2.2.2.2.2.2.2.2.2.2.1
  have gt : (σ.2 12).getD i 0 = tx σ i := rfl
  have c9 := c_90 (d := d + 1) (h := h) (c := tx σ i) (by omega)
  obtain ⟨ic, op, hM, T1⟩ := T.put i i
  obtain ⟨mo, hA⟩ := T.ta
  obtain ⟨a17, a18, a19, a20, a21, a22, a23, a24, a25, a26, a27, a28, a29, a30, a31, a32, a33⟩ := hA
  by_cases q1 : i < σ.1 3
  · have q2 : ¬ σ.1 3 ≤ i := by omega
    rw [if_pos q1] at hc
    cases ep : plc (tx σ i) with
    | none =>
      rw [ep] at c9
      simp (disch := first | omega | (simp only [nlg_r, nlg_i, nlg_n, ok_0, ok_i, ok_r, ok_l]; done) | assumption | (simp only [List.length_set, List.length_append, List.length_cons, List.length_nil]; omega)) only [r_89_7, r_89_8, r_89_11, r_89_12, r_89_15, r_89_18, r_89_19, r_89_22, r_89_23, r_89_26, r_89_27, r_89_30, r_89_33, r_89_34, r_89_35, r_89_36, r_89_37, r_89_40, r_89_43, r_89_44, r_89_45, r_89_48, r_89_49, r_89_51, r_89_54, r_89_55, hM, mdl, aft_v, aft_n, aft_t, gf_0, gf_s, pf_e, tg_e, hp_s, hp_n, hp_2, List.set_cons_zero, List.set_cons_succ, b2i_t, b2i_f, Ret_s, nlg_r, nlg_i, nlg_n, ok_0, ok_i, ok_r, ok_l, zi_e, zi_n, zi_t, Nat.reduceEqDiff, Nat.not_le, Nat.reduceLeDiff, if_true, if_false, eq_self, ↓reduceIte, Nat.reduceLT, Nat.le_refl, nle1, nez1, nez2, ei_r, ei_l, ni_r, ni_l, ti_r, ti_l, ai_r, ai_l, si_r, si_l, mi_r, mi_l, di_r, nI_eq, nI_leI, nI_ltI, nI_add, pk_sub, pk_mul, pk_div, pk_rem, nI_l, lN_i, q2, a31, al_i, gt, c9, oI_0]
      exact ⟨trivial, T1, (FrT.refl h).put (by omega)⟩
    | some q =>
      rw [ep] at hc c9
      have hn6 : n = 6 := by rcases hc with z | z; cases z; exact z
      subst hn6
      have hq := plc_lt ep
      simp (disch := first | omega | (simp only [nlg_r, nlg_i, nlg_n, ok_0, ok_i, ok_r, ok_l]; done) | assumption | (simp only [List.length_set, List.length_append, List.length_cons, List.length_nil]; omega)) only [r_89_7, r_89_8, r_89_11, r_89_12, r_89_15, r_89_18, r_89_19, r_89_22, r_89_23, r_89_26, r_89_27, r_89_30, r_89_33, r_89_34, r_89_35, r_89_36, r_89_37, r_89_40, r_89_43, r_89_44, r_89_45, r_89_48, r_89_49, r_89_51, r_89_54, r_89_55, hM, mdl, aft_v, aft_n, aft_t, gf_0, gf_s, pf_e, tg_e, hp_s, hp_n, hp_2, List.set_cons_zero, List.set_cons_succ, b2i_t, b2i_f, Ret_s, nlg_r, nlg_i, nlg_n, ok_0, ok_i, ok_r, ok_l, zi_e, zi_n, zi_t, Nat.reduceEqDiff, Nat.not_le, Nat.reduceLeDiff, if_true, if_false, eq_self, ↓reduceIte, Nat.reduceLT, Nat.le_refl, nle1, nez1, nez2, ei_r, ei_l, ni_r, ni_l, ti_r, ti_l, ai_r, ai_l, si_r, si_l, mi_r, mi_l, di_r, nI_eq, nI_leI, nI_ltI, nI_add, pk_sub, pk_mul, pk_div, pk_rem, nI_l, lN_i, q2, a31, al_i, gt, c9, oI_s, ng_e]
      exact ⟨trivial, T1, (FrT.refl h).put (by omega)⟩
  · have q2 : σ.1 3 ≤ i := by omega
    simp (disch := first | omega | (simp only [nlg_r, nlg_i, nlg_n, ok_0, ok_i, ok_r, ok_l]; done) | assumption | (simp only [List.length_set, List.length_append, List.length_cons, List.length_nil]; omega)) only [r_89_7, r_89_8, r_89_11, r_89_12, r_89_15, r_89_18, r_89_19, r_89_22, r_89_23, r_89_26, r_89_27, r_89_30, r_89_33, r_89_34, r_89_35, r_89_36, r_89_37, r_89_40, r_89_43, r_89_44, r_89_45, r_89_48, r_89_49, r_89_51, r_89_54, r_89_55, hM, mdl, aft_v, aft_n, aft_t, gf_0, gf_s, pf_e, tg_e, hp_s, hp_n, hp_2, List.set_cons_zero, List.set_cons_succ, b2i_t, b2i_f, Ret_s, nlg_r, nlg_i, nlg_n, ok_0, ok_i, ok_r, ok_l, zi_e, zi_n, zi_t, Nat.reduceEqDiff, Nat.not_le, Nat.reduceLeDiff, if_true, if_false, eq_self, ↓reduceIte, Nat.reduceLT, Nat.le_refl, nle1, nez1, nez2, ei_r, ei_l, ni_r, ni_l, ti_r, ti_l, ai_r, ai_l, si_r, si_l, mi_r, mi_l, di_r, nI_eq, nI_leI, nI_ltI, nI_add, pk_sub, pk_mul, pk_div, pk_rem, nI_l, lN_i, q2]
    exact ⟨trivial, T1, (FrT.refl h).put (by omega)⟩
set_option maxRecDepth 20000 in
/-- a letter and what is behind it, up to the check of its value -/
theorem t_goN (hL : WL σ) (hV : WV σ) (hS : WS σ) {i n w q : Nat} (T : TY th σ i w h) (hi : i < σ.1 3) (hn : n < 6) (hp : plc (tx σ i) = some q) {on : Int32} {z3 z4 z5 z6 : Value} (n3 : nlg z3 = true) (n4 : nlg z4 = true) :
    ∃ h', run (d + 2) 89 7 [.ref 16, .int on, .int (nI n), z3, z4, z5, z6] [] h = run (d + 2) 89 176 [.ref 16, .int on, .int (nI n), .int (nI q), .int (nI (i + 1)), .int (nI (num (tx σ) (σ.1 3) 5 (i + 1) 0).2), .int (b2i (gdv q (num (tx σ) (σ.1 3) 5 (i + 1) 0).2))] [] h' ∧ TY th σ (num (tx σ) (σ.1 3) 5 (i + 1) 0).1 (i + 1) h' ∧ FrT h h' := by
  have s5 := hS.2.2.2.2
  have l12 := hL.2.2.2.2.2.2.2.2.2.2.2.1
  have bt : tx σ i ≤ 126 := (hV i).2.2.2.2.2.2.2.2.2.2.2.1
  have gt : (σ.2 12).getD i 0 = tx σ i := rfl
  have c9 := c_90 (d := d + 1) (h := h) (c := tx σ i) (by omega)
  rw [hp] at c9
  have hq := plc_lt hp
  have q2 : ¬ σ.1 3 ≤ i := by omega
  obtain ⟨ic, op, hM, T1⟩ := T.put i i
  obtain ⟨ic1, op1, hM1, T2⟩ := T1.put (i + 1) i
  obtain ⟨h1, e1, T3, F3⟩ := t_dig (d := d) (F := i + 1) (on := on) (n := nI n) (wh := nI q) (z := z6) hL hV hS (by omega) 5 (i + 1) 0 _ (by omega) (by omega) (by omega) (by simp) T2
  have nb := num_b (t := tx σ) (sz := σ.1 3) 5 (i + 1) 0 (by omega)
  have nv := num_v (t := tx σ) (sz := σ.1 3) (i := i + 1) (by omega)
  have eA : run (d + 2) 89 7 [.ref 16, .int on, .int (nI n), z3, z4, z5, z6] [] h = run (d + 2) 89 126 [.ref 16, .int on, .int (nI n), .int (nI q), .int (nI (i + 1)), .int (nI (num (tx σ) (σ.1 3) 5 (i + 1) 0).2), z6] [] h1 := by
    rw [← e1]
    obtain ⟨mo, hA⟩ := T.ta
    obtain ⟨a17, a18, a19, a20, a21, a22, a23, a24, a25, a26, a27, a28, a29, a30, a31, a32, a33⟩ := hA
    have hn6 : ¬ n = 6 := by omega
    rw [hp_s] at hM1
    simp only [mdY, mdl] at hM1
    cases hM1
    simp (disch := first | omega | (simp only [nlg_r, nlg_i, nlg_n, ok_0, ok_i, ok_r, ok_l]; done) | assumption | (simp only [List.length_set, List.length_append, List.length_cons, List.length_nil]; omega)) only [r_89_7, r_89_8, r_89_11, r_89_12, r_89_15, r_89_18, r_89_19, r_89_22, r_89_23, r_89_26, r_89_27, r_89_30, r_89_33, r_89_34, r_89_35, r_89_36, r_89_37, r_89_40, r_89_43, r_89_44, r_89_45, r_89_48, r_89_49, r_89_51, r_89_54, r_89_55, r_89_56, r_89_57, r_89_58, r_89_61, r_89_62, r_89_63, r_89_66, r_89_67, r_89_70, r_89_72, r_89_73, hM, mdl, aft_v, aft_n, aft_t, gf_0, gf_s, pf_e, tg_e, hp_s, hp_n, hp_2, List.set_cons_zero, List.set_cons_succ, b2i_t, b2i_f, Ret_s, nlg_r, nlg_i, nlg_n, ok_0, ok_i, ok_r, ok_l, zi_e, zi_n, zi_t, Nat.reduceEqDiff, Nat.not_le, Nat.reduceLeDiff, if_true, if_false, eq_self, ↓reduceIte, Nat.reduceLT, Nat.le_refl, nle1, nez1, nez2, ei_r, ei_l, ni_r, ni_l, ti_r, ti_l, ai_r, ai_l, si_r, si_l, mi_r, mi_l, di_r, nI_eq, nI_leI, nI_ltI, nI_add, pk_sub, pk_mul, pk_div, pk_rem, nI_l, lN_i, q2, a31, al_i, gt, c9, oI_s, ng_e, hn6, show nI 0 = 0 from rfl]
  obtain ⟨ic2, op2, hM2, T4⟩ := T3.put (num (tx σ) (σ.1 3) 5 (i + 1) 0).1 (i + 1)
  refine ⟨_, ?_, T4, (((FrT.refl h).put (by omega)).put (by omega)).trans (F3.put (by omega))⟩
  rw [eA]
  generalize (num (tx σ) (σ.1 3) 5 (i + 1) 0).2 = v at *
  rcases (show q = 0 ∨ q = 1 ∨ q = 2 ∨ q = 3 by omega) with rfl | rfl | rfl | rfl
  · have eg : gdv 0 v = true := by simp [gdv]
    rw [eg]
    simp (disch := first | omega | (simp only [nlg_r, nlg_i, nlg_n, ok_0, ok_i, ok_r, ok_l]; done) | assumption | (simp only [List.length_set, List.length_append, List.length_cons, List.length_nil]; omega)) only [r_89_126, r_89_127, r_89_129, r_89_132, r_89_133, r_89_134, r_89_137, r_89_138, r_89_139, r_89_142, r_89_144, r_89_145, r_89_147, r_89_150, r_89_153, r_89_154, r_89_155, r_89_158, r_89_160, r_89_161, r_89_163, r_89_166, r_89_169, r_89_170, r_89_173, r_89_174, c_74, hM2, mdl, aft_v, aft_n, aft_t, gf_0, gf_s, pf_e, tg_e, hp_s, hp_n, hp_2, List.set_cons_zero, List.set_cons_succ, b2i_t, b2i_f, Ret_s, nlg_r, nlg_i, nlg_n, ok_0, ok_i, ok_r, ok_l, zi_e, zi_n, zi_t, Nat.reduceEqDiff, Nat.not_le, Nat.reduceLeDiff, if_true, if_false, eq_self, ↓reduceIte, Nat.reduceLT, Nat.le_refl, nle1, nez1, nez2, ei_r, ei_l, ni_r, ni_l, ti_r, ti_l, ai_r, ai_l, si_r, si_l, mi_r, mi_l, di_r, nI_eq, nI_leI, nI_ltI, nI_add, pk_sub, pk_mul, pk_div, pk_rem, nI_l, lN_i]
  · have eg : gdv 1 v = true := by simp [gdv]
    rw [eg]
    simp (disch := first | omega | (simp only [nlg_r, nlg_i, nlg_n, ok_0, ok_i, ok_r, ok_l]; done) | assumption | (simp only [List.length_set, List.length_append, List.length_cons, List.length_nil]; omega)) only [r_89_126, r_89_127, r_89_129, r_89_132, r_89_133, r_89_134, r_89_137, r_89_138, r_89_139, r_89_142, r_89_144, r_89_145, r_89_147, r_89_150, r_89_153, r_89_154, r_89_155, r_89_158, r_89_160, r_89_161, r_89_163, r_89_166, r_89_169, r_89_170, r_89_173, r_89_174, c_74, hM2, mdl, aft_v, aft_n, aft_t, gf_0, gf_s, pf_e, tg_e, hp_s, hp_n, hp_2, List.set_cons_zero, List.set_cons_succ, b2i_t, b2i_f, Ret_s, nlg_r, nlg_i, nlg_n, ok_0, ok_i, ok_r, ok_l, zi_e, zi_n, zi_t, Nat.reduceEqDiff, Nat.not_le, Nat.reduceLeDiff, if_true, if_false, eq_self, ↓reduceIte, Nat.reduceLT, Nat.le_refl, nle1, nez1, nez2, ei_r, ei_l, ni_r, ni_l, ti_r, ti_l, ai_r, ai_l, si_r, si_l, mi_r, mi_l, di_r, nI_eq, nI_leI, nI_ltI, nI_add, pk_sub, pk_mul, pk_div, pk_rem, nI_l, lN_i]
  · have eg : inR (nI v) 1 9 = gdv 2 v := by
      have k1 : (nI v < 1) = (v < 1) := ti_r (by omega) (by omega)
      have k2 : (9 < nI v) = (9 < v) := ti_l (by omega) (by omega)
      unfold inR gdv
      by_cases y1 : v < 1 <;> by_cases y2 : 9 < v <;> simp [k1, k2, y1, y2] <;> omega
    cases ev : gdv 2 v
    · rw [ev] at eg
      simp (disch := first | omega | (simp only [nlg_r, nlg_i, nlg_n, ok_0, ok_i, ok_r, ok_l]; done) | assumption | (simp only [List.length_set, List.length_append, List.length_cons, List.length_nil]; omega)) only [r_89_126, r_89_127, r_89_129, r_89_132, r_89_133, r_89_134, r_89_137, r_89_138, r_89_139, r_89_142, r_89_144, r_89_145, r_89_147, r_89_150, r_89_153, r_89_154, r_89_155, r_89_158, r_89_160, r_89_161, r_89_163, r_89_166, r_89_169, r_89_170, r_89_173, r_89_174, c_74, hM2, mdl, aft_v, aft_n, aft_t, gf_0, gf_s, pf_e, tg_e, hp_s, hp_n, hp_2, List.set_cons_zero, List.set_cons_succ, b2i_t, b2i_f, Ret_s, nlg_r, nlg_i, nlg_n, ok_0, ok_i, ok_r, ok_l, zi_e, zi_n, zi_t, Nat.reduceEqDiff, Nat.not_le, Nat.reduceLeDiff, if_true, if_false, eq_self, ↓reduceIte, Nat.reduceLT, Nat.le_refl, nle1, nez1, nez2, ei_r, ei_l, ni_r, ni_l, ti_r, ti_l, ai_r, ai_l, si_r, si_l, mi_r, mi_l, di_r, nI_eq, nI_leI, nI_ltI, nI_add, pk_sub, pk_mul, pk_div, pk_rem, nI_l, lN_i, eg]
    · rw [ev] at eg
      simp (disch := first | omega | (simp only [nlg_r, nlg_i, nlg_n, ok_0, ok_i, ok_r, ok_l]; done) | assumption | (simp only [List.length_set, List.length_append, List.length_cons, List.length_nil]; omega)) only [r_89_126, r_89_127, r_89_129, r_89_132, r_89_133, r_89_134, r_89_137, r_89_138, r_89_139, r_89_142, r_89_144, r_89_145, r_89_147, r_89_150, r_89_153, r_89_154, r_89_155, r_89_158, r_89_160, r_89_161, r_89_163, r_89_166, r_89_169, r_89_170, r_89_173, r_89_174, c_74, hM2, mdl, aft_v, aft_n, aft_t, gf_0, gf_s, pf_e, tg_e, hp_s, hp_n, hp_2, List.set_cons_zero, List.set_cons_succ, b2i_t, b2i_f, Ret_s, nlg_r, nlg_i, nlg_n, ok_0, ok_i, ok_r, ok_l, zi_e, zi_n, zi_t, Nat.reduceEqDiff, Nat.not_le, Nat.reduceLeDiff, if_true, if_false, eq_self, ↓reduceIte, Nat.reduceLT, Nat.le_refl, nle1, nez1, nez2, ei_r, ei_l, ni_r, ni_l, ti_r, ti_l, ai_r, ai_l, si_r, si_l, mi_r, mi_l, di_r, nI_eq, nI_leI, nI_ltI, nI_add, pk_sub, pk_mul, pk_div, pk_rem, nI_l, lN_i, eg]
  · have eg : inR (nI v) 0 99 = gdv 3 v := by
      have k1 : (nI v < 0) = (v < 0) := ti_r (by omega) (by omega)
      have k2 : (99 < nI v) = (99 < v) := ti_l (by omega) (by omega)
      unfold inR gdv
      by_cases y2 : 99 < v <;> simp [k1, k2, y2] <;> omega
    cases ev : gdv 3 v
    · rw [ev] at eg
      simp (disch := first | omega | (simp only [nlg_r, nlg_i, nlg_n, ok_0, ok_i, ok_r, ok_l]; done) | assumption | (simp only [List.length_set, List.length_append, List.length_cons, List.length_nil]; omega)) only [r_89_126, r_89_127, r_89_129, r_89_132, r_89_133, r_89_134, r_89_137, r_89_138, r_89_139, r_89_142, r_89_144, r_89_145, r_89_147, r_89_150, r_89_153, r_89_154, r_89_155, r_89_158, r_89_160, r_89_161, r_89_163, r_89_166, r_89_169, r_89_170, r_89_173, r_89_174, c_74, hM2, mdl, aft_v, aft_n, aft_t, gf_0, gf_s, pf_e, tg_e, hp_s, hp_n, hp_2, List.set_cons_zero, List.set_cons_succ, b2i_t, b2i_f, Ret_s, nlg_r, nlg_i, nlg_n, ok_0, ok_i, ok_r, ok_l, zi_e, zi_n, zi_t, Nat.reduceEqDiff, Nat.not_le, Nat.reduceLeDiff, if_true, if_false, eq_self, ↓reduceIte, Nat.reduceLT, Nat.le_refl, nle1, nez1, nez2, ei_r, ei_l, ni_r, ni_l, ti_r, ti_l, ai_r, ai_l, si_r, si_l, mi_r, mi_l, di_r, nI_eq, nI_leI, nI_ltI, nI_add, pk_sub, pk_mul, pk_div, pk_rem, nI_l, lN_i, eg]
    · rw [ev] at eg
      simp (disch := first | omega | (simp only [nlg_r, nlg_i, nlg_n, ok_0, ok_i, ok_r, ok_l]; done) | assumption | (simp only [List.length_set, List.length_append, List.length_cons, List.length_nil]; omega)) only [r_89_126, r_89_127, r_89_129, r_89_132, r_89_133, r_89_134, r_89_137, r_89_138, r_89_139, r_89_142, r_89_144, r_89_145, r_89_147, r_89_150, r_89_153, r_89_154, r_89_155, r_89_158, r_89_160, r_89_161, r_89_163, r_89_166, r_89_169, r_89_170, r_89_173, r_89_174, c_74, hM2, mdl, aft_v, aft_n, aft_t, gf_0, gf_s, pf_e, tg_e, hp_s, hp_n, hp_2, List.set_cons_zero, List.set_cons_succ, b2i_t, b2i_f, Ret_s, nlg_r, nlg_i, nlg_n, ok_0, ok_i, ok_r, ok_l, zi_e, zi_n, zi_t, Nat.reduceEqDiff, Nat.not_le, Nat.reduceLeDiff, if_true, if_false, eq_self, ↓reduceIte, Nat.reduceLT, Nat.le_refl, nle1, nez1, nez2, ei_r, ei_l, ni_r, ni_l, ti_r, ti_l, ai_r, ai_l, si_r, si_l, mi_r, mi_l, di_r, nI_eq, nI_leI, nI_ltI, nI_add, pk_sub, pk_mul, pk_div, pk_rem, nI_l, lN_i, eg]
end TT
