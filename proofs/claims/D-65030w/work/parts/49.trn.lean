/-! PLAIN LEAN, 10: run in the twin -/
def dayN (σ : AS) : Nat → AS
  | 0 => σ
  | n + 1 => dayT (dayN σ n)
section TI
variable {th d : Nat} {σ : AS} {h : MH}
set_option maxRecDepth 20000 in
theorem t_gl {B : Nat} (hB : B ≤ 1000000000) (hQ : WQ B σ) {x y : Int32} : ∀ (m j : Nat) (h : MH), j + m = (σ.2 1).length → TW th (grwN σ ((σ.2 15).getD (σ.1 0) 0) j) h →
    ∃ h', run (d + 1) 77 65 [.ref 16, .int x, .int y, .int (nI j)] [] h = run (d + 1) 77 84 [.ref 16, .int x, .int y, .int (nI (σ.2 1).length)] [] h' ∧ TW th (grwN σ ((σ.2 15).getD (σ.1 0) 0) (σ.2 1).length) h' ∧ FrT h h' := by
  intro m
  induction m with
  | zero =>
    intro j h hj T
    have hj : j = (σ.2 1).length := by omega
    subst hj
    refine ⟨h, ?_, T, FrT.refl h⟩
    obtain ⟨at_, wr, ic, op, mo, hmo, hM, hA⟩ := T
    rw [(grwN_k _ _).2 1 (by decide) (by decide) (by decide) (by decide)] at hM
    have hl := hQ.1.1
    simp (disch := first | omega | (simp only [nlg_r, nlg_i, nlg_n, ok_0, ok_i, ok_r, ok_l]; done) | assumption | (simp only [List.length_set, List.length_append, List.length_cons, List.length_nil]; omega)) only [r_77_65, r_77_66, r_77_67, r_77_70, r_77_73, r_77_74, r_77_75, r_77_78, r_77_81, hM, mdl, aft_v, aft_n, aft_t, gf_0, gf_s, pf_e, tg_e, hp_s, hp_n, hp_2, List.set_cons_zero, List.set_cons_succ, b2i_t, b2i_f, Ret_s, nlg_r, nlg_i, nlg_n, ok_0, ok_i, ok_r, ok_l, zi_e, zi_n, zi_t, Nat.reduceEqDiff, Nat.not_le, Nat.reduceLeDiff, if_true, if_false, eq_self, ↓reduceIte, Nat.reduceLT, Nat.le_refl, nle1, nez1, nez2, ei_r, ei_l, ni_r, ni_l, ti_r, ti_l, ai_r, ai_l, si_r, si_l, mi_r, mi_l, di_r, nI_eq, nI_leI, nI_ltI, nI_add, pk_sub, pk_mul, pk_div, pk_rem, nI_l, lN_i]
  | succ m ih =>
    intro j h hj T
    have hQj := grwN_Q hQ ((σ.2 15).getD (σ.1 0) 0) j (by omega)
    obtain ⟨k1, k2⟩ := grwN_k (σ := σ) ((σ.2 15).getD (σ.1 0) 0) j
    have c1 := k2 1 (by decide) (by decide) (by decide) (by decide)
    have c15 := k2 15 (by decide) (by decide) (by decide) (by decide)
    obtain ⟨o, h1, e, ho, T1, F1⟩ := t_grows (d := d) (k := j) T hQj.1 hQj.2.1 hQj.2.2.1 hB (fun k => Nat.le_trans (gD_sum _ k) hQj.2.2.2) (by rw [c1]; omega)
    subst ho
    rw [c15, k1] at T1
    obtain ⟨h', e2, T2, F2⟩ := ih (j + 1) h1 (by omega) T1
    refine ⟨h', ?_, T2, F1.trans F2⟩
    obtain ⟨at_, wr, ic, op, mo, hmo, hM, hA⟩ := T
    rw [c1] at hM
    have hl := hQ.1.1
    have q : ¬ (σ.2 1).length ≤ j := by omega
    rw [← e2]
    rw [r_77_65]
    simp (disch := first | omega | (simp only [nlg_r, nlg_i, nlg_n, ok_0, ok_i, ok_r, ok_l]; done) | assumption | (simp only [List.length_set, List.length_append, List.length_cons, List.length_nil]; omega)) only [r_77_66, r_77_67, r_77_70, r_77_73, r_77_74, r_77_75, r_77_78, r_77_81, hM, mdl, aft_v, aft_n, aft_t, gf_0, gf_s, pf_e, tg_e, hp_s, hp_n, hp_2, List.set_cons_zero, List.set_cons_succ, b2i_t, b2i_f, Ret_s, nlg_r, nlg_i, nlg_n, ok_0, ok_i, ok_r, ok_l, zi_e, zi_n, zi_t, Nat.reduceEqDiff, Nat.not_le, Nat.reduceLeDiff, if_true, if_false, eq_self, ↓reduceIte, Nat.reduceLT, Nat.le_refl, nle1, nez1, nez2, ei_r, ei_l, ni_r, ni_l, ti_r, ti_l, ai_r, ai_l, si_r, si_l, mi_r, mi_l, di_r, nI_eq, nI_leI, nI_ltI, nI_add, pk_sub, pk_mul, pk_div, pk_rem, nI_l, lN_i, q, e]
set_option maxRecDepth 20000 in
theorem t_st {B : Nat} (T : TW th σ h) (hQ : WQ B σ) {x y : Int32} {j : Nat} (hj : j < (σ.2 1).length) : ∃ h1, run d 77 86 [.ref 16, .int x, .int y, .int (nI j)] [] h = run d 77 86 [.ref 16, .int x, .int y, .int (nI (j + 1))] [] h1 ∧ TW th (stn σ j ((σ.2 16).getD (σ.1 0) 0)) h1 ∧ FrT h h1 := by
  obtain ⟨hL, hV, hS, hP⟩ := hQ
  have vj := hV j
  have vt := (hV (σ.1 0)).2.2.2.2.2.2.2.2.2.2.2.2.2.2
  have vm := vj.2.1 hj
  have hS0 := hS.1
  obtain ⟨v1, v2, v3, v4, -⟩ := vj
  have T0 := T
  obtain ⟨at_, wr, ic, op, mo, hmo, hM, a17, a18, a19, a20, a21, a22, a23, a24, a25, a26, a27, a28, a29, a30, a31, a32, a33⟩ := T
  obtain ⟨l1, l2, l3, l4, l5, l6, l7, l8, l9, l10, l11, l12, l13, l14, l15, l16⟩ := hL
  have p1 := pad_len (n := 8) (l := σ.2 1) (by omega)
  have p3 := pad_len (n := 8) (l := σ.2 3) (by omega)
  have g1 : (pad 8 (σ.2 1)).getD j 0 = (σ.2 1).getD j 0 := pad_get (by omega)
  have g3 : (pad 8 (σ.2 3)).getD j 0 = (σ.2 3).getD j 0 := pad_get (by omega)
  have b1 : (σ.2 1).getD j 0 * (σ.2 3).getD j 0 ≤ 200 * 100000 := Nat.mul_le_mul v1 v4
  have q : ¬ (σ.2 1).length ≤ j := by omega
  have bm : ¬ nI ((σ.2 1).getD j 0) = 0 := by rw [ei_r (by omega) (by omega)]; omega
  generalize hs : (σ.2 16).getD (σ.1 0) 0 = s at *
  generalize hm : (σ.2 1).getD j 0 = m at *
  generalize hg : (σ.2 3).getD j 0 = g at *
  by_cases q1 : s ≤ 0
  · refine ⟨h, ?_, ?_, FrT.refl h⟩
    · conv => lhs; rw [r_77_86]
      simp (disch := first | omega | (simp only [nlg_r, nlg_i, nlg_n, ok_0, ok_i, ok_r, ok_l]; done) | assumption | (simp only [List.length_set, List.length_append, List.length_cons, List.length_nil]; omega)) only [r_77_87, r_77_88, r_77_91, r_77_94, r_77_95, r_77_98, r_77_99, r_77_102, r_77_103, r_77_106, r_77_107, r_77_110, r_77_111, r_77_112, r_77_113, r_77_114, r_77_117, r_77_118, r_77_119, r_77_120, r_77_121, r_77_122, r_77_125, r_77_126, r_77_129, r_77_130, r_77_131, r_77_132, r_77_135, r_77_136, r_77_139, r_77_140, r_77_141, r_77_144, r_77_145, r_77_148, r_77_149, r_77_150, r_77_153, r_77_154, r_77_155, r_77_156, r_77_157, r_77_160, hM, mdl, aft_v, aft_n, aft_t, gf_0, gf_s, pf_e, tg_e, hp_s, hp_n, hp_2, List.set_cons_zero, List.set_cons_succ, b2i_t, b2i_f, Ret_s, nlg_r, nlg_i, nlg_n, ok_0, ok_i, ok_r, ok_l, zi_e, zi_n, zi_t, Nat.reduceEqDiff, Nat.not_le, Nat.reduceLeDiff, if_true, if_false, eq_self, ↓reduceIte, Nat.reduceLT, Nat.le_refl, nle1, nez1, nez2, ei_r, ei_l, ni_r, ni_l, ti_r, ti_l, ai_r, ai_l, si_r, si_l, mi_r, mi_l, di_r, nI_eq, nI_leI, nI_ltI, nI_add, pk_sub, pk_mul, pk_div, pk_rem, nI_l, lN_i, q, a25, al_i, hs, q1]
    · unfold stn
      rw [if_neg (by omega)]
      exact T0
  · by_cases q2 : m * g ≤ s
    · refine ⟨h, ?_, ?_, FrT.refl h⟩
      · conv => lhs; rw [r_77_86]
        simp (disch := first | omega | (simp only [nlg_r, nlg_i, nlg_n, ok_0, ok_i, ok_r, ok_l]; done) | assumption | (simp only [List.length_set, List.length_append, List.length_cons, List.length_nil]; omega)) only [r_77_87, r_77_88, r_77_91, r_77_94, r_77_95, r_77_98, r_77_99, r_77_102, r_77_103, r_77_106, r_77_107, r_77_110, r_77_111, r_77_112, r_77_113, r_77_114, r_77_117, r_77_118, r_77_119, r_77_120, r_77_121, r_77_122, r_77_125, r_77_126, r_77_129, r_77_130, r_77_131, r_77_132, r_77_135, r_77_136, r_77_139, r_77_140, r_77_141, r_77_144, r_77_145, r_77_148, r_77_149, r_77_150, r_77_153, r_77_154, r_77_155, r_77_156, r_77_157, r_77_160, hM, mdl, aft_v, aft_n, aft_t, gf_0, gf_s, pf_e, tg_e, hp_s, hp_n, hp_2, List.set_cons_zero, List.set_cons_succ, b2i_t, b2i_f, Ret_s, nlg_r, nlg_i, nlg_n, ok_0, ok_i, ok_r, ok_l, zi_e, zi_n, zi_t, Nat.reduceEqDiff, Nat.not_le, Nat.reduceLeDiff, if_true, if_false, eq_self, ↓reduceIte, Nat.reduceLT, Nat.le_refl, nle1, nez1, nez2, ei_r, ei_l, ni_r, ni_l, ti_r, ti_l, ai_r, ai_l, si_r, si_l, mi_r, mi_l, di_r, nI_eq, nI_leI, nI_ltI, nI_add, pk_sub, pk_mul, pk_div, pk_rem, nI_l, lN_i, el_r, nl_r, tl_r, dl_r, ml_r, al_r, pk_lEQ, pk_lLE, pk_lLT, lN_add, lN_sub, lN_mul, pk_lDiv, pk_lRem, q, a19, a21, a25, al_i, hs, q1, g1, g3, hm, hg, lc_le, q2]
      · unfold stn
        rw [hm, hg, if_neg (by omega)]
        exact T0
    · refine ⟨hput h 21 (20, iA ((pad 8 (σ.2 3)).set j (s / m))), ?_, ?_, (FrT.refl h).put (by omega)⟩
      · conv => lhs; rw [r_77_86]
        simp (disch := first | omega | (simp only [nlg_r, nlg_i, nlg_n, ok_0, ok_i, ok_r, ok_l]; done) | assumption | (simp only [List.length_set, List.length_append, List.length_cons, List.length_nil]; omega)) only [r_77_87, r_77_88, r_77_91, r_77_94, r_77_95, r_77_98, r_77_99, r_77_102, r_77_103, r_77_106, r_77_107, r_77_110, r_77_111, r_77_112, r_77_113, r_77_114, r_77_117, r_77_118, r_77_119, r_77_120, r_77_121, r_77_122, r_77_125, r_77_126, r_77_129, r_77_130, r_77_131, r_77_132, r_77_135, r_77_136, r_77_139, r_77_140, r_77_141, r_77_144, r_77_145, r_77_148, r_77_149, r_77_150, r_77_153, r_77_154, r_77_155, r_77_156, r_77_157, r_77_160, hM, mdl, aft_v, aft_n, aft_t, gf_0, gf_s, pf_e, tg_e, hp_s, hp_n, hp_2, List.set_cons_zero, List.set_cons_succ, b2i_t, b2i_f, Ret_s, nlg_r, nlg_i, nlg_n, ok_0, ok_i, ok_r, ok_l, zi_e, zi_n, zi_t, Nat.reduceEqDiff, Nat.not_le, Nat.reduceLeDiff, if_true, if_false, eq_self, ↓reduceIte, Nat.reduceLT, Nat.le_refl, nle1, nez1, nez2, ei_r, ei_l, ni_r, ni_l, ti_r, ti_l, ai_r, ai_l, si_r, si_l, mi_r, mi_l, di_r, nI_eq, nI_leI, nI_ltI, nI_add, pk_sub, pk_mul, pk_div, pk_rem, nI_l, lN_i, el_r, nl_r, tl_r, dl_r, ml_r, al_r, pk_lEQ, pk_lLE, pk_lLT, lN_add, lN_sub, lN_mul, pk_lDiv, pk_lRem, q, a19, a21, a25, al_i, as_i, hs, q1, g1, g3, hm, hg, lc_le, q2]
      · unfold stn
        rw [hm, hg, if_pos (by omega)]
        refine ⟨at_, wr, ic, op, mo, hmo, ?_, ?_⟩
        · simp (disch := first | omega | (simp only [nlg_r, nlg_i, nlg_n, ok_0, ok_i, ok_r, ok_l]; done) | assumption | (simp only [List.length_set, List.length_append, List.length_cons, List.length_nil]; omega)) only [aft_v, aft_n, aft_t, gf_0, gf_s, pf_e, tg_e, hp_s, hp_n, hp_2, List.set_cons_zero, List.set_cons_succ, b2i_t, b2i_f, Ret_s, nlg_r, nlg_i, nlg_n, ok_0, ok_i, ok_r, ok_l, zi_e, zi_n, zi_t, Nat.reduceEqDiff, Nat.not_le, Nat.reduceLeDiff, if_true, if_false, eq_self, ↓reduceIte, Nat.reduceLT, Nat.le_refl, nle1, nez1, nez2, uc_1, uc_2, hM]
        · simp (disch := first | omega | (simp only [nlg_r, nlg_i, nlg_n, ok_0, ok_i, ok_r, ok_l]; done) | assumption | (simp only [List.length_set, List.length_append, List.length_cons, List.length_nil]; omega)) only [TA, aft_v, aft_n, aft_t, gf_0, gf_s, pf_e, tg_e, hp_s, hp_n, hp_2, List.set_cons_zero, List.set_cons_succ, b2i_t, b2i_f, Ret_s, nlg_r, nlg_i, nlg_n, ok_0, ok_i, ok_r, ok_l, zi_e, zi_n, zi_t, Nat.reduceEqDiff, Nat.not_le, Nat.reduceLeDiff, if_true, if_false, eq_self, ↓reduceIte, Nat.reduceLT, Nat.le_refl, nle1, nez1, nez2, uc_1, uc_2, pad_set, a17, a18, a19, a20, a21, a22, a23, a24, a25, a26, a27, a28, a29, a30, a31, a32, a33, and_self]
theorem t_sl {B : Nat} (hQ : WQ B σ) {x y : Int32} : ∀ (m j : Nat) (h : MH), j + m = (σ.2 1).length → TW th (stnN σ ((σ.2 16).getD (σ.1 0) 0) j) h →
    ∃ h', run d 77 86 [.ref 16, .int x, .int y, .int (nI j)] [] h = run d 77 163 [.ref 16, .int x, .int y, .int (nI (σ.2 1).length)] [] h' ∧ TW th (stnN σ ((σ.2 16).getD (σ.1 0) 0) (σ.2 1).length) h' ∧ FrT h h' := by
  intro m
  induction m with
  | zero =>
    intro j h hj T
    have hj : j = (σ.2 1).length := by omega
    subst hj
    refine ⟨h, ?_, T, FrT.refl h⟩
    obtain ⟨at_, wr, ic, op, mo, hmo, hM, hA⟩ := T
    rw [(stnN_k _ _).2 1 (by decide)] at hM
    have hl := hQ.1.1
    simp (disch := first | omega | (simp only [nlg_r, nlg_i, nlg_n, ok_0, ok_i, ok_r, ok_l]; done) | assumption | (simp only [List.length_set, List.length_append, List.length_cons, List.length_nil]; omega)) only [r_77_86, r_77_87, r_77_88, r_77_91, r_77_94, r_77_95, r_77_98, r_77_99, r_77_102, r_77_103, r_77_106, r_77_107, r_77_110, r_77_111, r_77_112, r_77_113, r_77_114, r_77_117, r_77_118, r_77_119, r_77_120, r_77_121, r_77_122, r_77_125, r_77_126, r_77_129, r_77_130, r_77_131, r_77_132, r_77_135, r_77_136, r_77_139, r_77_140, r_77_141, r_77_144, r_77_145, r_77_148, r_77_149, r_77_150, r_77_153, r_77_154, r_77_155, r_77_156, r_77_157, r_77_160, hM, mdl, aft_v, aft_n, aft_t, gf_0, gf_s, pf_e, tg_e, hp_s, hp_n, hp_2, List.set_cons_zero, List.set_cons_succ, b2i_t, b2i_f, Ret_s, nlg_r, nlg_i, nlg_n, ok_0, ok_i, ok_r, ok_l, zi_e, zi_n, zi_t, Nat.reduceEqDiff, Nat.not_le, Nat.reduceLeDiff, if_true, if_false, eq_self, ↓reduceIte, Nat.reduceLT, Nat.le_refl, nle1, nez1, nez2, ei_r, ei_l, ni_r, ni_l, ti_r, ti_l, ai_r, ai_l, si_r, si_l, mi_r, mi_l, di_r, nI_eq, nI_leI, nI_ltI, nI_add, pk_sub, pk_mul, pk_div, pk_rem, nI_l, lN_i]
  | succ m ih =>
    intro j h hj T
    have hQj := stnN_Q hQ ((σ.2 16).getD (σ.1 0) 0) j (by omega)
    obtain ⟨k1, k2⟩ := stnN_k (σ := σ) ((σ.2 16).getD (σ.1 0) 0) j
    obtain ⟨h1, e1, T1, F1⟩ := t_st (d := d) (x := x) (y := y) (j := j) T hQj (by rw [k2 1 (by decide)]; omega)
    rw [k2 16 (by decide), k1] at T1
    obtain ⟨h', e2, T2, F2⟩ := ih (j + 1) h1 (by omega) T1
    exact ⟨h', e1.trans e2, T2, F1.trans F2⟩
theorem flo_1 (σ : AS) : (flo σ).1 0 = σ.1 0 + 1 := by simp [flo, uc, us]
theorem flo_c (σ : AS) (j : Nat) (h : j ≠ 14) : (flo σ).2 j = σ.2 j := by simp [flo, uc, us, h]
theorem day_Q {B : Nat} (hQ : WQ B σ) (ht : σ.1 0 < 400) : WQ B (dayT σ) ∧ (dayT σ).1 0 = σ.1 0 + 1 ∧ (dayT σ).2 1 = σ.2 1 := by
  have h1 := flo_Q hQ ht
  have h2 := grwN_Q h1 ((σ.2 15).getD (σ.1 0 + 1) 0) (σ.2 1).length (by rw [flo_c _ _ (by decide)]; exact Nat.le_refl _)
  obtain ⟨k1, k2⟩ := grwN_k (σ := flo σ) ((σ.2 15).getD (σ.1 0 + 1) 0) (σ.2 1).length
  have c1 := (k2 1 (by decide) (by decide) (by decide) (by decide)).trans (flo_c σ 1 (by decide))
  have h3 := stnN_Q h2 ((σ.2 16).getD (σ.1 0 + 1) 0) (σ.2 1).length (by rw [c1]; exact Nat.le_refl _)
  obtain ⟨m1, m2⟩ := stnN_k (σ := grwN (flo σ) ((σ.2 15).getD (σ.1 0 + 1) 0) (σ.2 1).length) ((σ.2 16).getD (σ.1 0 + 1) 0) (σ.2 1).length
  refine ⟨h3, ?_, ?_⟩
  · unfold dayT; rw [m1, k1, flo_1]
  · unfold dayT; rw [m2 1 (by decide), c1]
set_option maxRecDepth 20000 in
/-- a day -/
theorem t_day {B : Nat} (hB : B ≤ 1000000000) (T : TW 0 σ h) (hQ : WQ B σ) (ht : σ.1 0 < 400) {x y : Int32} {z : Value} (hxy : y < x) : ∃ h', run (d + 1) 77 37 [.ref 16, .int x, .int y, z] [] h = run (d + 1) 77 37 [.ref 16, .int x, .int (y + 1), .int (nI (σ.2 1).length)] [] h' ∧ TW 0 (dayT σ) h' ∧ FrT h h' := by
  have hL := hQ.1
  have T0 := T
  obtain ⟨at_, wr, ic, op, mo, hmo, hM, a17, a18, a19, a20, a21, a22, a23, a24, a25, a26, a27, a28, a29, a30, a31, a32, a33⟩ := T
  obtain ⟨l1, l2, l3, l4, l5, l6, l7, l8, l9, l10, l11, l12, l13, l14, l15, l16⟩ := hL
  have hs := hQ.2.2.1
  have T1 : TW 0 (us σ 0 (σ.1 0 + 1)) (hput h 16 (mdl 0 (σ.1 0 + 1) (σ.2 1).length (σ.1 1) (σ.1 2) (σ.2 6).length (σ.1 3) at_ wr (σ.2 10).length ic op)) := by
    refine ⟨at_, wr, ic, op, mo, hmo, ?_, ?_⟩
    · simp (disch := first | omega | (simp only [nlg_r, nlg_i, nlg_n, ok_0, ok_i, ok_r, ok_l]; done) | assumption | (simp only [List.length_set, List.length_append, List.length_cons, List.length_nil]; omega)) only [aft_v, aft_n, aft_t, gf_0, gf_s, pf_e, tg_e, hp_s, hp_n, hp_2, List.set_cons_zero, List.set_cons_succ, b2i_t, b2i_f, Ret_s, nlg_r, nlg_i, nlg_n, ok_0, ok_i, ok_r, ok_l, zi_e, zi_n, zi_t, Nat.reduceEqDiff, Nat.not_le, Nat.reduceLeDiff, if_true, if_false, eq_self, ↓reduceIte, Nat.reduceLT, Nat.le_refl, nle1, nez1, nez2, us_1, us_2]
    · simp (disch := first | omega | (simp only [nlg_r, nlg_i, nlg_n, ok_0, ok_i, ok_r, ok_l]; done) | assumption | (simp only [List.length_set, List.length_append, List.length_cons, List.length_nil]; omega)) only [TA, aft_v, aft_n, aft_t, gf_0, gf_s, pf_e, tg_e, hp_s, hp_n, hp_2, List.set_cons_zero, List.set_cons_succ, b2i_t, b2i_f, Ret_s, nlg_r, nlg_i, nlg_n, ok_0, ok_i, ok_r, ok_l, zi_e, zi_n, zi_t, Nat.reduceEqDiff, Nat.not_le, Nat.reduceLeDiff, if_true, if_false, eq_self, ↓reduceIte, Nat.reduceLT, Nat.le_refl, nle1, nez1, nez2, us_1, us_2, a17, a18, a19, a20, a21, a22, a23, a24, a25, a26, a27, a28, a29, a30, a31, a32, a33, and_self]
  have hS1 : WS (us σ 0 (σ.1 0 + 1)) := by
    obtain ⟨s1, s2⟩ := hs
    exact ⟨by simp [us]; omega, by simpa [us] using s2⟩
  obtain ⟨o, h1, e1, ho, T2, F2⟩ := t_flows (d := d) T1 hQ.1 hS1 hB (fun k => Nat.le_trans (gD_sum _ k) hQ.2.2.2)
  subst ho
  have T2 : TW 0 (flo σ) h1 := T2
  have Q2 := flo_Q hQ ht
  have c1 := flo_c σ 1 (by decide)
  have c15 := flo_c σ 15 (by decide)
  have c16 := flo_c σ 16 (by decide)
  obtain ⟨h2, e2, T3, F3⟩ := t_gl (d := d) (x := x) (y := y) hB Q2 ((flo σ).2 1).length 0 h1 (by omega) T2
  rw [c15, flo_1, c1] at T3
  have Q3 := grwN_Q Q2 ((σ.2 15).getD (σ.1 0 + 1) 0) (σ.2 1).length (by rw [c1]; exact Nat.le_refl _)
  obtain ⟨k1, k2⟩ := grwN_k (σ := flo σ) ((σ.2 15).getD (σ.1 0 + 1) 0) (σ.2 1).length
  have d1 := (k2 1 (by decide) (by decide) (by decide) (by decide)).trans c1
  have d16 := (k2 16 (by decide) (by decide) (by decide) (by decide)).trans c16
  obtain ⟨h3, e3, T4, F4⟩ := t_sl (d := d + 1) (x := x) (y := y) Q3 (σ.2 1).length 0 h2 (by rw [d1]; omega) T3
  rw [d16, k1, flo_1, d1] at T4
  refine ⟨h3, ?_, T4, (((FrT.refl h).put (by omega)).trans F2).trans (F3.trans F4)⟩
  have hxy' : ¬ x ≤ y := Int32.not_le.mpr hxy
  rw [c1] at e2
  rw [d1] at e3
  simp only [show nI 0 = 0 from rfl] at e2 e3
  simp only [mdl] at e1
  conv => lhs; rw [r_77_37]
  simp (disch := first | omega | (simp only [nlg_r, nlg_i, nlg_n, ok_0, ok_i, ok_r, ok_l]; done) | assumption | (simp only [List.length_set, List.length_append, List.length_cons, List.length_nil]; omega)) only [r_77_0, r_77_1, r_77_2, r_77_3, r_77_5, r_77_8, r_77_11, r_77_12, r_77_15, r_77_16, r_77_19, r_77_20, r_77_21, r_77_24, r_77_27, r_77_28, r_77_31, r_77_32, r_77_35, r_77_36, r_77_38, r_77_39, r_77_42, r_77_43, r_77_46, r_77_49, r_77_50, r_77_51, r_77_54, r_77_55, r_77_56, r_77_59, r_77_60, r_77_63, r_77_64, r_77_66, r_77_67, r_77_70, r_77_73, r_77_74, r_77_75, r_77_78, r_77_81, r_77_84, r_77_85, r_77_87, r_77_88, r_77_91, r_77_94, r_77_95, r_77_98, r_77_99, r_77_102, r_77_103, r_77_106, r_77_107, r_77_110, r_77_111, r_77_112, r_77_113, r_77_114, r_77_117, r_77_118, r_77_119, r_77_120, r_77_121, r_77_122, r_77_125, r_77_126, r_77_129, r_77_130, r_77_131, r_77_132, r_77_135, r_77_136, r_77_139, r_77_140, r_77_141, r_77_144, r_77_145, r_77_148, r_77_149, r_77_150, r_77_153, r_77_154, r_77_155, r_77_156, r_77_157, r_77_160, r_77_163, r_77_166, r_77_169, r_77_170, r_77_173, r_77_176, r_77_177, r_77_180, r_77_181, r_77_184, hxy', hM, mdl, aft_v, aft_n, aft_t, gf_0, gf_s, pf_e, tg_e, hp_s, hp_n, hp_2, List.set_cons_zero, List.set_cons_succ, b2i_t, b2i_f, Ret_s, nlg_r, nlg_i, nlg_n, ok_0, ok_i, ok_r, ok_l, zi_e, zi_n, zi_t, Nat.reduceEqDiff, Nat.not_le, Nat.reduceLeDiff, if_true, if_false, eq_self, ↓reduceIte, Nat.reduceLT, Nat.le_refl, nle1, nez1, nez2, ei_r, ei_l, ni_r, ni_l, ti_r, ti_l, ai_r, ai_l, si_r, si_l, mi_r, mi_l, di_r, nI_eq, nI_leI, nI_ltI, nI_add, pk_sub, pk_mul, pk_div, pk_rem, nI_l, lN_i, e1, e2, e3]
end TI
