/-! PLAIN LEAN, 22: rules in the twin -/
/-- the rules after a statement -/
def rul (on : Bool) (σ : AS) (q v : Nat) : AS := if on = true then uc σ 13 ((σ.2 13).set q v) else σ
section TU
variable {th d : Nat} {σ : AS} {h : MH}
theorem TY.rul {a w : Nat} (T : TY th σ a w h) (q v : Nat) : TY th (uc σ 13 ((σ.2 13).set q v)) a w (hput h 26 (20, iA ((σ.2 13).set q v))) := by
  obtain ⟨ic, op, mo, hmo, hM, a17, a18, a19, a20, a21, a22, a23, a24, a25, a26, a27, a28, a29, a30, a31, a32, a33⟩ := T
  refine ⟨ic, op, mo, hmo, ?_, ?_⟩
  · simp (disch := first | omega | (simp only [nlg_r, nlg_i, nlg_n, ok_0, ok_i, ok_r, ok_l]; done) | assumption | (simp only [List.length_set, List.length_append, List.length_cons, List.length_nil]; omega)) only [aft_v, aft_n, aft_t, gf_0, gf_s, pf_e, tg_e, hp_s, hp_n, hp_2, List.set_cons_zero, List.set_cons_succ, b2i_t, b2i_f, Ret_s, nlg_r, nlg_i, nlg_n, ok_0, ok_i, ok_r, ok_l, zi_e, zi_n, zi_t, Nat.reduceEqDiff, Nat.not_le, Nat.reduceLeDiff, if_true, if_false, eq_self, ↓reduceIte, Nat.reduceLT, Nat.le_refl, nle1, nez1, nez2, uc_1, uc_2, hM]
  · simp (disch := first | omega | (simp only [nlg_r, nlg_i, nlg_n, ok_0, ok_i, ok_r, ok_l]; done) | assumption | (simp only [List.length_set, List.length_append, List.length_cons, List.length_nil]; omega)) only [TA, aft_v, aft_n, aft_t, gf_0, gf_s, pf_e, tg_e, hp_s, hp_n, hp_2, List.set_cons_zero, List.set_cons_succ, b2i_t, b2i_f, Ret_s, nlg_r, nlg_i, nlg_n, ok_0, ok_i, ok_r, ok_l, zi_e, zi_n, zi_t, Nat.reduceEqDiff, Nat.not_le, Nat.reduceLeDiff, if_true, if_false, eq_self, ↓reduceIte, Nat.reduceLT, Nat.le_refl, nle1, nez1, nez2, uc_1, uc_2, a17, a18, a19, a20, a21, a22, a23, a24, a25, a26, a27, a28, a29, a30, a31, a32, a33, and_self]
set_option maxRecDepth 20000 in
/-- no digits, or a value that can't be -/
theorem t_goV {e F n q v : Nat} (T : TY th σ e F h) (he : e ≤ 41) (hF : F ≤ 41) {on : Int32} {g : Bool} (hc : e = F ∨ g = false) :
    Ret (run (d + 2) 89 176 [.ref 16, .int on, .int (nI n), .int (nI q), .int (nI F), .int (nI v), .int (b2i g)] [] h) (fun o h' => o = .inl (some (.int (-1))) ∧ TY th σ e F h' ∧ FrT h h') := by
  have T0 := T
  obtain ⟨ic, op, mo, hmo, hM, -⟩ := T
  by_cases q1 : e = F
  · subst q1
    simp (disch := first | omega | (simp only [nlg_r, nlg_i, nlg_n, ok_0, ok_i, ok_r, ok_l]; done) | assumption | (simp only [List.length_set, List.length_append, List.length_cons, List.length_nil]; omega)) only [r_89_176, r_89_177, r_89_180, r_89_182, r_89_185, r_89_187, r_89_190, r_89_191, hM, mdl, aft_v, aft_n, aft_t, gf_0, gf_s, pf_e, tg_e, hp_s, hp_n, hp_2, List.set_cons_zero, List.set_cons_succ, b2i_t, b2i_f, Ret_s, nlg_r, nlg_i, nlg_n, ok_0, ok_i, ok_r, ok_l, zi_e, zi_n, zi_t, Nat.reduceEqDiff, Nat.not_le, Nat.reduceLeDiff, if_true, if_false, eq_self, ↓reduceIte, Nat.reduceLT, Nat.le_refl, nle1, nez1, nez2, ei_r, ei_l, ni_r, ni_l, ti_r, ti_l, ai_r, ai_l, si_r, si_l, mi_r, mi_l, di_r, nI_eq, nI_leI, nI_ltI, nI_add, pk_sub, pk_mul, pk_div, pk_rem, nI_l, lN_i]
    exact ⟨trivial, T0, FrT.refl h⟩
  · have hg : g = false := by rcases hc with z | z; exact absurd z q1; exact z
    subst hg
    simp (disch := first | omega | (simp only [nlg_r, nlg_i, nlg_n, ok_0, ok_i, ok_r, ok_l]; done) | assumption | (simp only [List.length_set, List.length_append, List.length_cons, List.length_nil]; omega)) only [r_89_176, r_89_177, r_89_180, r_89_182, r_89_185, r_89_187, r_89_190, r_89_191, hM, mdl, aft_v, aft_n, aft_t, gf_0, gf_s, pf_e, tg_e, hp_s, hp_n, hp_2, List.set_cons_zero, List.set_cons_succ, b2i_t, b2i_f, Ret_s, nlg_r, nlg_i, nlg_n, ok_0, ok_i, ok_r, ok_l, zi_e, zi_n, zi_t, Nat.reduceEqDiff, Nat.not_le, Nat.reduceLeDiff, if_true, if_false, eq_self, ↓reduceIte, Nat.reduceLT, Nat.le_refl, nle1, nez1, nez2, ei_r, ei_l, ni_r, ni_l, ti_r, ti_l, ai_r, ai_l, si_r, si_l, mi_r, mi_l, di_r, nI_eq, nI_leI, nI_ltI, nI_add, pk_sub, pk_mul, pk_div, pk_rem, nI_l, lN_i, q1]
    exact ⟨trivial, T0, FrT.refl h⟩
set_option maxRecDepth 20000 in
/-- the value is set, or not -/
theorem t_goR (hL : WL σ) {e F n q v : Nat} (T : TY th σ e F h) (he : e ≤ 41) (hF : F ≤ 41) (hq : q < 4) (h1 : ¬ e = F) {on : Bool} :
    ∃ h', run (d + 2) 89 176 [.ref 16, .int (b2i on), .int (nI n), .int (nI q), .int (nI F), .int (nI v), .int (b2i true)] [] h = run (d + 2) 89 207 [.ref 16, .int (b2i on), .int (nI (n + 1)), .int (nI q), .int (nI F), .int (nI v), .int (b2i true)] [] h' ∧ TY th (rul on σ q v) e F h' ∧ FrT h h' := by
  have l13 := hL.2.2.2.2.2.2.2.2.2.2.2.2.1
  have T0 := T
  have T1 := T.rul q v
  obtain ⟨ic, op, mo, hmo, hM, a17, a18, a19, a20, a21, a22, a23, a24, a25, a26, a27, a28, a29, a30, a31, a32, a33⟩ := T
  cases on with
  | false =>
    refine ⟨h, ?_, by unfold rul; rw [if_neg (by decide)]; exact T0, FrT.refl h⟩
    simp (disch := first | omega | (simp only [nlg_r, nlg_i, nlg_n, ok_0, ok_i, ok_r, ok_l]; done) | assumption | (simp only [List.length_set, List.length_append, List.length_cons, List.length_nil]; omega)) only [r_89_176, r_89_177, r_89_180, r_89_182, r_89_185, r_89_187, r_89_190, r_89_191, r_89_192, r_89_193, r_89_196, r_89_197, r_89_200, r_89_201, r_89_203, r_89_204, hM, mdl, aft_v, aft_n, aft_t, gf_0, gf_s, pf_e, tg_e, hp_s, hp_n, hp_2, List.set_cons_zero, List.set_cons_succ, b2i_t, b2i_f, Ret_s, nlg_r, nlg_i, nlg_n, ok_0, ok_i, ok_r, ok_l, zi_e, zi_n, zi_t, Nat.reduceEqDiff, Nat.not_le, Nat.reduceLeDiff, if_true, if_false, eq_self, ↓reduceIte, Nat.reduceLT, Nat.le_refl, nle1, nez1, nez2, ei_r, ei_l, ni_r, ni_l, ti_r, ti_l, ai_r, ai_l, si_r, si_l, mi_r, mi_l, di_r, nI_eq, nI_leI, nI_ltI, nI_add, pk_sub, pk_mul, pk_div, pk_rem, nI_l, lN_i, h1]
  | true =>
    refine ⟨hput h 26 (20, iA ((σ.2 13).set q v)), ?_, by unfold rul; rw [if_pos rfl]; exact T1, (FrT.refl h).put (by omega)⟩
    simp (disch := first | omega | (simp only [nlg_r, nlg_i, nlg_n, ok_0, ok_i, ok_r, ok_l]; done) | assumption | (simp only [List.length_set, List.length_append, List.length_cons, List.length_nil]; omega)) only [r_89_176, r_89_177, r_89_180, r_89_182, r_89_185, r_89_187, r_89_190, r_89_191, r_89_192, r_89_193, r_89_196, r_89_197, r_89_200, r_89_201, r_89_203, r_89_204, hM, mdl, aft_v, aft_n, aft_t, gf_0, gf_s, pf_e, tg_e, hp_s, hp_n, hp_2, List.set_cons_zero, List.set_cons_succ, b2i_t, b2i_f, Ret_s, nlg_r, nlg_i, nlg_n, ok_0, ok_i, ok_r, ok_l, zi_e, zi_n, zi_t, Nat.reduceEqDiff, Nat.not_le, Nat.reduceLeDiff, if_true, if_false, eq_self, ↓reduceIte, Nat.reduceLT, Nat.le_refl, nle1, nez1, nez2, ei_r, ei_l, ni_r, ni_l, ti_r, ti_l, ai_r, ai_l, si_r, si_l, mi_r, mi_l, di_r, nI_eq, nI_leI, nI_ltI, nI_add, pk_sub, pk_mul, pk_div, pk_rem, nI_l, lN_i, h1, a26, as_i]
set_option maxRecDepth 20000 in
/-- the end, or a semicolon -/
theorem t_goS (hL : WL σ) (hV : WV σ) (hS : WS σ) {e F n : Nat} (T : TY th σ e F h) (he : e ≤ σ.1 3) (hn : n ≤ 7) {on x3 x4 x5 x6 : Int32} :
    (e = σ.1 3 → Ret (run (d + 2) 89 207 [.ref 16, .int on, .int (nI n), .int x3, .int x4, .int x5, .int x6] [] h) (fun o h' => o = .inl (some (.int (nI n))) ∧ TY th σ e F h' ∧ FrT h h')) ∧
    (¬ e = σ.1 3 → ¬ (tx σ e = 59 ∧ n ≠ 6) → Ret (run (d + 2) 89 207 [.ref 16, .int on, .int (nI n), .int x3, .int x4, .int x5, .int x6] [] h) (fun o h' => o = .inl (some (.int (-1))) ∧ TY th σ e e h' ∧ FrT h h')) ∧
    (¬ e = σ.1 3 → (tx σ e = 59 ∧ n ≠ 6) → ∃ h', run (d + 2) 89 207 [.ref 16, .int on, .int (nI n), .int x3, .int x4, .int x5, .int x6] [] h = run (d + 2) 89 7 [.ref 16, .int on, .int (nI n), .int x3, .int x4, .int x5, .int x6] [] h' ∧ TY th σ (e + 1) e h' ∧ FrT h h') := by
  have s5 := hS.2.2.2.2
  have l12 := hL.2.2.2.2.2.2.2.2.2.2.2.1
  have bt : tx σ e ≤ 126 := (hV e).2.2.2.2.2.2.2.2.2.2.2.1
  have gt : (σ.2 12).getD e 0 = tx σ e := rfl
  have T0 := T
  obtain ⟨ic, op, hM, T1⟩ := T.put e e
  obtain ⟨ic1, op1, hM1, T2⟩ := T1.put (e + 1) e
  rw [hp_s] at hM1
  simp only [mdY, mdl] at hM1
  cases hM1
  obtain ⟨mo, hA⟩ := T.ta
  obtain ⟨a17, a18, a19, a20, a21, a22, a23, a24, a25, a26, a27, a28, a29, a30, a31, a32, a33⟩ := hA
  refine ⟨fun q => ?_, fun q1 q2 => ?_, fun q1 q2 => ?_⟩
  · simp (disch := first | omega | (simp only [nlg_r, nlg_i, nlg_n, ok_0, ok_i, ok_r, ok_l]; done) | assumption | (simp only [List.length_set, List.length_append, List.length_cons, List.length_nil]; omega)) only [r_89_207, r_89_208, r_89_211, r_89_212, r_89_215, r_89_218, r_89_219, r_89_220, r_89_221, r_89_222, r_89_225, r_89_228, r_89_229, r_89_232, r_89_233, r_89_236, r_89_237, r_89_239, r_89_242, r_89_243, r_89_245, r_89_248, r_89_249, r_89_250, r_89_251, r_89_252, r_89_255, r_89_256, r_89_257, r_89_260, hM, mdl, aft_v, aft_n, aft_t, gf_0, gf_s, pf_e, tg_e, hp_s, hp_n, hp_2, List.set_cons_zero, List.set_cons_succ, b2i_t, b2i_f, Ret_s, nlg_r, nlg_i, nlg_n, ok_0, ok_i, ok_r, ok_l, zi_e, zi_n, zi_t, Nat.reduceEqDiff, Nat.not_le, Nat.reduceLeDiff, if_true, if_false, eq_self, ↓reduceIte, Nat.reduceLT, Nat.le_refl, nle1, nez1, nez2, ei_r, ei_l, ni_r, ni_l, ti_r, ti_l, ai_r, ai_l, si_r, si_l, mi_r, mi_l, di_r, nI_eq, nI_leI, nI_ltI, nI_add, pk_sub, pk_mul, pk_div, pk_rem, nI_l, lN_i, q]
    exact ⟨trivial, q ▸ T0, FrT.refl h⟩
  · by_cases q3 : tx σ e = 59
    · have q4 : n = 6 := by
        by_cases z : n = 6
        · exact z
        · exact absurd ⟨q3, z⟩ q2
      subst q4
      simp (disch := first | omega | (simp only [nlg_r, nlg_i, nlg_n, ok_0, ok_i, ok_r, ok_l]; done) | assumption | (simp only [List.length_set, List.length_append, List.length_cons, List.length_nil]; omega)) only [r_89_207, r_89_208, r_89_211, r_89_212, r_89_215, r_89_218, r_89_219, r_89_220, r_89_221, r_89_222, r_89_225, r_89_228, r_89_229, r_89_232, r_89_233, r_89_236, r_89_237, r_89_239, r_89_242, r_89_243, r_89_245, r_89_248, r_89_249, r_89_250, r_89_251, r_89_252, r_89_255, r_89_256, r_89_257, r_89_260, hM, mdl, aft_v, aft_n, aft_t, gf_0, gf_s, pf_e, tg_e, hp_s, hp_n, hp_2, List.set_cons_zero, List.set_cons_succ, b2i_t, b2i_f, Ret_s, nlg_r, nlg_i, nlg_n, ok_0, ok_i, ok_r, ok_l, zi_e, zi_n, zi_t, Nat.reduceEqDiff, Nat.not_le, Nat.reduceLeDiff, if_true, if_false, eq_self, ↓reduceIte, Nat.reduceLT, Nat.le_refl, nle1, nez1, nez2, ei_r, ei_l, ni_r, ni_l, ti_r, ti_l, ai_r, ai_l, si_r, si_l, mi_r, mi_l, di_r, nI_eq, nI_leI, nI_ltI, nI_add, pk_sub, pk_mul, pk_div, pk_rem, nI_l, lN_i, q1, a31, al_i, gt, q3]
      exact ⟨trivial, T1, (FrT.refl h).put (by omega)⟩
    · simp (disch := first | omega | (simp only [nlg_r, nlg_i, nlg_n, ok_0, ok_i, ok_r, ok_l]; done) | assumption | (simp only [List.length_set, List.length_append, List.length_cons, List.length_nil]; omega)) only [r_89_207, r_89_208, r_89_211, r_89_212, r_89_215, r_89_218, r_89_219, r_89_220, r_89_221, r_89_222, r_89_225, r_89_228, r_89_229, r_89_232, r_89_233, r_89_236, r_89_237, r_89_239, r_89_242, r_89_243, r_89_245, r_89_248, r_89_249, r_89_250, r_89_251, r_89_252, r_89_255, r_89_256, r_89_257, r_89_260, hM, mdl, aft_v, aft_n, aft_t, gf_0, gf_s, pf_e, tg_e, hp_s, hp_n, hp_2, List.set_cons_zero, List.set_cons_succ, b2i_t, b2i_f, Ret_s, nlg_r, nlg_i, nlg_n, ok_0, ok_i, ok_r, ok_l, zi_e, zi_n, zi_t, Nat.reduceEqDiff, Nat.not_le, Nat.reduceLeDiff, if_true, if_false, eq_self, ↓reduceIte, Nat.reduceLT, Nat.le_refl, nle1, nez1, nez2, ei_r, ei_l, ni_r, ni_l, ti_r, ti_l, ai_r, ai_l, si_r, si_l, mi_r, mi_l, di_r, nI_eq, nI_leI, nI_ltI, nI_add, pk_sub, pk_mul, pk_div, pk_rem, nI_l, lN_i, q1, a31, al_i, gt, q3]
      exact ⟨trivial, T1, (FrT.refl h).put (by omega)⟩
  · refine ⟨_, ?_, T2, ((FrT.refl h).put (by omega)).put (by omega)⟩
    simp (disch := first | omega | (simp only [nlg_r, nlg_i, nlg_n, ok_0, ok_i, ok_r, ok_l]; done) | assumption | (simp only [List.length_set, List.length_append, List.length_cons, List.length_nil]; omega)) only [r_89_207, r_89_208, r_89_211, r_89_212, r_89_215, r_89_218, r_89_219, r_89_220, r_89_221, r_89_222, r_89_225, r_89_228, r_89_229, r_89_232, r_89_233, r_89_236, r_89_237, r_89_239, r_89_242, r_89_243, r_89_245, r_89_248, r_89_249, r_89_250, r_89_251, r_89_252, r_89_255, r_89_256, r_89_257, r_89_260, hM, mdl, aft_v, aft_n, aft_t, gf_0, gf_s, pf_e, tg_e, hp_s, hp_n, hp_2, List.set_cons_zero, List.set_cons_succ, b2i_t, b2i_f, Ret_s, nlg_r, nlg_i, nlg_n, ok_0, ok_i, ok_r, ok_l, zi_e, zi_n, zi_t, Nat.reduceEqDiff, Nat.not_le, Nat.reduceLeDiff, if_true, if_false, eq_self, ↓reduceIte, Nat.reduceLT, Nat.le_refl, nle1, nez1, nez2, ei_r, ei_l, ni_r, ni_l, ti_r, ti_l, ai_r, ai_l, si_r, si_l, mi_r, mi_l, di_r, nI_eq, nI_leI, nI_ltI, nI_add, pk_sub, pk_mul, pk_div, pk_rem, nI_l, lN_i, q1, a31, al_i, gt, q2.1, q2.2]
end TU
