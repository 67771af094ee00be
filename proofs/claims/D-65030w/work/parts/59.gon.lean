/-! PLAIN LEAN, 20: reading the text in the twin -/
section TS
variable {th d : Nat} {σ : AS} {h : MH}
set_option maxRecDepth 20000 in
theorem t_dig (hL : WL σ) (hV : WV σ) (hS : WS σ) {F w : Nat} (hF : F ≤ 40) {on n wh : Int32} {z : Value} : ∀ (k i v : Nat) (h : MH), i + k = F + 5 → F ≤ i → i ≤ 40 → v < 10 ^ (i - F) → TY th σ i w h →
    ∃ h', run (d + 2) 89 75 [.ref 16, .int on, .int n, .int wh, .int (nI F), .int (nI v), z] [] h = run (d + 2) 89 126 [.ref 16, .int on, .int n, .int wh, .int (nI F), .int (nI (num (tx σ) (σ.1 3) k i v).2), z] [] h' ∧ TY th σ (num (tx σ) (σ.1 3) k i v).1 w h' ∧ FrT h h' := by
  have s5 := hS.2.2.2.2
  have l12 := hL.2.2.2.2.2.2.2.2.2.2.2.1
  intro k
  induction k with
  | zero =>
    intro i v h hk hi h40 hv T
    have cb := c_91 (d := d) T hL hV hS (by omega)
    refine ⟨h, ?_, T, FrT.refl h⟩
    obtain ⟨ic, op, mo, hmo, hM, a17, a18, a19, a20, a21, a22, a23, a24, a25, a26, a27, a28, a29, a30, a31, a32, a33⟩ := T
    have q : 5 ≤ i - F := by omega
    simp only [num]
    cases eb : (decide (i < σ.1 3) && dig (tx σ i))
    · rw [eb] at cb
      simp (disch := first | omega | (simp only [nlg_r, nlg_i, nlg_n, ok_0, ok_i, ok_r, ok_l]; done) | assumption | (simp only [List.length_set, List.length_append, List.length_cons, List.length_nil]; omega)) only [r_89_75, r_89_76, r_89_79, r_89_82, r_89_83, r_89_86, r_89_88, r_89_89, r_89_90, r_89_93, r_89_95, r_89_97, r_89_98, r_89_99, r_89_102, r_89_103, r_89_106, r_89_107, r_89_108, r_89_110, r_89_111, r_89_113, r_89_114, r_89_115, r_89_118, r_89_119, r_89_120, r_89_123, hM, mdl, aft_v, aft_n, aft_t, gf_0, gf_s, pf_e, tg_e, hp_s, hp_n, hp_2, List.set_cons_zero, List.set_cons_succ, b2i_t, b2i_f, Ret_s, nlg_r, nlg_i, nlg_n, ok_0, ok_i, ok_r, ok_l, zi_e, zi_n, zi_t, Nat.reduceEqDiff, Nat.not_le, Nat.reduceLeDiff, if_true, if_false, eq_self, ↓reduceIte, Nat.reduceLT, Nat.le_refl, nle1, nez1, nez2, ei_r, ei_l, ni_r, ni_l, ti_r, ti_l, ai_r, ai_l, si_r, si_l, mi_r, mi_l, di_r, nI_eq, nI_leI, nI_ltI, nI_add, pk_sub, pk_mul, pk_div, pk_rem, nI_l, lN_i, cb]
    · rw [eb] at cb
      simp (disch := first | omega | (simp only [nlg_r, nlg_i, nlg_n, ok_0, ok_i, ok_r, ok_l]; done) | assumption | (simp only [List.length_set, List.length_append, List.length_cons, List.length_nil]; omega)) only [r_89_75, r_89_76, r_89_79, r_89_82, r_89_83, r_89_86, r_89_88, r_89_89, r_89_90, r_89_93, r_89_95, r_89_97, r_89_98, r_89_99, r_89_102, r_89_103, r_89_106, r_89_107, r_89_108, r_89_110, r_89_111, r_89_113, r_89_114, r_89_115, r_89_118, r_89_119, r_89_120, r_89_123, hM, mdl, aft_v, aft_n, aft_t, gf_0, gf_s, pf_e, tg_e, hp_s, hp_n, hp_2, List.set_cons_zero, List.set_cons_succ, b2i_t, b2i_f, Ret_s, nlg_r, nlg_i, nlg_n, ok_0, ok_i, ok_r, ok_l, zi_e, zi_n, zi_t, Nat.reduceEqDiff, Nat.not_le, Nat.reduceLeDiff, if_true, if_false, eq_self, ↓reduceIte, Nat.reduceLT, Nat.le_refl, nle1, nez1, nez2, ei_r, ei_l, ni_r, ni_l, ti_r, ti_l, ai_r, ai_l, si_r, si_l, mi_r, mi_l, di_r, nI_eq, nI_leI, nI_ltI, nI_add, pk_sub, pk_mul, pk_div, pk_rem, nI_l, lN_i, cb, q]
  | succ k ih =>
    intro i v h hk hi h40 hv T
    have cb := c_91 (d := d) T hL hV hS (by omega)
    cases eb : (decide (i < σ.1 3) && dig (tx σ i))
    · rw [eb] at cb
      refine ⟨h, ?_, ?_, FrT.refl h⟩
      · obtain ⟨ic, op, mo, hmo, hM, a17, a18, a19, a20, a21, a22, a23, a24, a25, a26, a27, a28, a29, a30, a31, a32, a33⟩ := T
        rw [num, if_neg (by rw [eb]; decide)]
        simp (disch := first | omega | (simp only [nlg_r, nlg_i, nlg_n, ok_0, ok_i, ok_r, ok_l]; done) | assumption | (simp only [List.length_set, List.length_append, List.length_cons, List.length_nil]; omega)) only [r_89_75, r_89_76, r_89_79, r_89_82, r_89_83, r_89_86, r_89_88, r_89_89, r_89_90, r_89_93, r_89_95, r_89_97, r_89_98, r_89_99, r_89_102, r_89_103, r_89_106, r_89_107, r_89_108, r_89_110, r_89_111, r_89_113, r_89_114, r_89_115, r_89_118, r_89_119, r_89_120, r_89_123, hM, mdl, aft_v, aft_n, aft_t, gf_0, gf_s, pf_e, tg_e, hp_s, hp_n, hp_2, List.set_cons_zero, List.set_cons_succ, b2i_t, b2i_f, Ret_s, nlg_r, nlg_i, nlg_n, ok_0, ok_i, ok_r, ok_l, zi_e, zi_n, zi_t, Nat.reduceEqDiff, Nat.not_le, Nat.reduceLeDiff, if_true, if_false, eq_self, ↓reduceIte, Nat.reduceLT, Nat.le_refl, nle1, nez1, nez2, ei_r, ei_l, ni_r, ni_l, ti_r, ti_l, ai_r, ai_l, si_r, si_l, mi_r, mi_l, di_r, nI_eq, nI_leI, nI_ltI, nI_add, pk_sub, pk_mul, pk_div, pk_rem, nI_l, lN_i, cb]
      · rw [num, if_neg (by rw [eb]; decide)]
        exact T
    · rw [eb] at cb
      have hc := eb
      simp only [Bool.and_eq_true, decide_eq_true_eq, dig] at hc
      have bt : tx σ i ≤ 126 := (hV i).2.2.2.2.2.2.2.2.2.2.2.1
      have hp : 10 * v + tx σ i - 48 < 10 ^ (i + 1 - F) := by
        rw [show i + 1 - F = (i - F) + 1 by omega, Nat.pow_succ]
        omega
      have hv6 : v < 10 ^ 5 := Nat.lt_of_lt_of_le hv (Nat.pow_le_pow_right (by omega) (by omega))
      have q : ¬ 5 ≤ i - F := by omega
      have gt : (σ.2 12).getD i 0 = tx σ i := rfl
      have T0 := T
      obtain ⟨ic, op, mo, hmo, hM, a17, a18, a19, a20, a21, a22, a23, a24, a25, a26, a27, a28, a29, a30, a31, a32, a33⟩ := T
      have T1 : TY th σ (i + 1) w (hput h 16 (mdl th (σ.1 0) (σ.2 1).length (σ.1 1) (σ.1 2) (σ.2 6).length (σ.1 3) (nI (i + 1)) (nI w) (σ.2 10).length ic op)) := by
        refine ⟨ic, op, mo, hmo, ?_, ?_⟩
        · simp (disch := first | omega | (simp only [nlg_r, nlg_i, nlg_n, ok_0, ok_i, ok_r, ok_l]; done) | assumption | (simp only [List.length_set, List.length_append, List.length_cons, List.length_nil]; omega)) only [aft_v, aft_n, aft_t, gf_0, gf_s, pf_e, tg_e, hp_s, hp_n, hp_2, List.set_cons_zero, List.set_cons_succ, b2i_t, b2i_f, Ret_s, nlg_r, nlg_i, nlg_n, ok_0, ok_i, ok_r, ok_l, zi_e, zi_n, zi_t, Nat.reduceEqDiff, Nat.not_le, Nat.reduceLeDiff, if_true, if_false, eq_self, ↓reduceIte, Nat.reduceLT, Nat.le_refl, nle1, nez1, nez2]
        · simp (disch := first | omega | (simp only [nlg_r, nlg_i, nlg_n, ok_0, ok_i, ok_r, ok_l]; done) | assumption | (simp only [List.length_set, List.length_append, List.length_cons, List.length_nil]; omega)) only [TA, aft_v, aft_n, aft_t, gf_0, gf_s, pf_e, tg_e, hp_s, hp_n, hp_2, List.set_cons_zero, List.set_cons_succ, b2i_t, b2i_f, Ret_s, nlg_r, nlg_i, nlg_n, ok_0, ok_i, ok_r, ok_l, zi_e, zi_n, zi_t, Nat.reduceEqDiff, Nat.not_le, Nat.reduceLeDiff, if_true, if_false, eq_self, ↓reduceIte, Nat.reduceLT, Nat.le_refl, nle1, nez1, nez2, a17, a18, a19, a20, a21, a22, a23, a24, a25, a26, a27, a28, a29, a30, a31, a32, a33, and_self]
      obtain ⟨h', e, T2, F2⟩ := ih (i + 1) (10 * v + tx σ i - 48) _ (by omega) (by omega) (by omega) hp T1
      refine ⟨h', ?_, ?_, ((FrT.refl h).put (by omega)).trans F2⟩
      · rw [num, if_pos eb, ← e]
        conv => lhs; rw [r_89_75]
        simp (disch := first | omega | (simp only [nlg_r, nlg_i, nlg_n, ok_0, ok_i, ok_r, ok_l]; done) | assumption | (simp only [List.length_set, List.length_append, List.length_cons, List.length_nil]; omega)) only [r_89_76, r_89_79, r_89_82, r_89_83, r_89_86, r_89_88, r_89_89, r_89_90, r_89_93, r_89_95, r_89_97, r_89_98, r_89_99, r_89_102, r_89_103, r_89_106, r_89_107, r_89_108, r_89_110, r_89_111, r_89_113, r_89_114, r_89_115, r_89_118, r_89_119, r_89_120, r_89_123, hM, mdl, aft_v, aft_n, aft_t, gf_0, gf_s, pf_e, tg_e, hp_s, hp_n, hp_2, List.set_cons_zero, List.set_cons_succ, b2i_t, b2i_f, Ret_s, nlg_r, nlg_i, nlg_n, ok_0, ok_i, ok_r, ok_l, zi_e, zi_n, zi_t, Nat.reduceEqDiff, Nat.not_le, Nat.reduceLeDiff, if_true, if_false, eq_self, ↓reduceIte, Nat.reduceLT, Nat.le_refl, nle1, nez1, nez2, ei_r, ei_l, ni_r, ni_l, ti_r, ti_l, ai_r, ai_l, si_r, si_l, mi_r, mi_l, di_r, nI_eq, nI_leI, nI_ltI, nI_add, pk_sub, pk_mul, pk_div, pk_rem, nI_l, lN_i, cb, q, a31, al_i, gt]
      · rw [num, if_pos eb]; exact T2
end TS
