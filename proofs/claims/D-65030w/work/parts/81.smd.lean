/-! PLAIN LEAN, 42: samples in the component -/
section CV
variable {σ σ' : AS} {O : List Nat} {d er es ep : Nat} {ra sa pa : List Nat} {h h' : MH}
theorem c_69 {b : Nat} {a y c t : Int32} (hb : 5 ≤ b) (e : h.1 b = (4, [.int 0, .int 0, .int 0, .int 0])) : run d 69 0 [.ref b, .int a, .int y, .int c, .int t] [] h = some (.inl none, hput (hput (hput (hput h b (4, [.int a, .int 0, .int 0, .int 0])) b (4, [.int a, .int y, .int 0, .int 0])) b (4, [.int a, .int y, .int c, .int 0])) b (4, [.int a, .int y, .int c, .int t])) := by
  simp (disch := first | omega | (simp only [nlg_r, nlg_i, nlg_n, ok_0, ok_i, ok_r, ok_l]; done) | assumption | (simp only [List.length_set, List.length_append, List.length_cons, List.length_nil]; omega)) only [r_69_0, r_69_1, r_69_4, r_69_5, r_69_6, r_69_9, r_69_10, r_69_11, r_69_14, r_69_15, r_69_16, r_69_19, r_69_20, r_69_22, r_69_25, e, aft_v, aft_n, aft_t, gf_0, gf_s, pf_e, tg_e, hp_s, hp_n, hp_2, List.set_cons_zero, List.set_cons_succ, b2i_t, b2i_f, Ret_s, nlg_r, nlg_i, nlg_n, ok_0, ok_i, ok_r, ok_l, zi_e, zi_n, zi_t, Nat.reduceEqDiff, Nat.not_le, Nat.reduceLeDiff, if_true, if_false, eq_self, ↓reduceIte, Nat.reduceLT, Nat.le_refl, nle1, nez1, nez2]
theorem c_70 {A C y t q : Nat} {x0 x2 : Value} (hA : h.1 A = (4, [x0, .int (nI y), x2, .int (nI t)])) (hC : h.1 C = smpC σ q) (hV : WV σ) (hy : y ≤ 400) (ht : t ≤ 400) : run d 70 0 [.ref A, .ref C] [] h = some (.inl (some (.int (b2i (ibf σ y t q)))), h) := by
  have vq := hV q
  have b7 : sD σ q ≤ 400 := vq.2.2.2.2.2.2.1
  have b9 : sT σ q ≤ 400 := vq.2.2.2.2.2.2.2.2.1
  simp only [smpC] at hC
  by_cases q1 : y = sD σ q
  · by_cases q2 : sT σ q ≤ t
    · have e : ibf σ y t q = false := by simp [ibf, q1, q2]
      rw [e]
      simp (disch := first | omega | (simp only [nlg_r, nlg_i, nlg_n, ok_0, ok_i, ok_r, ok_l]; done) | assumption | (simp only [List.length_set, List.length_append, List.length_cons, List.length_nil]; omega)) only [r_70_0, r_70_1, r_70_4, r_70_5, r_70_8, r_70_11, r_70_12, r_70_15, r_70_16, r_70_19, r_70_22, r_70_23, r_70_26, r_70_27, r_70_30, r_70_31, r_70_34, r_70_35, r_70_38, r_70_41, r_70_42, r_70_45, r_70_46_0, r_70_46_1, r_70_46_n, hA, hC, aft_v, aft_n, aft_t, gf_0, gf_s, pf_e, tg_e, hp_s, hp_n, hp_2, List.set_cons_zero, List.set_cons_succ, b2i_t, b2i_f, Ret_s, nlg_r, nlg_i, nlg_n, ok_0, ok_i, ok_r, ok_l, zi_e, zi_n, zi_t, Nat.reduceEqDiff, Nat.not_le, Nat.reduceLeDiff, if_true, if_false, eq_self, ↓reduceIte, Nat.reduceLT, Nat.le_refl, nle1, nez1, nez2, ei_r, ei_l, ni_r, ni_l, ti_r, ti_l, ai_r, ai_l, si_r, si_l, mi_r, mi_l, di_r, nI_eq, nI_leI, nI_ltI, nI_add, pk_sub, pk_mul, pk_div, pk_rem, nI_l, lN_i, q1, q2]
    · have e : ibf σ y t q = true := by simp [ibf, q1]; omega
      rw [e]
      simp (disch := first | omega | (simp only [nlg_r, nlg_i, nlg_n, ok_0, ok_i, ok_r, ok_l]; done) | assumption | (simp only [List.length_set, List.length_append, List.length_cons, List.length_nil]; omega)) only [r_70_0, r_70_1, r_70_4, r_70_5, r_70_8, r_70_11, r_70_12, r_70_15, r_70_16, r_70_19, r_70_22, r_70_23, r_70_26, r_70_27, r_70_30, r_70_31, r_70_34, r_70_35, r_70_38, r_70_41, r_70_42, r_70_45, r_70_46_0, r_70_46_1, r_70_46_n, hA, hC, aft_v, aft_n, aft_t, gf_0, gf_s, pf_e, tg_e, hp_s, hp_n, hp_2, List.set_cons_zero, List.set_cons_succ, b2i_t, b2i_f, Ret_s, nlg_r, nlg_i, nlg_n, ok_0, ok_i, ok_r, ok_l, zi_e, zi_n, zi_t, Nat.reduceEqDiff, Nat.not_le, Nat.reduceLeDiff, if_true, if_false, eq_self, ↓reduceIte, Nat.reduceLT, Nat.le_refl, nle1, nez1, nez2, ei_r, ei_l, ni_r, ni_l, ti_r, ti_l, ai_r, ai_l, si_r, si_l, mi_r, mi_l, di_r, nI_eq, nI_leI, nI_ltI, nI_add, pk_sub, pk_mul, pk_div, pk_rem, nI_l, lN_i, q1, q2]
  · by_cases q2 : sD σ q ≤ y
    · have e : ibf σ y t q = false := by simp [ibf, q1]; omega
      rw [e]
      simp (disch := first | omega | (simp only [nlg_r, nlg_i, nlg_n, ok_0, ok_i, ok_r, ok_l]; done) | assumption | (simp only [List.length_set, List.length_append, List.length_cons, List.length_nil]; omega)) only [r_70_0, r_70_1, r_70_4, r_70_5, r_70_8, r_70_11, r_70_12, r_70_15, r_70_16, r_70_19, r_70_22, r_70_23, r_70_26, r_70_27, r_70_30, r_70_31, r_70_34, r_70_35, r_70_38, r_70_41, r_70_42, r_70_45, r_70_46_0, r_70_46_1, r_70_46_n, hA, hC, aft_v, aft_n, aft_t, gf_0, gf_s, pf_e, tg_e, hp_s, hp_n, hp_2, List.set_cons_zero, List.set_cons_succ, b2i_t, b2i_f, Ret_s, nlg_r, nlg_i, nlg_n, ok_0, ok_i, ok_r, ok_l, zi_e, zi_n, zi_t, Nat.reduceEqDiff, Nat.not_le, Nat.reduceLeDiff, if_true, if_false, eq_self, ↓reduceIte, Nat.reduceLT, Nat.le_refl, nle1, nez1, nez2, ei_r, ei_l, ni_r, ni_l, ti_r, ti_l, ai_r, ai_l, si_r, si_l, mi_r, mi_l, di_r, nI_eq, nI_leI, nI_ltI, nI_add, pk_sub, pk_mul, pk_div, pk_rem, nI_l, lN_i, q1, q2]
    · have e : ibf σ y t q = true := by simp [ibf, q1]; omega
      rw [e]
      simp (disch := first | omega | (simp only [nlg_r, nlg_i, nlg_n, ok_0, ok_i, ok_r, ok_l]; done) | assumption | (simp only [List.length_set, List.length_append, List.length_cons, List.length_nil]; omega)) only [r_70_0, r_70_1, r_70_4, r_70_5, r_70_8, r_70_11, r_70_12, r_70_15, r_70_16, r_70_19, r_70_22, r_70_23, r_70_26, r_70_27, r_70_30, r_70_31, r_70_34, r_70_35, r_70_38, r_70_41, r_70_42, r_70_45, r_70_46_0, r_70_46_1, r_70_46_n, hA, hC, aft_v, aft_n, aft_t, gf_0, gf_s, pf_e, tg_e, hp_s, hp_n, hp_2, List.set_cons_zero, List.set_cons_succ, b2i_t, b2i_f, Ret_s, nlg_r, nlg_i, nlg_n, ok_0, ok_i, ok_r, ok_l, zi_e, zi_n, zi_t, Nat.reduceEqDiff, Nat.not_le, Nat.reduceLeDiff, if_true, if_false, eq_self, ↓reduceIte, Nat.reduceLT, Nat.le_refl, nle1, nez1, nez2, ei_r, ei_l, ni_r, ni_l, ti_r, ti_l, ai_r, ai_l, si_r, si_l, mi_r, mi_l, di_r, nI_eq, nI_leI, nI_ltI, nI_add, pk_sub, pk_mul, pk_div, pk_rem, nI_l, lN_i, q1, q2]
set_option maxRecDepth 20000 in
/-- where a sample goes -/
theorem c_39l {A y t rr : Nat} {x0 x1 x2 x3 x4 : Value} {a0 a2 : Int32} (hM : h.1 5 = c5 σ rr) (hA : h.1 A = (4, [x0, .int (nI y), x2, .int (nI t)])) (l7 : LA h 7 es sa) (hn : sa.length = O.length) (hs : ∀ k, k < sa.length → 35 ≤ sa.getD k 0 ∧ h.1 (sa.getD k 0) = smpC σ (O.getD k 0)) (hV : WV σ) (hy : y ≤ 400) (ht : t ≤ 400) (hO : O.length ≤ 60) : ∀ k, k ≤ O.length →
    run (d + 3) 39 91 [.ref 5, .int a0, .int (nI y), .int a2, .int (nI t), .ref A, .int (nI k)] [] h = run (d + 3) 39 124 [.ref 5, .int a0, .int (nI y), .int a2, .int (nI t), .ref A, .int (nI (posS σ y t O k))] [] h
  | 0, _ => by
    rw [posS]
    conv => lhs; rw [r_39_91]
    have q : ¬ 0 < 0 := by omega
    simp (disch := first | omega | (simp only [nlg_r, nlg_i, nlg_n, ok_0, ok_i, ok_r, ok_l]; done) | assumption | (simp only [List.length_set, List.length_append, List.length_cons, List.length_nil]; omega)) only [r_39_93, r_39_96, r_39_98, r_39_99, r_39_102, r_39_104, r_39_105, r_39_106, r_39_109, r_39_112, r_39_115, r_39_118, r_39_121, aft_v, aft_n, aft_t, gf_0, gf_s, pf_e, tg_e, hp_s, hp_n, hp_2, List.set_cons_zero, List.set_cons_succ, b2i_t, b2i_f, Ret_s, nlg_r, nlg_i, nlg_n, ok_0, ok_i, ok_r, ok_l, zi_e, zi_n, zi_t, Nat.reduceEqDiff, Nat.not_le, Nat.reduceLeDiff, if_true, if_false, eq_self, ↓reduceIte, Nat.reduceLT, Nat.le_refl, nle1, nez1, nez2, ei_r, ei_l, ni_r, ni_l, ti_r, ti_l, ai_r, ai_l, si_r, si_l, mi_r, mi_l, di_r, nI_eq, nI_leI, nI_ltI, nI_add, pk_sub, pk_mul, pk_div, pk_rem, nI_l, lN_i]
  | k + 1, hk => by
    have ih := c_39l (x0 := x0) (x1 := x1) (x2 := x2) (x3 := x3) (x4 := x4) (a0 := a0) (a2 := a2) hM hA l7 hn hs hV hy ht hO k (by omega)
    obtain ⟨s1, s2⟩ := hs k (by omega)
    have g7 := l_get (d := d) (k := k) l7 (by omega)
    have c70 := c_70 (d := d + 2) (C := sa.getD k 0) hA s2 hV hy ht
    obtain ⟨m7, c7, f7, -⟩ := l7
    have s2' := s2
    simp only [smpC] at s2'
    have q : ¬ k + 1 ≤ 0 := by omega
    have e1 : nI (k + 1) + -1 = nI k := by rw [← nI_1, Int32.add_assoc]; simp
    rw [posS]
    cases e : ibf σ y t (O.getD k 0)
    · rw [e] at c70
      conv => lhs; rw [r_39_91]
      simp (disch := first | omega | (simp only [nlg_r, nlg_i, nlg_n, ok_0, ok_i, ok_r, ok_l]; done) | assumption | (simp only [List.length_set, List.length_append, List.length_cons, List.length_nil]; omega)) only [r_39_93, r_39_96, r_39_98, r_39_99, r_39_102, r_39_104, r_39_105, r_39_106, r_39_109, r_39_112, r_39_115, r_39_118, r_39_121, hM, c5, hA, f7, g7, s2', c70, aft_v, aft_n, aft_t, gf_0, gf_s, pf_e, tg_e, hp_s, hp_n, hp_2, List.set_cons_zero, List.set_cons_succ, b2i_t, b2i_f, Ret_s, nlg_r, nlg_i, nlg_n, ok_0, ok_i, ok_r, ok_l, zi_e, zi_n, zi_t, Nat.reduceEqDiff, Nat.not_le, Nat.reduceLeDiff, if_true, if_false, eq_self, ↓reduceIte, Nat.reduceLT, Nat.le_refl, nle1, nez1, nez2, ei_r, ei_l, ni_r, ni_l, ti_r, ti_l, ai_r, ai_l, si_r, si_l, mi_r, mi_l, di_r, nI_eq, nI_leI, nI_ltI, nI_add, pk_sub, pk_mul, pk_div, pk_rem, nI_l, lN_i, q, Nat.add_sub_cancel]
      rfl
    · rw [e] at c70
      simp only [if_true]
      rw [← ih]
      conv => lhs; rw [r_39_91]
      simp (disch := first | omega | (simp only [nlg_r, nlg_i, nlg_n, ok_0, ok_i, ok_r, ok_l]; done) | assumption | (simp only [List.length_set, List.length_append, List.length_cons, List.length_nil]; omega)) only [r_39_93, r_39_96, r_39_98, r_39_99, r_39_102, r_39_104, r_39_105, r_39_106, r_39_109, r_39_112, r_39_115, r_39_118, r_39_121, hM, c5, hA, f7, g7, s2', c70, e1, aft_v, aft_n, aft_t, gf_0, gf_s, pf_e, tg_e, hp_s, hp_n, hp_2, List.set_cons_zero, List.set_cons_succ, b2i_t, b2i_f, Ret_s, nlg_r, nlg_i, nlg_n, ok_0, ok_i, ok_r, ok_l, zi_e, zi_n, zi_t, Nat.reduceEqDiff, Nat.not_le, Nat.reduceLeDiff, if_true, if_false, eq_self, ↓reduceIte, Nat.reduceLT, Nat.le_refl, nle1, nez1, nez2, ei_r, ei_l, ni_r, ni_l, ti_r, ti_l, ai_r, ai_l, si_r, si_l, mi_r, mi_l, di_r, nI_eq, nI_leI, nI_ltI, nI_add, pk_sub, pk_mul, pk_div, pk_rem, nI_l, lN_i, q, Nat.add_sub_cancel]
end CV
