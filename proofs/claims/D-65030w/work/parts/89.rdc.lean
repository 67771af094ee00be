/-! PLAIN LEAN, 50: the component's reader: all statements -/
section DD
variable {σ : AS} {d : Nat} {h : MH} {p : Int32}
theorem gdv_f {w v : Nat} (hw : w < 4) (hg : gdv w v = false) : (w = 2 ∧ (v < 1 ∨ 9 < v)) ∨ (w = 3 ∧ 99 < v) := by
  simp only [gdv, Bool.or_eq_false_iff, Bool.and_eq_false_iff, decide_eq_false_iff_not] at hg
  omega
theorem gdv_t {w v : Nat} (hw : w < 4) (hg : ¬ gdv w v = false) : w < 2 ∨ (w = 2 ∧ 1 ≤ v ∧ v ≤ 9) ∨ (w = 3 ∧ v ≤ 99) := by
  simp only [gdv, Bool.or_eq_false_iff, Bool.and_eq_false_iff, decide_eq_false_iff_not] at hg
  omega
set_option maxRecDepth 20000 in
theorem c_60c {s a n A w : Nat} {x6 : Value} (k9 : h.1 9 = rdC s a p) (k10 : h.1 10 = (22, iA (σ.2 12))) (hl : (σ.2 12).length = 40) (hs : s ≤ 40) (ha : a ≤ s) (hw : w < 4) (hV : WV σ) (h35 : 35 ≤ h.2.1)
    (hb : (num (tx σ) s 5 a 0).1 = a ∨ gdv w (num (tx σ) s 5 a 0).2 = false) : ∃ e, run (d + 5) 60 75 [.ref 9, .ref A, .int (nI n), .int 1, .int (nI w), .int (nI a), x6] [] h = some (.inr h.2.1, hx 2 (hput h 9 (rdC s e (nI a)))) := by
  have k9' := k9
  simp only [rdC] at k9'
  by_cases hq : (num (tx σ) s 5 a 0).1 = a
  · have e := c_63f (d := d + 3) k9 k10 hl hs ha hV h35 hq
    refine ⟨a, ?_⟩
    simp (disch := first | omega | (simp only [nlg_r, nlg_i, nlg_n, ok_0, ok_i, ok_r, ok_l]; done) | assumption | (simp only [List.length_set, List.length_append, List.length_cons, List.length_nil]; omega)) only [r_60_75, r_60_76, aft_v, aft_n, aft_t, gf_0, gf_s, pf_e, tg_e, hp_s, hp_n, hp_2, List.set_cons_zero, List.set_cons_succ, b2i_t, b2i_f, Ret_s, nlg_r, nlg_i, nlg_n, ok_0, ok_i, ok_r, ok_l, zi_e, zi_n, zi_t, Nat.reduceEqDiff, Nat.not_le, Nat.reduceLeDiff, if_true, if_false, eq_self, ↓reduceIte, Nat.reduceLT, Nat.le_refl, nle1, nez1, nez2, k9', e, thw mh60 (show 2 < 3 by omega)]
  · have e := c_63 (d := d + 3) k9 k10 hl hs ha hV hq
    have hg : gdv w (num (tx σ) s 5 a 0).2 = false := hb.resolve_left hq
    have nv := num_v (t := tx σ) ha
    generalize (num (tx σ) s 5 a 0).1 = z at *
    generalize (num (tx σ) s 5 a 0).2 = v at *
    have e2 := c_62f (d := d + 4) (h := hput h 9 (rdC s z p)) (w := a) (hp_s _ _ _) h35
    rw [hp_p] at e2
    have k9n : (hput h 9 (rdC s z p)).1 9 = (1, [.ref 10, .int (nI s), .int (nI z), .int p]) := hp_s _ _ _
    have e3 : (hput h 9 (rdC s z p)).2.1 = h.2.1 := rfl
    rw [e3] at e2
    refine ⟨z, ?_⟩
    generalize hput h 9 (rdC s z p) = h1 at *
    rcases gdv_f hw hg with ⟨rfl, q | q⟩ | ⟨rfl, q⟩
    · have q1 : ¬ 9 < v := by omega
      simp (disch := first | omega | (simp only [nlg_r, nlg_i, nlg_n, ok_0, ok_i, ok_r, ok_l]; done) | assumption | (simp only [List.length_set, List.length_append, List.length_cons, List.length_nil]; omega)) only [r_60_75, r_60_76, r_60_79, r_60_81, r_60_82, r_60_84, r_60_85, r_60_88, r_60_90, r_60_91, r_60_94, r_60_96, r_60_97, r_60_100, r_60_102, r_60_104, r_60_107, r_60_109, r_60_110, r_60_113, r_60_115, r_60_117, r_60_120, r_60_121, r_60_124, r_60_125, r_60_127, aft_v, aft_n, aft_t, gf_0, gf_s, pf_e, tg_e, hp_s, hp_n, hp_2, List.set_cons_zero, List.set_cons_succ, b2i_t, b2i_f, Ret_s, nlg_r, nlg_i, nlg_n, ok_0, ok_i, ok_r, ok_l, zi_e, zi_n, zi_t, Nat.reduceEqDiff, Nat.not_le, Nat.reduceLeDiff, if_true, if_false, eq_self, ↓reduceIte, Nat.reduceLT, Nat.le_refl, nle1, nez1, nez2, ei_r, ei_l, ni_r, ni_l, ti_r, ti_l, ai_r, ai_l, si_r, si_l, mi_r, mi_l, di_r, nI_eq, nI_leI, nI_ltI, nI_add, pk_sub, pk_mul, pk_div, pk_rem, nI_l, lN_i, k9', k9n, e, q, e2, thw mh60 (show 2 < 3 by omega)]
    · have q1 : ¬ v < 1 := by omega
      have q2 : ¬ v ≤ 9 := by omega
      simp (disch := first | omega | (simp only [nlg_r, nlg_i, nlg_n, ok_0, ok_i, ok_r, ok_l]; done) | assumption | (simp only [List.length_set, List.length_append, List.length_cons, List.length_nil]; omega)) only [r_60_75, r_60_76, r_60_79, r_60_81, r_60_82, r_60_84, r_60_85, r_60_88, r_60_90, r_60_91, r_60_94, r_60_96, r_60_97, r_60_100, r_60_102, r_60_104, r_60_107, r_60_109, r_60_110, r_60_113, r_60_115, r_60_117, r_60_120, r_60_121, r_60_124, r_60_125, r_60_127, aft_v, aft_n, aft_t, gf_0, gf_s, pf_e, tg_e, hp_s, hp_n, hp_2, List.set_cons_zero, List.set_cons_succ, b2i_t, b2i_f, Ret_s, nlg_r, nlg_i, nlg_n, ok_0, ok_i, ok_r, ok_l, zi_e, zi_n, zi_t, Nat.reduceEqDiff, Nat.not_le, Nat.reduceLeDiff, if_true, if_false, eq_self, ↓reduceIte, Nat.reduceLT, Nat.le_refl, nle1, nez1, nez2, ei_r, ei_l, ni_r, ni_l, ti_r, ti_l, ai_r, ai_l, si_r, si_l, mi_r, mi_l, di_r, nI_eq, nI_leI, nI_ltI, nI_add, pk_sub, pk_mul, pk_div, pk_rem, nI_l, lN_i, k9', k9n, e, q, q1, q2, e2, thw mh60 (show 2 < 3 by omega)]
    · simp (disch := first | omega | (simp only [nlg_r, nlg_i, nlg_n, ok_0, ok_i, ok_r, ok_l]; done) | assumption | (simp only [List.length_set, List.length_append, List.length_cons, List.length_nil]; omega)) only [r_60_75, r_60_76, r_60_79, r_60_81, r_60_82, r_60_84, r_60_85, r_60_88, r_60_90, r_60_91, r_60_94, r_60_96, r_60_97, r_60_100, r_60_102, r_60_104, r_60_107, r_60_109, r_60_110, r_60_113, r_60_115, r_60_117, r_60_120, r_60_121, r_60_124, r_60_125, r_60_127, aft_v, aft_n, aft_t, gf_0, gf_s, pf_e, tg_e, hp_s, hp_n, hp_2, List.set_cons_zero, List.set_cons_succ, b2i_t, b2i_f, Ret_s, nlg_r, nlg_i, nlg_n, ok_0, ok_i, ok_r, ok_l, zi_e, zi_n, zi_t, Nat.reduceEqDiff, Nat.not_le, Nat.reduceLeDiff, if_true, if_false, eq_self, ↓reduceIte, Nat.reduceLT, Nat.le_refl, nle1, nez1, nez2, ei_r, ei_l, ni_r, ni_l, ti_r, ti_l, ai_r, ai_l, si_r, si_l, mi_r, mi_l, di_r, nI_eq, nI_leI, nI_ltI, nI_add, pk_sub, pk_mul, pk_div, pk_rem, nI_l, lN_i, k9', k9n, e, q, e2, thw mh60 (show 2 < 3 by omega)]
set_option maxRecDepth 20000 in
theorem c_60d {s a n A w : Nat} {x6 : Value} (k9 : h.1 9 = rdC s a p) (k10 : h.1 10 = (22, iA (σ.2 12))) (hl : (σ.2 12).length = 40) (hs : s ≤ 40) (ha : a ≤ s) (hw : w < 4) (hV : WV σ)
    (hq : ¬ (num (tx σ) s 5 a 0).1 = a) (hg : ¬ gdv w (num (tx σ) s 5 a 0).2 = false) : run (d + 5) 60 75 [.ref 9, .ref A, .int (nI n), .int 1, .int (nI w), .int (nI a), x6] [] h = run (d + 5) 60 130 [.ref 9, .ref A, .int (nI n), .int 1, .int (nI w), .int (nI a), .int (nI (num (tx σ) s 5 a 0).2)] [] (hput h 9 (rdC s (num (tx σ) s 5 a 0).1 p)) := by
  have k9' := k9
  simp only [rdC] at k9'
  have e := c_63 (d := d + 3) k9 k10 hl hs ha hV hq
  have nv := num_v (t := tx σ) ha
  generalize (num (tx σ) s 5 a 0).1 = z at *
  generalize (num (tx σ) s 5 a 0).2 = v at *
  have k9n : (hput h 9 (rdC s z p)).1 9 = (1, [.ref 10, .int (nI s), .int (nI z), .int p]) := hp_s _ _ _
  generalize hput h 9 (rdC s z p) = h1 at *
  rcases gdv_t hw hg with q | ⟨rfl, q, q1⟩ | ⟨rfl, q⟩
  · simp (disch := first | omega | (simp only [nlg_r, nlg_i, nlg_n, ok_0, ok_i, ok_r, ok_l]; done) | assumption | (simp only [List.length_set, List.length_append, List.length_cons, List.length_nil]; omega)) only [r_60_75, r_60_76, r_60_79, r_60_81, r_60_82, r_60_84, r_60_85, r_60_88, r_60_90, r_60_91, r_60_94, r_60_96, r_60_97, r_60_100, r_60_102, r_60_104, r_60_107, r_60_109, r_60_110, r_60_113, r_60_115, r_60_117, r_60_120, r_60_121, r_60_124, r_60_125, r_60_127, aft_v, aft_n, aft_t, gf_0, gf_s, pf_e, tg_e, hp_s, hp_n, hp_2, List.set_cons_zero, List.set_cons_succ, b2i_t, b2i_f, Ret_s, nlg_r, nlg_i, nlg_n, ok_0, ok_i, ok_r, ok_l, zi_e, zi_n, zi_t, Nat.reduceEqDiff, Nat.not_le, Nat.reduceLeDiff, if_true, if_false, eq_self, ↓reduceIte, Nat.reduceLT, Nat.le_refl, nle1, nez1, nez2, ei_r, ei_l, ni_r, ni_l, ti_r, ti_l, ai_r, ai_l, si_r, si_l, mi_r, mi_l, di_r, nI_eq, nI_leI, nI_ltI, nI_add, pk_sub, pk_mul, pk_div, pk_rem, nI_l, lN_i, k9', k9n, e, q, c_62t]
  · have q2 : ¬ v < 1 := by omega
    simp (disch := first | omega | (simp only [nlg_r, nlg_i, nlg_n, ok_0, ok_i, ok_r, ok_l]; done) | assumption | (simp only [List.length_set, List.length_append, List.length_cons, List.length_nil]; omega)) only [r_60_75, r_60_76, r_60_79, r_60_81, r_60_82, r_60_84, r_60_85, r_60_88, r_60_90, r_60_91, r_60_94, r_60_96, r_60_97, r_60_100, r_60_102, r_60_104, r_60_107, r_60_109, r_60_110, r_60_113, r_60_115, r_60_117, r_60_120, r_60_121, r_60_124, r_60_125, r_60_127, aft_v, aft_n, aft_t, gf_0, gf_s, pf_e, tg_e, hp_s, hp_n, hp_2, List.set_cons_zero, List.set_cons_succ, b2i_t, b2i_f, Ret_s, nlg_r, nlg_i, nlg_n, ok_0, ok_i, ok_r, ok_l, zi_e, zi_n, zi_t, Nat.reduceEqDiff, Nat.not_le, Nat.reduceLeDiff, if_true, if_false, eq_self, ↓reduceIte, Nat.reduceLT, Nat.le_refl, nle1, nez1, nez2, ei_r, ei_l, ni_r, ni_l, ti_r, ti_l, ai_r, ai_l, si_r, si_l, mi_r, mi_l, di_r, nI_eq, nI_leI, nI_ltI, nI_add, pk_sub, pk_mul, pk_div, pk_rem, nI_l, lN_i, k9', k9n, e, q1, q2, c_62t]
  · have q2 : ¬ 99 < v := by omega
    simp (disch := first | omega | (simp only [nlg_r, nlg_i, nlg_n, ok_0, ok_i, ok_r, ok_l]; done) | assumption | (simp only [List.length_set, List.length_append, List.length_cons, List.length_nil]; omega)) only [r_60_75, r_60_76, r_60_79, r_60_81, r_60_82, r_60_84, r_60_85, r_60_88, r_60_90, r_60_91, r_60_94, r_60_96, r_60_97, r_60_100, r_60_102, r_60_104, r_60_107, r_60_109, r_60_110, r_60_113, r_60_115, r_60_117, r_60_120, r_60_121, r_60_124, r_60_125, r_60_127, aft_v, aft_n, aft_t, gf_0, gf_s, pf_e, tg_e, hp_s, hp_n, hp_2, List.set_cons_zero, List.set_cons_succ, b2i_t, b2i_f, Ret_s, nlg_r, nlg_i, nlg_n, ok_0, ok_i, ok_r, ok_l, zi_e, zi_n, zi_t, Nat.reduceEqDiff, Nat.not_le, Nat.reduceLeDiff, if_true, if_false, eq_self, ↓reduceIte, Nat.reduceLT, Nat.le_refl, nle1, nez1, nez2, ei_r, ei_l, ni_r, ni_l, ti_r, ti_l, ai_r, ai_l, si_r, si_l, mi_r, mi_l, di_r, nI_eq, nI_leI, nI_ltI, nI_add, pk_sub, pk_mul, pk_div, pk_rem, nI_l, lN_i, k9', k9n, e, q, q2, c_62t]

set_option maxRecDepth 20000 in
theorem c_60e {s z n A w v a : Nat} {R : List Nat} (k9 : h.1 9 = rdC s z p) (k10 : h.1 10 = (22, iA (σ.2 12))) (kA : h.1 A = (20, iA R)) (hR : R.length = 4) (hA : 35 ≤ A) (hl : (σ.2 12).length = 40) (hs : s ≤ 40) (hz : z ≤ s) (hw : w < 4) (hn : n < 6) (hV : WV σ) (h35 : 35 ≤ h.2.1) :
    (z = s → run (d + 5) 60 130 [.ref 9, .ref A, .int (nI n), .int 1, .int (nI w), .int (nI a), .int (nI v)] [] h = some (.inl (some (.int (nI (n + 1)))), hput (hput h A (20, iA (R.set w v))) 9 (rdC s (z + 1) p))) ∧
    (¬ z = s → ¬ (tx σ z = 59 ∧ n + 1 ≠ 6) → run (d + 5) 60 130 [.ref 9, .ref A, .int (nI n), .int 1, .int (nI w), .int (nI a), .int (nI v)] [] h = some (.inr h.2.1, hx 2 (hput (hput h A (20, iA (R.set w v))) 9 (rdC s z (nI z))))) ∧
    (¬ z = s → (tx σ z = 59 ∧ n + 1 ≠ 6) → run (d + 5) 60 130 [.ref 9, .ref A, .int (nI n), .int 1, .int (nI w), .int (nI a), .int (nI v)] [] h = run (d + 5) 60 9 [.ref 9, .ref A, .int (nI (n + 1)), .int 1, .int (nI w), .int (nI a), .int (nI v)] [] (hput (hput h A (20, iA (R.set w v))) 9 (rdC s (z + 1) p))) := by
  have k9n : (hput h A (20, iA (R.set w v))).1 9 = rdC s z p := by rw [hp_n _ _ _ _ (by omega)]; exact k9
  have k10n : (hput h A (20, iA (R.set w v))).1 10 = (22, iA (σ.2 12)) := by rw [hp_n _ _ _ _ (by omega)]; exact k10
  have e0 : run (d + 5) 60 130 [.ref 9, .ref A, .int (nI n), .int 1, .int (nI w), .int (nI a), .int (nI v)] [] h = run (d + 5) 60 136 [.ref 9, .ref A, .int (nI n), .int 1, .int (nI w), .int (nI a), .int (nI v)] [] (hput h A (20, iA (R.set w v))) := by
    simp (disch := first | omega | (simp only [nlg_r, nlg_i, nlg_n, ok_0, ok_i, ok_r, ok_l]; done) | assumption | (simp only [List.length_set, List.length_append, List.length_cons, List.length_nil]; omega)) only [r_60_130, r_60_131, r_60_133, r_60_135, aft_v, aft_n, aft_t, gf_0, gf_s, pf_e, tg_e, hp_s, hp_n, hp_2, List.set_cons_zero, List.set_cons_succ, b2i_t, b2i_f, Ret_s, nlg_r, nlg_i, nlg_n, ok_0, ok_i, ok_r, ok_l, zi_e, zi_n, zi_t, Nat.reduceEqDiff, Nat.not_le, Nat.reduceLeDiff, if_true, if_false, eq_self, ↓reduceIte, Nat.reduceLT, Nat.le_refl, nle1, nez1, nez2, kA, as_i]
  have e35 : 35 ≤ (hput h A (20, iA (R.set w v))).2.1 := h35
  have e21 : h.2.1 = (hput h A (20, iA (R.set w v))).2.1 := rfl
  rw [e0, e21]
  generalize hput h A (20, iA (R.set w v)) = g at *
  have e61 := c_61 (d := d + 4) k9n k10n hl hs (by omega) hV
  have e62 := c_62f (d := d + 4) (w := z) k9n e35
  have k9' := k9n
  simp only [rdC] at k9'
  refine ⟨fun q => ?_, fun q q2 => ?_, fun q q2 => ?_⟩
  · subst q
    simp (disch := first | omega | (simp only [nlg_r, nlg_i, nlg_n, ok_0, ok_i, ok_r, ok_l]; done) | assumption | (simp only [List.length_set, List.length_append, List.length_cons, List.length_nil]; omega)) only [r_60_136, r_60_139, r_60_140, r_60_143, r_60_144, r_60_147, r_60_150, r_60_151, r_60_154, r_60_155, r_60_156, r_60_157, r_60_158, r_60_161, r_60_162, r_60_165, r_60_167, r_60_170, r_60_171, r_60_173, r_60_176, r_60_177, r_60_180, r_60_181, r_60_182, r_60_185, r_60_188, r_60_189, r_60_190, r_60_193, r_60_194, r_60_195, r_60_198, aft_v, aft_n, aft_t, gf_0, gf_s, pf_e, tg_e, hp_s, hp_n, hp_2, List.set_cons_zero, List.set_cons_succ, b2i_t, b2i_f, Ret_s, nlg_r, nlg_i, nlg_n, ok_0, ok_i, ok_r, ok_l, zi_e, zi_n, zi_t, Nat.reduceEqDiff, Nat.not_le, Nat.reduceLeDiff, if_true, if_false, eq_self, ↓reduceIte, Nat.reduceLT, Nat.le_refl, nle1, nez1, nez2, ei_r, ei_l, ni_r, ni_l, ti_r, ti_l, ai_r, ai_l, si_r, si_l, mi_r, mi_l, di_r, nI_eq, nI_leI, nI_ltI, nI_add, pk_sub, pk_mul, pk_div, pk_rem, nI_l, lN_i, k9', c_62t, rdC]
    conv => lhs; rw [r_60_9]
    simp (disch := first | omega | (simp only [nlg_r, nlg_i, nlg_n, ok_0, ok_i, ok_r, ok_l]; done) | assumption | (simp only [List.length_set, List.length_append, List.length_cons, List.length_nil]; omega)) only [r_60_10, r_60_201, r_60_202, aft_v, aft_n, aft_t, gf_0, gf_s, pf_e, tg_e, hp_s, hp_n, hp_2, List.set_cons_zero, List.set_cons_succ, b2i_t, b2i_f, Ret_s, nlg_r, nlg_i, nlg_n, ok_0, ok_i, ok_r, ok_l, zi_e, zi_n, zi_t, Nat.reduceEqDiff, Nat.not_le, Nat.reduceLeDiff, if_true, if_false, eq_self, ↓reduceIte, Nat.reduceLT, Nat.le_refl, nle1, nez1, nez2]
  · have q1 : ¬ s ≤ z := by omega
    have eh : hrE (tx σ) s z = tx σ z := by unfold hrE; rw [if_pos (by omega)]
    rw [eh] at e61
    have hc : tx σ z ≤ 126 := (hV z).2.2.2.2.2.2.2.2.2.2.2.1
    by_cases q3 : tx σ z = 59
    · have q4 : 6 ≤ n + 1 := by
        rcases Nat.lt_or_ge (n + 1) 6 with t | t
        · exact absurd ⟨q3, by omega⟩ q2
        · exact t
      simp (disch := first | omega | (simp only [nlg_r, nlg_i, nlg_n, ok_0, ok_i, ok_r, ok_l]; done) | assumption | (simp only [List.length_set, List.length_append, List.length_cons, List.length_nil]; omega)) only [r_60_136, r_60_139, r_60_140, r_60_143, r_60_144, r_60_147, r_60_150, r_60_151, r_60_154, r_60_155, r_60_156, r_60_157, r_60_158, r_60_161, r_60_162, r_60_165, r_60_167, r_60_170, r_60_171, r_60_173, r_60_176, r_60_177, r_60_180, r_60_181, r_60_182, r_60_185, r_60_188, r_60_189, r_60_190, r_60_193, r_60_194, r_60_195, r_60_198, aft_v, aft_n, aft_t, gf_0, gf_s, pf_e, tg_e, hp_s, hp_n, hp_2, List.set_cons_zero, List.set_cons_succ, b2i_t, b2i_f, Ret_s, nlg_r, nlg_i, nlg_n, ok_0, ok_i, ok_r, ok_l, zi_e, zi_n, zi_t, Nat.reduceEqDiff, Nat.not_le, Nat.reduceLeDiff, if_true, if_false, eq_self, ↓reduceIte, Nat.reduceLT, Nat.le_refl, nle1, nez1, nez2, ei_r, ei_l, ni_r, ni_l, ti_r, ti_l, ai_r, ai_l, si_r, si_l, mi_r, mi_l, di_r, nI_eq, nI_leI, nI_ltI, nI_add, pk_sub, pk_mul, pk_div, pk_rem, nI_l, lN_i, k9', e61, q1, q3, q4, e62, thw mh60 (show 2 < 3 by omega)]
    · simp (disch := first | omega | (simp only [nlg_r, nlg_i, nlg_n, ok_0, ok_i, ok_r, ok_l]; done) | assumption | (simp only [List.length_set, List.length_append, List.length_cons, List.length_nil]; omega)) only [r_60_136, r_60_139, r_60_140, r_60_143, r_60_144, r_60_147, r_60_150, r_60_151, r_60_154, r_60_155, r_60_156, r_60_157, r_60_158, r_60_161, r_60_162, r_60_165, r_60_167, r_60_170, r_60_171, r_60_173, r_60_176, r_60_177, r_60_180, r_60_181, r_60_182, r_60_185, r_60_188, r_60_189, r_60_190, r_60_193, r_60_194, r_60_195, r_60_198, aft_v, aft_n, aft_t, gf_0, gf_s, pf_e, tg_e, hp_s, hp_n, hp_2, List.set_cons_zero, List.set_cons_succ, b2i_t, b2i_f, Ret_s, nlg_r, nlg_i, nlg_n, ok_0, ok_i, ok_r, ok_l, zi_e, zi_n, zi_t, Nat.reduceEqDiff, Nat.not_le, Nat.reduceLeDiff, if_true, if_false, eq_self, ↓reduceIte, Nat.reduceLT, Nat.le_refl, nle1, nez1, nez2, ei_r, ei_l, ni_r, ni_l, ti_r, ti_l, ai_r, ai_l, si_r, si_l, mi_r, mi_l, di_r, nI_eq, nI_leI, nI_ltI, nI_add, pk_sub, pk_mul, pk_div, pk_rem, nI_l, lN_i, k9', e61, q1, q3, e62, thw mh60 (show 2 < 3 by omega)]
  · have q1 : ¬ s ≤ z := by omega
    have eh : hrE (tx σ) s z = tx σ z := by unfold hrE; rw [if_pos (by omega)]
    rw [eh] at e61
    have hc : tx σ z ≤ 126 := (hV z).2.2.2.2.2.2.2.2.2.2.2.1
    have q3 := q2.1
    have q4 : ¬ 6 ≤ n + 1 := by omega
    simp (disch := first | omega | (simp only [nlg_r, nlg_i, nlg_n, ok_0, ok_i, ok_r, ok_l]; done) | assumption | (simp only [List.length_set, List.length_append, List.length_cons, List.length_nil]; omega)) only [r_60_136, r_60_139, r_60_140, r_60_143, r_60_144, r_60_147, r_60_150, r_60_151, r_60_154, r_60_155, r_60_156, r_60_157, r_60_158, r_60_161, r_60_162, r_60_165, r_60_167, r_60_170, r_60_171, r_60_173, r_60_176, r_60_177, r_60_180, r_60_181, r_60_182, r_60_185, r_60_188, r_60_189, r_60_190, r_60_193, r_60_194, r_60_195, r_60_198, aft_v, aft_n, aft_t, gf_0, gf_s, pf_e, tg_e, hp_s, hp_n, hp_2, List.set_cons_zero, List.set_cons_succ, b2i_t, b2i_f, Ret_s, nlg_r, nlg_i, nlg_n, ok_0, ok_i, ok_r, ok_l, zi_e, zi_n, zi_t, Nat.reduceEqDiff, Nat.not_le, Nat.reduceLeDiff, if_true, if_false, eq_self, ↓reduceIte, Nat.reduceLT, Nat.le_refl, nle1, nez1, nez2, ei_r, ei_l, ni_r, ni_l, ti_r, ti_l, ai_r, ai_l, si_r, si_l, mi_r, mi_l, di_r, nI_eq, nI_leI, nI_ltI, nI_add, pk_sub, pk_mul, pk_div, pk_rem, nI_l, lN_i, k9', e61, q1, q3, q4, c_62t, rdC]
theorem c_60l {s A : Nat} (hl : (σ.2 12).length = 40) (hs : s ≤ 40) (hV : WV σ) (hA : 35 ≤ A) : ∀ (f i n : Nat) (R : List Nat) (p : Int32) (h : MH) (x4 x5 x6 : Value), R.length = 4 → nlg x4 = true → n + f = 7 → 1 ≤ f → i ≤ s → 35 ≤ h.2.1 → h.1 9 = rdC s i p → h.1 10 = (22, iA (σ.2 12)) → h.1 2 = (8, [.ref 3, .int 0]) → h.1 3 = (23, [.int 67, .int 76, .int 71, .int 87]) → h.1 A = (20, iA R) →
    Ret (run (d + 5) 60 9 [.ref 9, .ref A, .int (nI n), .int 1, x4, x5, x6] [] h) (RdP σ s A h (prs (tx σ) s f i n R)) := by
  intro f
  induction f with
  | zero => intro i n R p h x4 x5 x6 hR n4 hf h1; omega
  | succ f ih =>
    intro i n R p h x4 x5 x6 hR n4 hf h1 hi h35 k9 k10 k2 k3 kA
    unfold prs
    split
    · next hc =>
      rw [c_60a (d := d) k9 k10 k2 k3 hl hs hi (by omega) hV h35 (Or.inl hc), Ret_s]
      exact ⟨_, i, rfl, rfl, rfl, hp_s _ _ _, fun b hb _ => hp_n _ _ _ _ hb⟩
    · next w hc =>
      by_cases hn : n = 6
      · rw [if_pos hn, c_60a (d := d) k9 k10 k2 k3 hl hs hi (by omega) hV h35 (Or.inr hn), Ret_s]
        exact ⟨_, i, rfl, rfl, rfl, hp_s _ _ _, fun b hb _ => hp_n _ _ _ _ hb⟩
      · rw [if_neg hn]
        have hlt : i < s := by
          by_cases z : i < s
          · exact z
          · rw [if_neg z] at hc; cases hc
        rw [if_pos hlt] at hc
        have w4 := plc_lt hc
        rw [c_60b (d := d) k9 k10 k2 k3 hl hs hlt (by omega) hV hc n4]
        have k9a : (hput h 9 (rdC s (i + 1) p)).1 9 = rdC s (i + 1) p := hp_s _ _ _
        have k10a : (hput h 9 (rdC s (i + 1) p)).1 10 = (22, iA (σ.2 12)) := by rw [hp_n _ _ _ _ (by omega)]; exact k10
        by_cases hg : (num (tx σ) s 5 (i + 1) 0).1 = i + 1 ∨ gdv w (num (tx σ) s 5 (i + 1) 0).2 = false
        · rw [if_pos hg]
          obtain ⟨e, he⟩ := c_60c (d := d) (n := n) (A := A) (x6 := x6) k9a k10a hl hs (by omega) w4 hV h35 hg
          rw [he, hp_p, Ret_s]
          exact ⟨_, e, rfl, rfl, rfl, hp_s _ _ _, fun b hb _ => hp_n _ _ _ _ hb⟩
        · rw [if_neg hg]
          have nb := num_b (t := tx σ) (sz := s) 5 (i + 1) 0 (by omega)
          rw [c_60d (d := d) (n := n) (A := A) (x6 := x6) k9a k10a hl hs (by omega) w4 hV (fun z => hg (Or.inl z)) (fun z => hg (Or.inr z)), hp_p]
          generalize (num (tx σ) s 5 (i + 1) 0).1 = z at *
          generalize (num (tx σ) s 5 (i + 1) 0).2 = v at *
          have k9b : (hput h 9 (rdC s z p)).1 9 = rdC s z p := hp_s _ _ _
          have k10b : (hput h 9 (rdC s z p)).1 10 = (22, iA (σ.2 12)) := by rw [hp_n _ _ _ _ (by omega)]; exact k10
          have kAb : (hput h 9 (rdC s z p)).1 A = (20, iA R) := by rw [hp_n _ _ _ _ (by omega)]; exact kA
          obtain ⟨r1, r2, r3⟩ := c_60e (d := d) (n := n) (w := w) (v := v) (a := i + 1) k9b k10b kAb hR hA hl hs nb.2.1 w4 (by omega) hV h35
          have fr : ∀ (o : MO) (b : Nat), b ≠ 9 → b ≠ A → (hput (hput (hput h 9 (rdC s z p)) A (20, iA (R.set w v))) 9 o).1 b = h.1 b := fun o b hb hb2 => by rw [hp_n _ _ _ _ hb, hp_n _ _ _ _ hb2, hp_n _ _ _ _ hb]
          have frA : ∀ (o : MO), (hput (hput (hput h 9 (rdC s z p)) A (20, iA (R.set w v))) 9 o).1 A = (20, iA (R.set w v)) := fun o => by rw [hp_n _ _ _ _ (by omega), hp_s]
          by_cases he : z = s
          · rw [if_pos he, r1 he, Ret_s]
            exact ⟨rfl, rfl, ⟨_, _, hp_s _ _ _⟩, frA _, fr _⟩
          · rw [if_neg he]
            by_cases hs2 : tx σ z = 59 ∧ n + 1 ≠ 6
            · rw [if_pos hs2, r3 he hs2]
              have hr := ih (z + 1) (n + 1) (R.set w v) p (hput (hput (hput h 9 (rdC s z p)) A (20, iA (R.set w v))) 9 (rdC s (z + 1) p)) (.int (nI w)) (.int (nI (i + 1))) (.int (nI v)) (by rw [List.length_set]; exact hR) rfl (by omega) (by omega) (by omega) h35 (hp_s _ _ _) (by rw [fr _ _ (by omega) (by omega)]; exact k10) (by rw [fr _ _ (by omega) (by omega)]; exact k2) (by rw [fr _ _ (by omega) (by omega)]; exact k3) (frA _)
              refine hr.imp (fun o h' hp => ?_)
              cases hP : prs (tx σ) s f (z + 1) (n + 1) (R.set w v) with
              | inl q =>
                rw [hP] at hp
                obtain ⟨g, a, p1, p2, p3, p4, p5⟩ := hp
                exact ⟨g, a, p1, p2, p3, p4, fun b hb hb2 => (p5 b hb hb2).trans (fr _ b hb hb2)⟩
              | inr cR =>
                rw [hP] at hp
                obtain ⟨c, R'⟩ := cR
                obtain ⟨p1, p2, p3, p4, p5⟩ := hp
                exact ⟨p1, p2, p3, p4, fun b hb hb2 => (p5 b hb hb2).trans (fr _ b hb hb2)⟩
            · rw [if_neg hs2, r2 he hs2, Ret_s]
              exact ⟨_, z, rfl, rfl, rfl, hp_s _ _ _, fr _⟩
end DD
