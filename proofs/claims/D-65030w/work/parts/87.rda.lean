/-! PLAIN LEAN, 48: the component's reader: here, need, number -/
def rdC (s a : Nat) (p : Int32) : MO := (1, [.ref 10, .int (nI s), .int (nI a), .int p])
def hrE (t : Nat → Nat) (s i : Nat) : Nat := if i < s then t i else 0
section DB
variable {σ : AS} {d : Nat} {h : MH} {p : Int32}
theorem c_61 {s a : Nat} (k9 : h.1 9 = rdC s a p) (k10 : h.1 10 = (22, iA (σ.2 12))) (hl : (σ.2 12).length = 40) (hs : s ≤ 40) (ha : a ≤ 41) (hV : WV σ) : run d 61 0 [.ref 9] [] h = some (.inl (some (.int (nI (hrE (tx σ) s a)))), h) := by
  simp only [rdC] at k9
  have v := (hV a).2.2.2.2.2.2.2.2.2.2.2.1
  have e := chr_v v
  by_cases q : s ≤ a
  · have e0 : hrE (tx σ) s a = 0 := by unfold hrE; rw [if_neg (by omega)]
    rw [e0]
    simp (disch := first | omega | (simp only [nlg_r, nlg_i, nlg_n, ok_0, ok_i, ok_r, ok_l]; done) | assumption | (simp only [List.length_set, List.length_append, List.length_cons, List.length_nil]; omega)) only [r_61_0, r_61_1, r_61_4, r_61_5, r_61_8, r_61_11, r_61_12, r_61_15, r_61_16, r_61_19, r_61_20, r_61_23, r_61_24_0, r_61_24_n, k9, aft_v, aft_n, aft_t, gf_0, gf_s, pf_e, tg_e, hp_s, hp_n, hp_2, List.set_cons_zero, List.set_cons_succ, b2i_t, b2i_f, Ret_s, nlg_r, nlg_i, nlg_n, ok_0, ok_i, ok_r, ok_l, zi_e, zi_n, zi_t, Nat.reduceEqDiff, Nat.not_le, Nat.reduceLeDiff, if_true, if_false, eq_self, ↓reduceIte, Nat.reduceLT, Nat.le_refl, nle1, nez1, nez2, ei_r, ei_l, ni_r, ni_l, ti_r, ti_l, ai_r, ai_l, si_r, si_l, mi_r, mi_l, di_r, nI_eq, nI_leI, nI_ltI, nI_add, pk_sub, pk_mul, pk_div, pk_rem, nI_l, lN_i, q]
    rfl
  · have e0 : hrE (tx σ) s a = (σ.2 12).getD a 0 := by unfold hrE; rw [if_pos (by omega)]; rfl
    rw [e0]
    simp (disch := first | omega | (simp only [nlg_r, nlg_i, nlg_n, ok_0, ok_i, ok_r, ok_l]; done) | assumption | (simp only [List.length_set, List.length_append, List.length_cons, List.length_nil]; omega)) only [r_61_0, r_61_1, r_61_4, r_61_5, r_61_8, r_61_11, r_61_12, r_61_15, r_61_16, r_61_19, r_61_20, r_61_23, r_61_24_0, r_61_24_n, k9, k10, aft_v, aft_n, aft_t, gf_0, gf_s, pf_e, tg_e, hp_s, hp_n, hp_2, List.set_cons_zero, List.set_cons_succ, b2i_t, b2i_f, Ret_s, nlg_r, nlg_i, nlg_n, ok_0, ok_i, ok_r, ok_l, zi_e, zi_n, zi_t, Nat.reduceEqDiff, Nat.not_le, Nat.reduceLeDiff, if_true, if_false, eq_self, ↓reduceIte, Nat.reduceLT, Nat.le_refl, nle1, nez1, nez2, ei_r, ei_l, ni_r, ni_l, ti_r, ti_l, ai_r, ai_l, si_r, si_l, mi_r, mi_l, di_r, nI_eq, nI_leI, nI_ltI, nI_add, pk_sub, pk_mul, pk_div, pk_rem, nI_l, lN_i, q, al_i]
    exact r_61_24_n (congrArg Value.int e)
theorem hp_id {a : Nat} {o : MO} (e : h.1 a = o) : hput h a o = h := by
  refine Prod.ext (funext fun b => ?_) rfl
  by_cases q : b = a
  · subst q; rw [hp_s, e]
  · rw [hp_n _ _ _ _ q]
theorem hrE_n {t : Nat → Nat} {s a : Nat} : (decide (a < s) && dig (t a)) = true ↔ 48 ≤ hrE t s a ∧ hrE t s a ≤ 57 := by
  unfold hrE dig
  by_cases q : a < s
  · simp [q]
  · simp [q]
theorem c_62t {v : Int32} : run d 62 0 [.ref 9, .int 1, .int v] [] h = some (.inl none, h) := by
  simp (disch := first | omega | (simp only [nlg_r, nlg_i, nlg_n, ok_0, ok_i, ok_r, ok_l]; done) | assumption | (simp only [List.length_set, List.length_append, List.length_cons, List.length_nil]; omega)) only [r_62_0, r_62_1, r_62_4, r_62_5, r_62_6, r_62_9, r_62_12, r_62_13, r_62_16, r_62_17, aft_v, aft_n, aft_t, gf_0, gf_s, pf_e, tg_e, hp_s, hp_n, hp_2, List.set_cons_zero, List.set_cons_succ, b2i_t, b2i_f, Ret_s, nlg_r, nlg_i, nlg_n, ok_0, ok_i, ok_r, ok_l, zi_e, zi_n, zi_t, Nat.reduceEqDiff, Nat.not_le, Nat.reduceLeDiff, if_true, if_false, eq_self, ↓reduceIte, Nat.reduceLT, Nat.le_refl, nle1, nez1, nez2]
theorem c_62f {s a w : Nat} (k9 : h.1 9 = rdC s a p) (h35 : 35 ≤ h.2.1) : run d 62 0 [.ref 9, .int 0, .int (nI w)] [] h = some (.inr h.2.1, hx 2 (hput h 9 (rdC s a (nI w)))) := by
  simp only [rdC] at k9
  have e1 : run d 62 0 [.ref 9, .int 0, .int (nI w)] [] h = run d 62 9 [.ref 9, .int 0, .int (nI w)] [] (hput h 9 (rdC s a (nI w))) := by
    simp (disch := first | omega | (simp only [nlg_r, nlg_i, nlg_n, ok_0, ok_i, ok_r, ok_l]; done) | assumption | (simp only [List.length_set, List.length_append, List.length_cons, List.length_nil]; omega)) only [r_62_0, r_62_1, r_62_4, r_62_5, r_62_6, aft_v, aft_n, aft_t, gf_0, gf_s, pf_e, tg_e, hp_s, hp_n, hp_2, List.set_cons_zero, List.set_cons_succ, b2i_t, b2i_f, Ret_s, nlg_r, nlg_i, nlg_n, ok_0, ok_i, ok_r, ok_l, zi_e, zi_n, zi_t, Nat.reduceEqDiff, Nat.not_le, Nat.reduceLeDiff, if_true, if_false, eq_self, ↓reduceIte, Nat.reduceLT, Nat.le_refl, nle1, nez1, nez2, k9, rdC]
  have e2 : h.2.1 = (hput h 9 (rdC s a (nI w))).2.1 := rfl
  rw [e1, e2]
  have h5 : 5 ≤ (hput h 9 (rdC s a (nI w))).2.1 := by rw [← e2]; omega
  generalize hput h 9 (rdC s a (nI w)) = g at *
  simp [r_62_9, r_62_12, r_62_13, r_62_16, nlg_r, ok_0, ok_r, hn_s, tg_e, hp_s, h5, hx, thr_out mh62]
set_option maxRecDepth 20000 in
theorem c_63l {s : Nat} (hl : (σ.2 12).length = 40) (hs : s ≤ 40) (hV : WV σ) : ∀ (k n a v : Nat) (h : MH), n + k = 5 → a ≤ s → v < 10 ^ n → h.1 9 = rdC s a p → h.1 10 = (22, iA (σ.2 12)) →
    run (d + 1) 63 4 [.ref 9, .int (nI v), .int (nI n)] [] h = run (d + 1) 63 56 [.ref 9, .int (nI (num (tx σ) s k a v).2), .int (nI (n + ((num (tx σ) s k a v).1 - a)))] [] (hput h 9 (rdC s (num (tx σ) s k a v).1 p)) := by
  intro k
  induction k with
  | zero =>
    intro n a v h hn ha hv k9 k10
    have e : n = 5 := by omega
    subst e
    rw [num, Nat.sub_self, hp_id k9]
    have q : (5 : Nat) ≤ 5 := by omega
    conv => lhs; rw [r_63_4]
    simp (disch := first | omega | (simp only [nlg_r, nlg_i, nlg_n, ok_0, ok_i, ok_r, ok_l]; done) | assumption | (simp only [List.length_set, List.length_append, List.length_cons, List.length_nil]; omega)) only [r_63_5, r_63_6, aft_v, aft_n, aft_t, gf_0, gf_s, pf_e, tg_e, hp_s, hp_n, hp_2, List.set_cons_zero, List.set_cons_succ, b2i_t, b2i_f, Ret_s, nlg_r, nlg_i, nlg_n, ok_0, ok_i, ok_r, ok_l, zi_e, zi_n, zi_t, Nat.reduceEqDiff, Nat.not_le, Nat.reduceLeDiff, if_true, if_false, eq_self, ↓reduceIte, Nat.reduceLT, Nat.le_refl, nle1, nez1, nez2, ei_r, ei_l, ni_r, ni_l, ti_r, ti_l, ai_r, ai_l, si_r, si_l, mi_r, mi_l, di_r, nI_eq, nI_leI, nI_ltI, nI_add, pk_sub, pk_mul, pk_div, pk_rem, nI_l, lN_i, q]
  | succ k ih =>
    intro n a v h hn ha hv k9 k10
    have e61 := c_61 (d := d) k9 k10 hl hs (by omega) hV
    have q5 : ¬ 5 ≤ n := by omega
    have hv5 : 10 ^ n ≤ 10 ^ 4 := Nat.pow_le_pow_right (by omega) (by omega)
    have k9' := k9
    simp only [rdC] at k9'
    by_cases g : (decide (a < s) && dig (tx σ a)) = true
    · have g2 := hrE_n.mp g
      simp only [Bool.and_eq_true, decide_eq_true_eq] at g
      have eh : hrE (tx σ) s a = tx σ a := by unfold hrE; rw [if_pos g.1]
      rw [eh] at e61 g2
      have hv2 : 10 * v + tx σ a - 48 < 10 ^ (n + 1) := by rw [Nat.pow_succ]; omega
      have k9n : (hput h 9 (rdC s (a + 1) p)).1 9 = rdC s (a + 1) p := hp_s _ _ _
      have ih' := ih (n + 1) (a + 1) (10 * v + tx σ a - 48) (hput h 9 (rdC s (a + 1) p)) (by omega) (by omega) hv2 k9n (by rw [hp_n _ _ _ _ (by omega)]; exact k10)
      rw [hp_p] at ih'
      have eN : num (tx σ) s (k + 1) a v = num (tx σ) s k (a + 1) (10 * v + tx σ a - 48) := by
        rw [num, if_pos (by simp [g.1, g.2])]
      have nb := (num_b (t := tx σ) (sz := s) k (a + 1) (10 * v + tx σ a - 48) (by omega)).1
      rw [eN]
      have ea : n + ((num (tx σ) s k (a + 1) (10 * v + tx σ a - 48)).1 - a) = n + 1 + ((num (tx σ) s k (a + 1) (10 * v + tx σ a - 48)).1 - (a + 1)) := by omega
      rw [ea, ← ih']
      have q1 : ¬ tx σ a < 48 := by omega
      have q2 : ¬ 57 < tx σ a := by omega
      conv => lhs; rw [r_63_4]
      simp (disch := first | omega | (simp only [nlg_r, nlg_i, nlg_n, ok_0, ok_i, ok_r, ok_l]; done) | assumption | (simp only [List.length_set, List.length_append, List.length_cons, List.length_nil]; omega)) only [r_63_5, r_63_6, r_63_9, r_63_10, r_63_13, r_63_15, r_63_18, r_63_19, r_63_22, r_63_24, r_63_27, r_63_29, r_63_30, r_63_31, r_63_32, r_63_35, r_63_36, r_63_38, r_63_39, r_63_40, r_63_43, r_63_44, r_63_45, r_63_48, r_63_49, r_63_50, r_63_53, aft_v, aft_n, aft_t, gf_0, gf_s, pf_e, tg_e, hp_s, hp_n, hp_2, List.set_cons_zero, List.set_cons_succ, b2i_t, b2i_f, Ret_s, nlg_r, nlg_i, nlg_n, ok_0, ok_i, ok_r, ok_l, zi_e, zi_n, zi_t, Nat.reduceEqDiff, Nat.not_le, Nat.reduceLeDiff, if_true, if_false, eq_self, ↓reduceIte, Nat.reduceLT, Nat.le_refl, nle1, nez1, nez2, ei_r, ei_l, ni_r, ni_l, ti_r, ti_l, ai_r, ai_l, si_r, si_l, mi_r, mi_l, di_r, nI_eq, nI_leI, nI_ltI, nI_add, pk_sub, pk_mul, pk_div, pk_rem, nI_l, lN_i, q5, q1, q2, e61, k9', rdC]
    · have g2 := (not_congr hrE_n).mp g
      have eN : num (tx σ) s (k + 1) a v = (a, v) := by rw [num, if_neg g]
      rw [eN]
      dsimp only
      have z0 : n + (a - a) = n := by omega
      rw [z0, hp_id k9]
      have hb : hrE (tx σ) s a ≤ 126 := by unfold hrE; split; exact (hV a).2.2.2.2.2.2.2.2.2.2.2.1; omega
      generalize hrE (tx σ) s a = c at *
      by_cases q1 : c < 48
      · conv => lhs; rw [r_63_4]
        simp (disch := first | omega | (simp only [nlg_r, nlg_i, nlg_n, ok_0, ok_i, ok_r, ok_l]; done) | assumption | (simp only [List.length_set, List.length_append, List.length_cons, List.length_nil]; omega)) only [r_63_5, r_63_6, r_63_9, r_63_10, r_63_13, r_63_15, r_63_18, r_63_19, r_63_22, r_63_24, r_63_27, r_63_29, r_63_30, r_63_31, r_63_32, r_63_35, r_63_36, r_63_38, r_63_39, r_63_40, r_63_43, r_63_44, r_63_45, r_63_48, r_63_49, r_63_50, r_63_53, aft_v, aft_n, aft_t, gf_0, gf_s, pf_e, tg_e, hp_s, hp_n, hp_2, List.set_cons_zero, List.set_cons_succ, b2i_t, b2i_f, Ret_s, nlg_r, nlg_i, nlg_n, ok_0, ok_i, ok_r, ok_l, zi_e, zi_n, zi_t, Nat.reduceEqDiff, Nat.not_le, Nat.reduceLeDiff, if_true, if_false, eq_self, ↓reduceIte, Nat.reduceLT, Nat.le_refl, nle1, nez1, nez2, ei_r, ei_l, ni_r, ni_l, ti_r, ti_l, ai_r, ai_l, si_r, si_l, mi_r, mi_l, di_r, nI_eq, nI_leI, nI_ltI, nI_add, pk_sub, pk_mul, pk_div, pk_rem, nI_l, lN_i, q5, q1, e61, k9']
      · have q2 : 57 < c := by omega
        conv => lhs; rw [r_63_4]
        simp (disch := first | omega | (simp only [nlg_r, nlg_i, nlg_n, ok_0, ok_i, ok_r, ok_l]; done) | assumption | (simp only [List.length_set, List.length_append, List.length_cons, List.length_nil]; omega)) only [r_63_5, r_63_6, r_63_9, r_63_10, r_63_13, r_63_15, r_63_18, r_63_19, r_63_22, r_63_24, r_63_27, r_63_29, r_63_30, r_63_31, r_63_32, r_63_35, r_63_36, r_63_38, r_63_39, r_63_40, r_63_43, r_63_44, r_63_45, r_63_48, r_63_49, r_63_50, r_63_53, aft_v, aft_n, aft_t, gf_0, gf_s, pf_e, tg_e, hp_s, hp_n, hp_2, List.set_cons_zero, List.set_cons_succ, b2i_t, b2i_f, Ret_s, nlg_r, nlg_i, nlg_n, ok_0, ok_i, ok_r, ok_l, zi_e, zi_n, zi_t, Nat.reduceEqDiff, Nat.not_le, Nat.reduceLeDiff, if_true, if_false, eq_self, ↓reduceIte, Nat.reduceLT, Nat.le_refl, nle1, nez1, nez2, ei_r, ei_l, ni_r, ni_l, ti_r, ti_l, ai_r, ai_l, si_r, si_l, mi_r, mi_l, di_r, nI_eq, nI_leI, nI_ltI, nI_add, pk_sub, pk_mul, pk_div, pk_rem, nI_l, lN_i, q5, q1, q2, e61, k9']
end DB
