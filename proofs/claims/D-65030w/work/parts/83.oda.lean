/-! PLAIN LEAN, 44: ways, powers, divisors in the component -/
theorem wys_r : ∀ n, n ≤ 10 → ∀ k, k ≤ 9 → k + 1 < n → wys n (k + 1) = wys (n - 1) k + wys (n - 1) (k + 1) := by decide
theorem wys_n : ∀ n, n ≤ 10 → wys n n = 1 := by decide
section CX
variable {d : Nat} {h : MH}
theorem c_56 {v : Nat} : ∀ n, n < 1000 → run (d + n) 56 0 [.long (lN v), .null, .int (nI n)] [] h = some (.inl (some (.long (lN (v ^ n)))), h)
  | 0, _ => by
    simp (disch := first | omega | (simp only [nlg_r, nlg_i, nlg_n, ok_0, ok_i, ok_r, ok_l]; done) | assumption | (simp only [List.length_set, List.length_append, List.length_cons, List.length_nil]; omega)) only [r_56_0, r_56_1, r_56_4, r_56_5, r_56_8, r_56_9, r_56_10, r_56_11, r_56_12, r_56_13, r_56_16, r_56_17, aft_v, aft_n, aft_t, gf_0, gf_s, pf_e, tg_e, hp_s, hp_n, hp_2, List.set_cons_zero, List.set_cons_succ, b2i_t, b2i_f, Ret_s, nlg_r, nlg_i, nlg_n, ok_0, ok_i, ok_r, ok_l, zi_e, zi_n, zi_t, Nat.reduceEqDiff, Nat.not_le, Nat.reduceLeDiff, if_true, if_false, eq_self, ↓reduceIte, Nat.reduceLT, Nat.le_refl, nle1, nez1, nez2, ei_r, ei_l, ni_r, ni_l, ti_r, ti_l, ai_r, ai_l, si_r, si_l, mi_r, mi_l, di_r, nI_eq, nI_leI, nI_ltI, nI_add, pk_sub, pk_mul, pk_div, pk_rem, nI_l, lN_i, Nat.pow_zero]
    rfl
  | n + 1, hn => by
    have ih := c_56 (v := v) n (by omega)
    have q : ¬ n + 1 = 0 := by omega
    rw [← Nat.add_assoc]
    conv => lhs; rw [r_56_0]
    simp (disch := first | omega | (simp only [nlg_r, nlg_i, nlg_n, ok_0, ok_i, ok_r, ok_l]; done) | assumption | (simp only [List.length_set, List.length_append, List.length_cons, List.length_nil]; omega)) only [r_56_1, r_56_4, r_56_5, r_56_8, r_56_9, r_56_10, r_56_11, r_56_12, r_56_13, r_56_16, r_56_17, aft_v, aft_n, aft_t, gf_0, gf_s, pf_e, tg_e, hp_s, hp_n, hp_2, List.set_cons_zero, List.set_cons_succ, b2i_t, b2i_f, Ret_s, nlg_r, nlg_i, nlg_n, ok_0, ok_i, ok_r, ok_l, zi_e, zi_n, zi_t, Nat.reduceEqDiff, Nat.not_le, Nat.reduceLeDiff, if_true, if_false, eq_self, ↓reduceIte, Nat.reduceLT, Nat.le_refl, nle1, nez1, nez2, ei_r, ei_l, ni_r, ni_l, ti_r, ti_l, ai_r, ai_l, si_r, si_l, mi_r, mi_l, di_r, nI_eq, nI_leI, nI_ltI, nI_add, pk_sub, pk_mul, pk_div, pk_rem, nI_l, lN_i, q, Nat.add_sub_cancel, ih, lN_mul]
    rw [Nat.pow_succ, Nat.mul_comm]
theorem c_55 : ∀ n k, n ≤ 10 → k ≤ n → run (d + n) 55 0 [.int (nI n), .int (nI k)] [] h = some (.inl (some (.long (lN (wys n k)))), h)
  | n, 0, hn, hk => by
    simp (disch := first | omega | (simp only [nlg_r, nlg_i, nlg_n, ok_0, ok_i, ok_r, ok_l]; done) | assumption | (simp only [List.length_set, List.length_append, List.length_cons, List.length_nil]; omega)) only [r_55_0, r_55_1, r_55_4, r_55_5, r_55_6, r_55_9, r_55_10, r_55_13, r_55_14, r_55_15, r_55_16, r_55_17, r_55_18, r_55_19, r_55_22, r_55_23, r_55_24, r_55_25, r_55_26, r_55_29, r_55_30, aft_v, aft_n, aft_t, gf_0, gf_s, pf_e, tg_e, hp_s, hp_n, hp_2, List.set_cons_zero, List.set_cons_succ, b2i_t, b2i_f, Ret_s, nlg_r, nlg_i, nlg_n, ok_0, ok_i, ok_r, ok_l, zi_e, zi_n, zi_t, Nat.reduceEqDiff, Nat.not_le, Nat.reduceLeDiff, if_true, if_false, eq_self, ↓reduceIte, Nat.reduceLT, Nat.le_refl, nle1, nez1, nez2, ei_r, ei_l, ni_r, ni_l, ti_r, ti_l, ai_r, ai_l, si_r, si_l, mi_r, mi_l, di_r, nI_eq, nI_leI, nI_ltI, nI_add, pk_sub, pk_mul, pk_div, pk_rem, nI_l, lN_i, wys]
    rfl
  | 0, k + 1, hn, hk => by omega
  | n + 1, k + 1, hn, hk => by
    by_cases q : k = n
    · subst q
      rw [wys_n _ hn]
      have q0 : ¬ k + 1 = 0 := by omega
      simp (disch := first | omega | (simp only [nlg_r, nlg_i, nlg_n, ok_0, ok_i, ok_r, ok_l]; done) | assumption | (simp only [List.length_set, List.length_append, List.length_cons, List.length_nil]; omega)) only [r_55_0, r_55_1, r_55_4, r_55_5, r_55_6, r_55_9, r_55_10, r_55_13, r_55_14, r_55_15, r_55_16, r_55_17, r_55_18, r_55_19, r_55_22, r_55_23, r_55_24, r_55_25, r_55_26, r_55_29, r_55_30, aft_v, aft_n, aft_t, gf_0, gf_s, pf_e, tg_e, hp_s, hp_n, hp_2, List.set_cons_zero, List.set_cons_succ, b2i_t, b2i_f, Ret_s, nlg_r, nlg_i, nlg_n, ok_0, ok_i, ok_r, ok_l, zi_e, zi_n, zi_t, Nat.reduceEqDiff, Nat.not_le, Nat.reduceLeDiff, if_true, if_false, eq_self, ↓reduceIte, Nat.reduceLT, Nat.le_refl, nle1, nez1, nez2, ei_r, ei_l, ni_r, ni_l, ti_r, ti_l, ai_r, ai_l, si_r, si_l, mi_r, mi_l, di_r, nI_eq, nI_leI, nI_ltI, nI_add, pk_sub, pk_mul, pk_div, pk_rem, nI_l, lN_i, q0]
      rfl
    · have i1 := c_55 n k (by omega) (by omega)
      have i2 := c_55 n (k + 1) (by omega) (by omega)
      have e := wys_r (n + 1) hn k (by omega) (by omega)
      rw [e, Nat.add_sub_cancel]
      have q0 : ¬ k + 1 = 0 := by omega
      have q1 : ¬ k + 1 = n + 1 := by omega
      rw [← Nat.add_assoc]
      conv => lhs; rw [r_55_0]
      simp (disch := first | omega | (simp only [nlg_r, nlg_i, nlg_n, ok_0, ok_i, ok_r, ok_l]; done) | assumption | (simp only [List.length_set, List.length_append, List.length_cons, List.length_nil]; omega)) only [r_55_1, r_55_4, r_55_5, r_55_6, r_55_9, r_55_10, r_55_13, r_55_14, r_55_15, r_55_16, r_55_17, r_55_18, r_55_19, r_55_22, r_55_23, r_55_24, r_55_25, r_55_26, r_55_29, r_55_30, aft_v, aft_n, aft_t, gf_0, gf_s, pf_e, tg_e, hp_s, hp_n, hp_2, List.set_cons_zero, List.set_cons_succ, b2i_t, b2i_f, Ret_s, nlg_r, nlg_i, nlg_n, ok_0, ok_i, ok_r, ok_l, zi_e, zi_n, zi_t, Nat.reduceEqDiff, Nat.not_le, Nat.reduceLeDiff, if_true, if_false, eq_self, ↓reduceIte, Nat.reduceLT, Nat.le_refl, nle1, nez1, nez2, ei_r, ei_l, ni_r, ni_l, ti_r, ti_l, ai_r, ai_l, si_r, si_l, mi_r, mi_l, di_r, nI_eq, nI_leI, nI_ltI, nI_add, pk_sub, pk_mul, pk_div, pk_rem, nI_l, lN_i, q0, q1, Nat.add_sub_cancel, i1, i2, lN_add]
theorem c_57s {a b v : Nat} (ha : a < 2 ^ 63) (hb : b < 2 ^ 63) (q : ¬ b = 0) (ih : run d 57 0 [.long (lN b), .null, .long (lN (a % b)), .null] [] h = some (.inl (some (.long (lN v))), h)) : run (d + 1) 57 0 [.long (lN a), .null, .long (lN b), .null] [] h = some (.inl (some (.long (lN v))), h) := by
  have e0 : (lg_cmp (lN b) 0 = 0) = (b = 0) := by rw [show (0 : Int64) = lN 0 from rfl]; exact lc_eq hb (by omega)
  have hz : ¬ lN b = 0 := by rw [el_r (by omega) (by omega)]; exact q
  conv => lhs; rw [r_57_0]
  simp (disch := first | omega | (simp only [nlg_r, nlg_i, nlg_n, ok_0, ok_i, ok_r, ok_l]; done) | assumption | (simp only [List.length_set, List.length_append, List.length_cons, List.length_nil]; omega)) only [r_57_1, r_57_2, r_57_3, r_57_6, r_57_7, r_57_10, r_57_11, r_57_12, r_57_13, r_57_14, r_57_17, aft_v, aft_n, aft_t, gf_0, gf_s, pf_e, tg_e, hp_s, hp_n, hp_2, List.set_cons_zero, List.set_cons_succ, b2i_t, b2i_f, Ret_s, nlg_r, nlg_i, nlg_n, ok_0, ok_i, ok_r, ok_l, zi_e, zi_n, zi_t, Nat.reduceEqDiff, Nat.not_le, Nat.reduceLeDiff, if_true, if_false, eq_self, ↓reduceIte, Nat.reduceLT, Nat.le_refl, nle1, nez1, nez2, e0, q, pk_lRem, ih]
theorem c_57z {a b : Nat} (hb : b = 0) : run d 57 0 [.long (lN a), .null, .long (lN b), .null] [] h = some (.inl (some (.long (lN (Nat.gcd a b)))), h) := by
  subst hb
  have e0 : (lg_cmp (lN 0) 0 = 0) = True := by rw [show (0 : Int64) = lN 0 from rfl, lc_eq (by omega) (by omega)]; simp
  simp (disch := first | omega | (simp only [nlg_r, nlg_i, nlg_n, ok_0, ok_i, ok_r, ok_l]; done) | assumption | (simp only [List.length_set, List.length_append, List.length_cons, List.length_nil]; omega)) only [r_57_0, r_57_1, r_57_2, r_57_3, r_57_6, r_57_7, r_57_10, r_57_11, r_57_12, r_57_13, r_57_14, r_57_17, aft_v, aft_n, aft_t, gf_0, gf_s, pf_e, tg_e, hp_s, hp_n, hp_2, List.set_cons_zero, List.set_cons_succ, b2i_t, b2i_f, Ret_s, nlg_r, nlg_i, nlg_n, ok_0, ok_i, ok_r, ok_l, zi_e, zi_n, zi_t, Nat.reduceEqDiff, Nat.not_le, Nat.reduceLeDiff, if_true, if_false, eq_self, ↓reduceIte, Nat.reduceLT, Nat.le_refl, nle1, nez1, nez2, e0, Nat.gcd_zero_right]
theorem gcd_t (a b : Nat) : Nat.gcd a b = Nat.gcd b (a % b) := by rw [Nat.gcd_comm a b, Nat.gcd_rec b a, Nat.gcd_comm]
theorem c_57 : ∀ n a b, a < 2 ^ 63 → b < 2 ^ n → b < 2 ^ 63 → run (d + 2 * n) 57 0 [.long (lN a), .null, .long (lN b), .null] [] h = some (.inl (some (.long (lN (Nat.gcd a b)))), h)
  | 0, a, b, ha, hb, _ => c_57z (by omega)
  | n + 1, a, b, ha, hb, hb2 => by
    by_cases q : b = 0
    · exact c_57z q
    · have hr : a % b < b := Nat.mod_lt _ (by omega)
      have e : d + 2 * (n + 1) = d + 2 * n + 1 + 1 := by omega
      rw [e, gcd_t]
      refine c_57s ha hb2 q ?_
      by_cases q2 : a % b = 0
      · exact c_57z q2
      · have h1 : b % (a % b) < a % b := Nat.mod_lt _ (by omega)
        have h2 : b % (a % b) + (a % b) ≤ b := by
          have := Nat.div_add_mod b (a % b)
          have h3 : 1 ≤ b / (a % b) := Nat.div_pos (by omega) (by omega)
          have h4 : (a % b) * 1 ≤ (a % b) * (b / (a % b)) := Nat.mul_le_mul_left _ h3
          omega
        have hr2 : b % (a % b) < 2 ^ n := by rw [Nat.pow_succ] at hb; omega
        rw [gcd_t]
        exact c_57s hb2 (by omega) q2 (c_57 n (a % b) (b % (a % b)) (by omega) hr2 (by omega))
end CX
