/-! PLAIN LEAN, 45: odds in the component -/
section CY
variable {σ σ' : AS} {O : List Nat} {d er es ep : Nat} {ra sa pa : List Nat} {h h' : MH}
set_option maxRecDepth 20000 in
theorem c_54l {A n m x b : Nat} {pt : Value} (hA : h.1 A = (5, [.int (nI n), .int (nI m)])) (hn : n ≤ 10) (hm : m ≤ n) (hb : b ≤ 20) (hx : x ≤ b) (hpt : nlg pt = true) : ∀ (r k : Nat), k + r = m + 1 →
    run (d + 11) 54 6 [.ref A, .int (nI x), .int (nI b), pt, .long (lN (osum n x (b - x) k)), .null, .int (nI k), .null, .null, .null] [] h = run (d + 11) 54 58 [.ref A, .int (nI x), .int (nI b), pt, .long (lN (osum n x (b - x) (m + 1))), .null, .int (nI (m + 1)), .null, .null, .null] [] h := by
  intro r
  induction r with
  | zero =>
    intro k hk
    have hk : k = m + 1 := by omega
    subst hk
    have q : m < m + 1 := by omega
    conv => lhs; rw [r_54_6]
    simp (disch := first | omega | (simp only [nlg_r, nlg_i, nlg_n, ok_0, ok_i, ok_r, ok_l]; done) | assumption | (simp only [List.length_set, List.length_append, List.length_cons, List.length_nil]; omega)) only [r_54_8, r_54_9, r_54_12, r_54_15, r_54_17, r_54_18, r_54_21, r_54_23, r_54_26, r_54_27, r_54_28, r_54_30, r_54_33, r_54_34, r_54_35, r_54_36, r_54_37, r_54_38, r_54_39, r_54_42, r_54_44, r_54_45, r_54_48, r_54_49, r_54_50, r_54_52, r_54_55, hA, aft_v, aft_n, aft_t, gf_0, gf_s, pf_e, tg_e, hp_s, hp_n, hp_2, List.set_cons_zero, List.set_cons_succ, b2i_t, b2i_f, Ret_s, nlg_r, nlg_i, nlg_n, ok_0, ok_i, ok_r, ok_l, zi_e, zi_n, zi_t, Nat.reduceEqDiff, Nat.not_le, Nat.reduceLeDiff, if_true, if_false, eq_self, ↓reduceIte, Nat.reduceLT, Nat.le_refl, nle1, nez1, nez2, ei_r, ei_l, ni_r, ni_l, ti_r, ti_l, ai_r, ai_l, si_r, si_l, mi_r, mi_l, di_r, nI_eq, nI_leI, nI_ltI, nI_add, pk_sub, pk_mul, pk_div, pk_rem, nI_l, lN_i, q]
  | succ r ih =>
    intro k hk
    rw [← ih (k + 1) (by omega)]
    have q : ¬ m < k := by omega
    have i1 := c_55 (d := d + 10 - n) (h := h) n k hn (by omega)
    have i2 := c_56 (d := d + 10 - k) (h := h) (v := x) k (by omega)
    have i3 := c_56 (d := d + 10 - (n - k)) (h := h) (v := b - x) (n - k) (by omega)
    rw [show d + 10 - n + n = d + 10 by omega] at i1
    rw [show d + 10 - k + k = d + 10 by omega] at i2
    rw [show d + 10 - (n - k) + (n - k) = d + 10 by omega] at i3
    have eo : osum n x (b - x) (k + 1) = osum n x (b - x) k + wys n k * x ^ k * (b - x) ^ (n - k) := rfl
    rw [eo]
    conv => lhs; rw [r_54_6]
    simp (disch := first | omega | (simp only [nlg_r, nlg_i, nlg_n, ok_0, ok_i, ok_r, ok_l]; done) | assumption | (simp only [List.length_set, List.length_append, List.length_cons, List.length_nil]; omega)) only [r_54_8, r_54_9, r_54_12, r_54_15, r_54_17, r_54_18, r_54_21, r_54_23, r_54_26, r_54_27, r_54_28, r_54_30, r_54_33, r_54_34, r_54_35, r_54_36, r_54_37, r_54_38, r_54_39, r_54_42, r_54_44, r_54_45, r_54_48, r_54_49, r_54_50, r_54_52, r_54_55, hA, aft_v, aft_n, aft_t, gf_0, gf_s, pf_e, tg_e, hp_s, hp_n, hp_2, List.set_cons_zero, List.set_cons_succ, b2i_t, b2i_f, Ret_s, nlg_r, nlg_i, nlg_n, ok_0, ok_i, ok_r, ok_l, zi_e, zi_n, zi_t, Nat.reduceEqDiff, Nat.not_le, Nat.reduceLeDiff, if_true, if_false, eq_self, ↓reduceIte, Nat.reduceLT, Nat.le_refl, nle1, nez1, nez2, ei_r, ei_l, ni_r, ni_l, ti_r, ti_l, ai_r, ai_l, si_r, si_l, mi_r, mi_l, di_r, nI_eq, nI_leI, nI_ltI, nI_add, pk_sub, pk_mul, pk_div, pk_rem, nI_l, lN_i, q, i1, i2, i3, lN_mul, lN_add]
set_option maxRecDepth 20000 in
theorem c_54 {A n m x b pt : Nat} (hA : h.1 A = (5, [.int (nI n), .int (nI m)])) (hn : n ≤ 10) (hm : m ≤ n) (hb1 : 1 ≤ b) (hb : b ≤ 20) (hx : x ≤ b) (hpt : pt ≤ 1) :
    run (d + 100) 54 0 [.ref A, .int (nI x), .int (nI b), .int (nI pt), .null, .null, .null, .null, .null, .null] [] h = some (.inl (some (.long (lN (odd n m x b pt)))), h) := by
  have lp := c_54l (d := d + 89) (h := h) (A := A) (x := x) (b := b) (pt := .int (nI pt)) hA hn hm hb hx (by simp (disch := first | omega | (simp only [nlg_r, nlg_i, nlg_n, ok_0, ok_i, ok_r, ok_l]; done) | assumption | (simp only [List.length_set, List.length_append, List.length_cons, List.length_nil]; omega)) only [aft_v, aft_n, aft_t, gf_0, gf_s, pf_e, tg_e, hp_s, hp_n, hp_2, List.set_cons_zero, List.set_cons_succ, b2i_t, b2i_f, Ret_s, nlg_r, nlg_i, nlg_n, ok_0, ok_i, ok_r, ok_l, zi_e, zi_n, zi_t, Nat.reduceEqDiff, Nat.not_le, Nat.reduceLeDiff, if_true, if_false, eq_self, ↓reduceIte, Nat.reduceLT, Nat.le_refl, nle1, nez1, nez2]) (m + 1) 0 (by omega)
  rw [show nI 0 = 0 from rfl, show osum n x (b - x) 0 = 0 from rfl, show lN 0 = 0 from rfl] at lp
  have i3 := c_56 (d := d + 99 - n) (h := h) (v := b) n (by omega)
  rw [show d + 99 - n + n = d + 99 by omega] at i3
  have hsum := osum_b hn (show x ≤ 20 by omega) (show b - x ≤ 20 by omega) (m + 1) (by omega)
  have hs2 : (m + 1) * (252 * 20 ^ 10) ≤ 11 * (252 * 20 ^ 10) := Nat.mul_le_mul_right _ (by omega)
  have hsl : osum n x (b - x) (m + 1) < 2 ^ 63 := by
    have : (11 : Nat) * (252 * 20 ^ 10) < 2 ^ 63 := by decide
    omega
  have hall : b ^ n ≤ 20 ^ 10 := Nat.le_trans (Nat.pow_le_pow_left hb n) (Nat.pow_le_pow_right (by omega) hn)
  have hal2 : b ^ n < 2 ^ 44 := by
    have : (20 : Nat) ^ 10 < 2 ^ 44 := by decide
    omega
  have hpos : 0 < b ^ n := Nat.pow_pos (by omega)
  have i7 := c_57 (d := d + 11) (h := h) 44 (osum n x (b - x) (m + 1)) (b ^ n) hsl hal2 (by omega)
  rw [show d + 11 + 2 * 44 = d + 99 by omega] at i7
  have hg : 0 < Nat.gcd (osum n x (b - x) (m + 1)) (b ^ n) := Nat.gcd_pos_of_pos_right _ hpos
  have hgl : Nat.gcd (osum n x (b - x) (m + 1)) (b ^ n) ≤ b ^ n := Nat.gcd_le_right _ hpos
  unfold odd
  generalize osum n x (b - x) (m + 1) = s at *
  generalize b ^ n = w at *
  generalize hgg : Nat.gcd s w = g at *
  have gz : ¬ lN g = 0 := by rw [el_r (by omega) (by omega)]; omega
  have e0 : run (d + 100) 54 0 [.ref A, .int (nI x), .int (nI b), .int (nI pt), .null, .null, .null, .null, .null, .null] [] h = run (d + 100) 54 58 [.ref A, .int (nI x), .int (nI b), .int (nI pt), .long (lN s), .null, .int (nI (m + 1)), .null, .null, .null] [] h := by
    rw [← lp]
    simp (disch := first | omega | (simp only [nlg_r, nlg_i, nlg_n, ok_0, ok_i, ok_r, ok_l]; done) | assumption | (simp only [List.length_set, List.length_append, List.length_cons, List.length_nil]; omega)) only [r_54_0, r_54_1, r_54_3, r_54_4, aft_v, aft_n, aft_t, gf_0, gf_s, pf_e, tg_e, hp_s, hp_n, hp_2, List.set_cons_zero, List.set_cons_succ, b2i_t, b2i_f, Ret_s, nlg_r, nlg_i, nlg_n, ok_0, ok_i, ok_r, ok_l, zi_e, zi_n, zi_t, Nat.reduceEqDiff, Nat.not_le, Nat.reduceLeDiff, if_true, if_false, eq_self, ↓reduceIte, Nat.reduceLT, Nat.le_refl, nle1, nez1, nez2]
  rw [e0]
  by_cases q : pt = 0
  · simp (disch := first | omega | (simp only [nlg_r, nlg_i, nlg_n, ok_0, ok_i, ok_r, ok_l]; done) | assumption | (simp only [List.length_set, List.length_append, List.length_cons, List.length_nil]; omega)) only [r_54_58, r_54_59, r_54_60, r_54_61, r_54_64, r_54_67, r_54_69, r_54_71, r_54_73, r_54_76, r_54_78, r_54_79, r_54_82, r_54_84, r_54_86, r_54_87, r_54_90, r_54_92, r_54_94, r_54_95, hA, aft_v, aft_n, aft_t, gf_0, gf_s, pf_e, tg_e, hp_s, hp_n, hp_2, List.set_cons_zero, List.set_cons_succ, b2i_t, b2i_f, Ret_s, nlg_r, nlg_i, nlg_n, ok_0, ok_i, ok_r, ok_l, zi_e, zi_n, zi_t, Nat.reduceEqDiff, Nat.not_le, Nat.reduceLeDiff, if_true, if_false, eq_self, ↓reduceIte, Nat.reduceLT, Nat.le_refl, nle1, nez1, nez2, ei_r, ei_l, ni_r, ni_l, ti_r, ti_l, ai_r, ai_l, si_r, si_l, mi_r, mi_l, di_r, nI_eq, nI_leI, nI_ltI, nI_add, pk_sub, pk_mul, pk_div, pk_rem, nI_l, lN_i, nI_l, i3, i7, q, pk_lDiv]
  · simp (disch := first | omega | (simp only [nlg_r, nlg_i, nlg_n, ok_0, ok_i, ok_r, ok_l]; done) | assumption | (simp only [List.length_set, List.length_append, List.length_cons, List.length_nil]; omega)) only [r_54_58, r_54_59, r_54_60, r_54_61, r_54_64, r_54_67, r_54_69, r_54_71, r_54_73, r_54_76, r_54_78, r_54_79, r_54_82, r_54_84, r_54_86, r_54_87, r_54_90, r_54_92, r_54_94, r_54_95, hA, aft_v, aft_n, aft_t, gf_0, gf_s, pf_e, tg_e, hp_s, hp_n, hp_2, List.set_cons_zero, List.set_cons_succ, b2i_t, b2i_f, Ret_s, nlg_r, nlg_i, nlg_n, ok_0, ok_i, ok_r, ok_l, zi_e, zi_n, zi_t, Nat.reduceEqDiff, Nat.not_le, Nat.reduceLeDiff, if_true, if_false, eq_self, ↓reduceIte, Nat.reduceLT, Nat.le_refl, nle1, nez1, nez2, ei_r, ei_l, ni_r, ni_l, ti_r, ti_l, ai_r, ai_l, si_r, si_l, mi_r, mi_l, di_r, nI_eq, nI_leI, nI_ltI, nI_add, pk_sub, pk_mul, pk_div, pk_rem, nI_l, lN_i, nI_l, i3, i7, q, pk_lDiv]
end CY
