/-! PLAIN LEAN, 47: the letters -/
theorem i8_e : ∀ c, c < 128 → (nI c).toInt8.toInt32 = nI c := by decide +kernel
section DA
variable {d : Nat} {h : MH}
set_option maxRecDepth 20000 in
theorem c_131 {c : Nat} (hc : c < 128) (k3 : h.1 3 = (23, [.int 67, .int 76, .int 71, .int 87])) : run d 131 0 [.ref 3, .int (nI c), .int 0, .int 4, .null, .null] [] h = some (.inl (some (.int (oI (plc c)))), h) := by
  have e8 := i8_e c hc
  have a0 : ∀ K : Value → Option MR, alK (23, [.int 67, .int 76, .int 71, .int 87]) 23 0 K = K (.int 67) := fun K => rfl
  have a1 : ∀ K : Value → Option MR, alK (23, [.int 67, .int 76, .int 71, .int 87]) 23 1 K = K (.int 76) := fun K => rfl
  have a2 : ∀ K : Value → Option MR, alK (23, [.int 67, .int 76, .int 71, .int 87]) 23 2 K = K (.int 71) := fun K => rfl
  have a3 : ∀ K : Value → Option MR, alK (23, [.int 67, .int 76, .int 71, .int 87]) 23 3 K = K (.int 87) := fun K => rfl
  have s1 : (0 : Int32) + 1 = 1 := rfl
  have s2 : (1 : Int32) + 1 = 2 := rfl
  have s3 : (2 : Int32) + 1 = 3 := rfl
  have s4 : (3 : Int32) + 1 = 4 := rfl
  have n0 : ¬ (4 : Int32) ≤ 0 := by decide
  have n1 : ¬ (4 : Int32) ≤ 1 := by decide
  have n2 : ¬ (4 : Int32) ≤ 2 := by decide
  have n3 : ¬ (4 : Int32) ≤ 3 := by decide
  have n4 : (4 : Int32) ≤ 4 := by decide
  have eq : ∀ n : Nat, n < 128 → ((nI n = nI c) = (n = c)) := fun n hn => propext (nI_eq (a := n) (b := c) (by omega) (by omega))
  have q67 : ((67 : Int32) = nI c) = (67 = c) := eq 67 (by omega)
  have q76 : ((76 : Int32) = nI c) = (76 = c) := eq 76 (by omega)
  have q71 : ((71 : Int32) = nI c) = (71 = c) := eq 71 (by omega)
  have q87 : ((87 : Int32) = nI c) = (87 = c) := eq 87 (by omega)
  by_cases e1 : 67 = c
  · simp (disch := first | omega | (simp only [nlg_r, nlg_i, nlg_n, ok_0, ok_i, ok_r, ok_l]; done) | assumption | (simp only [List.length_set, List.length_append, List.length_cons, List.length_nil]; omega)) only [r_131_0, r_131_1, r_131_2, r_131_4, r_131_5, r_131_7, r_131_9, r_131_10, r_131_13, r_131_14, r_131_16, r_131_17, r_131_19, r_131_22, r_131_24, r_131_25, r_131_28, r_131_31, r_131_32, aft_v, aft_n, aft_t, gf_0, gf_s, pf_e, tg_e, hp_s, hp_n, hp_2, List.set_cons_zero, List.set_cons_succ, b2i_t, b2i_f, Ret_s, nlg_r, nlg_i, nlg_n, ok_0, ok_i, ok_r, ok_l, zi_e, zi_n, zi_t, Nat.reduceEqDiff, Nat.not_le, Nat.reduceLeDiff, if_true, if_false, eq_self, ↓reduceIte, Nat.reduceLT, Nat.le_refl, nle1, nez1, nez2, k3, e8, a0, a1, a2, a3, s1, s2, s3, s4, n0, n1, n2, n3, n4, q67, q76, q71, q87, e1]
    subst e1; rfl
  by_cases e2 : 76 = c
  · simp (disch := first | omega | (simp only [nlg_r, nlg_i, nlg_n, ok_0, ok_i, ok_r, ok_l]; done) | assumption | (simp only [List.length_set, List.length_append, List.length_cons, List.length_nil]; omega)) only [r_131_0, r_131_1, r_131_2, r_131_4, r_131_5, r_131_7, r_131_9, r_131_10, r_131_13, r_131_14, r_131_16, r_131_17, r_131_19, r_131_22, r_131_24, r_131_25, r_131_28, r_131_31, r_131_32, aft_v, aft_n, aft_t, gf_0, gf_s, pf_e, tg_e, hp_s, hp_n, hp_2, List.set_cons_zero, List.set_cons_succ, b2i_t, b2i_f, Ret_s, nlg_r, nlg_i, nlg_n, ok_0, ok_i, ok_r, ok_l, zi_e, zi_n, zi_t, Nat.reduceEqDiff, Nat.not_le, Nat.reduceLeDiff, if_true, if_false, eq_self, ↓reduceIte, Nat.reduceLT, Nat.le_refl, nle1, nez1, nez2, k3, e8, a0, a1, a2, a3, s1, s2, s3, s4, n0, n1, n2, n3, n4, q67, q76, q71, q87, e1, e2]
    subst e2; rfl
  by_cases e3 : 71 = c
  · simp (disch := first | omega | (simp only [nlg_r, nlg_i, nlg_n, ok_0, ok_i, ok_r, ok_l]; done) | assumption | (simp only [List.length_set, List.length_append, List.length_cons, List.length_nil]; omega)) only [r_131_0, r_131_1, r_131_2, r_131_4, r_131_5, r_131_7, r_131_9, r_131_10, r_131_13, r_131_14, r_131_16, r_131_17, r_131_19, r_131_22, r_131_24, r_131_25, r_131_28, r_131_31, r_131_32, aft_v, aft_n, aft_t, gf_0, gf_s, pf_e, tg_e, hp_s, hp_n, hp_2, List.set_cons_zero, List.set_cons_succ, b2i_t, b2i_f, Ret_s, nlg_r, nlg_i, nlg_n, ok_0, ok_i, ok_r, ok_l, zi_e, zi_n, zi_t, Nat.reduceEqDiff, Nat.not_le, Nat.reduceLeDiff, if_true, if_false, eq_self, ↓reduceIte, Nat.reduceLT, Nat.le_refl, nle1, nez1, nez2, k3, e8, a0, a1, a2, a3, s1, s2, s3, s4, n0, n1, n2, n3, n4, q67, q76, q71, q87, e1, e2, e3]
    subst e3; rfl
  by_cases e4 : 87 = c
  · simp (disch := first | omega | (simp only [nlg_r, nlg_i, nlg_n, ok_0, ok_i, ok_r, ok_l]; done) | assumption | (simp only [List.length_set, List.length_append, List.length_cons, List.length_nil]; omega)) only [r_131_0, r_131_1, r_131_2, r_131_4, r_131_5, r_131_7, r_131_9, r_131_10, r_131_13, r_131_14, r_131_16, r_131_17, r_131_19, r_131_22, r_131_24, r_131_25, r_131_28, r_131_31, r_131_32, aft_v, aft_n, aft_t, gf_0, gf_s, pf_e, tg_e, hp_s, hp_n, hp_2, List.set_cons_zero, List.set_cons_succ, b2i_t, b2i_f, Ret_s, nlg_r, nlg_i, nlg_n, ok_0, ok_i, ok_r, ok_l, zi_e, zi_n, zi_t, Nat.reduceEqDiff, Nat.not_le, Nat.reduceLeDiff, if_true, if_false, eq_self, ↓reduceIte, Nat.reduceLT, Nat.le_refl, nle1, nez1, nez2, k3, e8, a0, a1, a2, a3, s1, s2, s3, s4, n0, n1, n2, n3, n4, q67, q76, q71, q87, e1, e2, e3, e4]
    subst e4; rfl
  have ep : plc c = none := by simp only [plc]; rw [if_neg (by omega), if_neg (by omega), if_neg (by omega), if_neg (by omega)]
  rw [ep]
  simp (disch := first | omega | (simp only [nlg_r, nlg_i, nlg_n, ok_0, ok_i, ok_r, ok_l]; done) | assumption | (simp only [List.length_set, List.length_append, List.length_cons, List.length_nil]; omega)) only [r_131_0, r_131_1, r_131_2, r_131_4, r_131_5, r_131_7, r_131_9, r_131_10, r_131_13, r_131_14, r_131_16, r_131_17, r_131_19, r_131_22, r_131_24, r_131_25, r_131_28, r_131_31, r_131_32, aft_v, aft_n, aft_t, gf_0, gf_s, pf_e, tg_e, hp_s, hp_n, hp_2, List.set_cons_zero, List.set_cons_succ, b2i_t, b2i_f, Ret_s, nlg_r, nlg_i, nlg_n, ok_0, ok_i, ok_r, ok_l, zi_e, zi_n, zi_t, Nat.reduceEqDiff, Nat.not_le, Nat.reduceLeDiff, if_true, if_false, eq_self, ↓reduceIte, Nat.reduceLT, Nat.le_refl, nle1, nez1, nez2, k3, e8, a0, a1, a2, a3, s1, s2, s3, s4, n0, n1, n2, n3, n4, q67, q76, q71, q87, e1, e2, e3, e4, oI]
theorem c_124 {c : Nat} (hc : c < 128) (k2 : h.1 2 = (8, [.ref 3, .int 0])) (k3 : h.1 3 = (23, [.int 67, .int 76, .int 71, .int 87])) : run (d + 4) 124 0 [.ref 2, .int (nI c)] [] h = some (.inl (some (.int (oI (plc c)))), h) := by
  have e131 := c_131 (d := d + 1) hc k3
  have m0 := c_119 (d := d + 1) (h := h) (a := 0) (b := 0) (by omega) (by omega)
  have m4 := c_120 (d := d + 1) (h := h) (a := 4) (b := 4) (by omega) (by omega)
  simp only [show nI 0 = 0 from rfl, show nI 4 = 4 from rfl, Nat.max_self, Nat.min_self] at m0 m4
  have l4 : ∀ K : Value → Option MR, lnK (23, [.int 67, .int 76, .int 71, .int 87]) K = K (.int 4) := fun K => rfl
  have sh : (4 : Int32) >>> ((0 : Int32) &&& 31) = 4 := by decide
  have q1 : ¬ nI c < 0 := by rw [ti_r (by omega) (by omega)]; omega
  have q2 : ¬ (255 : Int32) < nI c := by rw [ti_l (by omega) (by omega)]; omega
  have q3 : (0 : Int32) < 4 := by decide
  simp (disch := first | omega | (simp only [nlg_r, nlg_i, nlg_n, ok_0, ok_i, ok_r, ok_l]; done) | assumption | (simp only [List.length_set, List.length_append, List.length_cons, List.length_nil]; omega)) only [r_124_0, r_124_1, r_124_2, r_124_3, r_124_6, r_125_0, r_125_1, r_125_4, r_125_7, r_125_8, r_125_11, r_125_12, r_125_13, r_125_14, r_125_17, r_125_20, r_125_23, r_125_24, r_125_27, r_125_28, r_125_29, r_125_30, r_125_36, r_126_0, r_126_3, r_126_6, r_126_7, r_126_10, r_126_13, r_126_14, r_126_17, r_126_18_0, r_126_18_1, r_126_18_n, r_127_0, r_127_1, r_127_4, r_127_5, r_127_6, r_127_9, r_127_10, r_128_0, r_128_3, r_128_6, r_128_7, r_128_10, r_128_13, r_128_14_0, r_128_14_n, r_129_0, r_129_1, r_129_4, r_129_7, r_129_8, r_129_9, r_129_10, r_129_11, r_129_14, r_129_15, r_129_16, r_129_17, r_129_18, r_129_21, r_129_22, r_129_23, r_129_24, r_129_27, r_129_28, r_129_29, r_129_30, r_129_31, r_129_32, r_129_33, r_129_36, r_130_0, r_130_1, r_130_4, r_130_5, r_130_8, r_130_11, r_130_12, r_130_15, r_130_16_0, r_130_16_1, r_130_16_n, aft_v, aft_n, aft_t, gf_0, gf_s, pf_e, tg_e, hp_s, hp_n, hp_2, List.set_cons_zero, List.set_cons_succ, b2i_t, b2i_f, Ret_s, nlg_r, nlg_i, nlg_n, ok_0, ok_i, ok_r, ok_l, zi_e, zi_n, zi_t, Nat.reduceEqDiff, Nat.not_le, Nat.reduceLeDiff, if_true, if_false, eq_self, ↓reduceIte, Nat.reduceLT, Nat.le_refl, nle1, nez1, nez2, k2, k3, l4, sh, q1, q2, q3, m0, m4, e131]
end DA
