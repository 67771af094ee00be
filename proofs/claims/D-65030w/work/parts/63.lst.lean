/-! PLAIN LEAN, 24: ArrayList -/
abbrev rA (xs : List Nat) (c : Nat) : List Value := xs.map Value.ref ++ List.replicate c Value.null
theorem ln_e {t : Nat} {l : List Value} {k : Value → Option MR} (h : 20 ≤ t ∧ t ≤ 24) : lnK (t, l) k = k (.int (nI l.length)) := if_pos h
theorem ln_24 {l : List Value} {k : Value → Option MR} : lnK (24, l) k = k (.int (nI l.length)) := ln_e (by omega)
theorem rA_len (xs : List Nat) (c : Nat) : (rA xs c).length = xs.length + c := by simp
theorem al_rf {k : Nat} {xs : List Nat} {c : Nat} {K : Value → Option MR} (h : k < xs.length) (hn : xs.length + c < 2 ^ 31) : alK (24, rA xs c) 24 (nI k) K = K (.ref (xs.getD k 0)) := by
  unfold alK
  rw [if_pos ⟨rfl, by rw [rA_len]; exact inb_k (by omega) hn⟩, nI_clamp (by omega)]
  simp [h, List.getElem?_append, List.getD_eq_getElem?_getD]
theorem as_rf {a k y : Nat} {xs : List Nat} {c : Nat} {K : MO → Option MR} (ha : 5 ≤ a) (h : k < xs.length + c) (hn : xs.length + c < 2 ^ 31) : asK a (24, rA xs c) 24 (nI k) (.ref y) K = K (24, (rA xs c).set k (.ref y)) := by
  unfold asK
  rw [if_pos ⟨ha, rfl, by rw [rA_len]; exact inb_k h hn⟩, nI_clamp (by omega)]
theorem rA_push {xs : List Nat} {c y : Nat} : (rA xs (c + 1)).set xs.length (.ref y) = rA (xs ++ [y]) c := by
  rw [List.set_append_right _ _ (by simp)]
  simp [List.replicate_succ, rA]
theorem cpy_grow {l : List Value} {m : Nat} (h : l.length ≤ m) : cpyL l (List.replicate m .null) 0 0 l.length = l ++ List.replicate (m - l.length) .null := by
  apply List.ext_getElem?
  intro j
  simp only [cpyL, List.getElem?_map, List.getElem?_range, List.length_replicate, List.getElem?_append, List.getElem?_replicate]
  by_cases h1 : j < l.length
  · simp [h1, show j < m by omega, List.getD_eq_getElem?_getD]
  · by_cases h2 : j < m
    · simp [h1, h2, show j - l.length < m - l.length by omega, List.getD_eq_getElem?_getD]
    · simp [h1, h2, show ¬ j - l.length < m - l.length by omega]
/-- no cell is there from the next address on -/
def HN (h : MH) : Prop := ∀ a, h.2.1 ≤ a → (h.1 a).1 = 99
def EL (h : MH) (xs : List Nat) : Prop := ∀ x ∈ xs, okE h (.ref x) = true
theorem okE_lt {h : MH} (hN : HN h) {y : Nat} (hy : okE h (.ref y) = true) : y < h.2.1 ∧ 5 ≤ y := by
  simp only [okE, Bool.and_eq_true, Bool.or_eq_true, beq_iff_eq, decide_eq_true_eq] at hy
  refine ⟨?_, hy.1⟩
  rcases Nat.lt_or_ge y h.2.1 with q | q
  · exact q
  · have := hN y q; omega
theorem okE_eq {h h' : MH} {y : Nat} (e : h'.1 y = h.1 y) : okE h' (.ref y) = okE h (.ref y) := by simp [okE, e]
theorem all_ok {h : MH} {xs : List Nat} {c : Nat} (hE : EL h xs) : (rA xs c).all (okE h) = true := by
  rw [List.all_append, Bool.and_eq_true]
  constructor
  · rw [List.all_map, List.all_eq_true]
    intro x hx
    exact hE x hx
  · rw [List.all_eq_true]
    intro v hv
    rw [List.eq_of_mem_replicate hv]
    rfl
/-- a list at al with its array at ed -/
def LA (h : MH) (al ed : Nat) (xs : List Nat) : Prop := ∃ (m : Int32) (c : Nat), h.1 al = (7, [.ref ed, .int (nI xs.length), .int m]) ∧ xs.length + c ≤ 200 ∧ h.1 ed = (24, rA xs c) ∧ (5 ≤ ed ∨ (ed = 1 ∧ xs = [] ∧ c = 0))
section LS
variable {d al ed : Nat} {h : MH} {xs : List Nat}
theorem l_size (hA : LA h al ed xs) : run d 107 0 [.ref al] [] h = some (.inl (some (.int (nI xs.length))), h) := by
  obtain ⟨m, c, h1, h2, h3, h4⟩ := hA
  simp (disch := first | omega | (simp only [nlg_r, nlg_i, nlg_n, ok_0, ok_i, ok_r, ok_l]; done) | assumption | (simp only [List.length_set, List.length_append, List.length_cons, List.length_nil]; omega)) only [r_107_0, r_107_1, r_107_4, h1, aft_v, aft_n, aft_t, gf_0, gf_s, pf_e, tg_e, hp_s, hp_n, hp_2, List.set_cons_zero, List.set_cons_succ, b2i_t, b2i_f, Ret_s, nlg_r, nlg_i, nlg_n, ok_0, ok_i, ok_r, ok_l, zi_e, zi_n, zi_t, Nat.reduceEqDiff, Nat.not_le, Nat.reduceLeDiff, if_true, if_false, eq_self, ↓reduceIte, Nat.reduceLT, Nat.le_refl, nle1, nez1, nez2]
theorem c_117 {i n : Nat} (h1 : i < n) (h2 : n < 2 ^ 31) {v : Value} : run d 117 0 [.int (nI i), .int (nI n), v] [] h = some (.inl (some (.int (nI i))), h) := by
  have q : ¬ i < 0 := by omega
  simp (disch := first | omega | (simp only [nlg_r, nlg_i, nlg_n, ok_0, ok_i, ok_r, ok_l]; done) | assumption | (simp only [List.length_set, List.length_append, List.length_cons, List.length_nil]; omega)) only [r_117_0, r_117_1, r_117_4, r_117_5, r_117_6, r_117_9, r_117_10, r_117_11, r_117_15, r_117_16, r_117_17, aft_v, aft_n, aft_t, gf_0, gf_s, pf_e, tg_e, hp_s, hp_n, hp_2, List.set_cons_zero, List.set_cons_succ, b2i_t, b2i_f, Ret_s, nlg_r, nlg_i, nlg_n, ok_0, ok_i, ok_r, ok_l, zi_e, zi_n, zi_t, Nat.reduceEqDiff, Nat.not_le, Nat.reduceLeDiff, if_true, if_false, eq_self, ↓reduceIte, Nat.reduceLT, Nat.le_refl, nle1, nez1, nez2, ei_r, ei_l, ni_r, ni_l, ti_r, ti_l, ai_r, ai_l, si_r, si_l, mi_r, mi_l, di_r, nI_eq, nI_leI, nI_ltI, nI_add, pk_sub, pk_mul, pk_div, pk_rem, nI_l, lN_i, q, h1]
theorem l_get (hA : LA h al ed xs) {k : Nat} (hk : k < xs.length) : run (d + 2) 108 0 [.ref al, .int (nI k)] [] h = some (.inl (some (.ref (xs.getD k 0))), h) := by
  obtain ⟨m, c, h1, h2, h3, h4⟩ := hA
  simp (disch := first | omega | (simp only [nlg_r, nlg_i, nlg_n, ok_0, ok_i, ok_r, ok_l]; done) | assumption | (simp only [List.length_set, List.length_append, List.length_cons, List.length_nil]; omega)) only [r_108_0, r_108_1, r_108_2, r_108_5, r_108_8, r_108_9, r_108_10, r_108_11, r_108_14, r_109_0, r_109_1, r_109_4, r_109_5, r_109_6, r_116_0, r_116_1, r_116_2, r_116_3, r_116_6, c_117, h1, h3, al_rf, aft_v, aft_n, aft_t, gf_0, gf_s, pf_e, tg_e, hp_s, hp_n, hp_2, List.set_cons_zero, List.set_cons_succ, b2i_t, b2i_f, Ret_s, nlg_r, nlg_i, nlg_n, ok_0, ok_i, ok_r, ok_l, zi_e, zi_n, zi_t, Nat.reduceEqDiff, Nat.not_le, Nat.reduceLeDiff, if_true, if_false, eq_self, ↓reduceIte, Nat.reduceLT, Nat.le_refl, nle1, nez1, nez2]
theorem c_119 {a b : Nat} (ha : a < 2 ^ 31) (hb : b < 2 ^ 31) : run d 119 0 [.int (nI a), .int (nI b)] [] h = some (.inl (some (.int (nI (max a b)))), h) := by
  by_cases q : a < b
  · rw [Nat.max_eq_right (by omega)]
    simp (disch := first | omega | (simp only [nlg_r, nlg_i, nlg_n, ok_0, ok_i, ok_r, ok_l]; done) | assumption | (simp only [List.length_set, List.length_append, List.length_cons, List.length_nil]; omega)) only [r_119_0, r_119_1, r_119_2, r_119_5, r_119_6, r_119_9, r_119_10, aft_v, aft_n, aft_t, gf_0, gf_s, pf_e, tg_e, hp_s, hp_n, hp_2, List.set_cons_zero, List.set_cons_succ, b2i_t, b2i_f, Ret_s, nlg_r, nlg_i, nlg_n, ok_0, ok_i, ok_r, ok_l, zi_e, zi_n, zi_t, Nat.reduceEqDiff, Nat.not_le, Nat.reduceLeDiff, if_true, if_false, eq_self, ↓reduceIte, Nat.reduceLT, Nat.le_refl, nle1, nez1, nez2, ei_r, ei_l, ni_r, ni_l, ti_r, ti_l, ai_r, ai_l, si_r, si_l, mi_r, mi_l, di_r, nI_eq, nI_leI, nI_ltI, nI_add, pk_sub, pk_mul, pk_div, pk_rem, nI_l, lN_i, q]
  · rw [Nat.max_eq_left (by omega)]
    simp (disch := first | omega | (simp only [nlg_r, nlg_i, nlg_n, ok_0, ok_i, ok_r, ok_l]; done) | assumption | (simp only [List.length_set, List.length_append, List.length_cons, List.length_nil]; omega)) only [r_119_0, r_119_1, r_119_2, r_119_5, r_119_6, r_119_9, r_119_10, aft_v, aft_n, aft_t, gf_0, gf_s, pf_e, tg_e, hp_s, hp_n, hp_2, List.set_cons_zero, List.set_cons_succ, b2i_t, b2i_f, Ret_s, nlg_r, nlg_i, nlg_n, ok_0, ok_i, ok_r, ok_l, zi_e, zi_n, zi_t, Nat.reduceEqDiff, Nat.not_le, Nat.reduceLeDiff, if_true, if_false, eq_self, ↓reduceIte, Nat.reduceLT, Nat.le_refl, nle1, nez1, nez2, ei_r, ei_l, ni_r, ni_l, ti_r, ti_l, ai_r, ai_l, si_r, si_l, mi_r, mi_l, di_r, nI_eq, nI_leI, nI_ltI, nI_add, pk_sub, pk_mul, pk_div, pk_rem, nI_l, lN_i, q]
theorem c_120 {a b : Nat} (ha : a < 2 ^ 31) (hb : b < 2 ^ 31) : run d 120 0 [.int (nI a), .int (nI b)] [] h = some (.inl (some (.int (nI (min a b)))), h) := by
  by_cases q : b < a
  · rw [Nat.min_eq_right (by omega)]
    simp (disch := first | omega | (simp only [nlg_r, nlg_i, nlg_n, ok_0, ok_i, ok_r, ok_l]; done) | assumption | (simp only [List.length_set, List.length_append, List.length_cons, List.length_nil]; omega)) only [r_120_0, r_120_1, r_120_2, r_120_5, r_120_6, r_120_9, r_120_10, aft_v, aft_n, aft_t, gf_0, gf_s, pf_e, tg_e, hp_s, hp_n, hp_2, List.set_cons_zero, List.set_cons_succ, b2i_t, b2i_f, Ret_s, nlg_r, nlg_i, nlg_n, ok_0, ok_i, ok_r, ok_l, zi_e, zi_n, zi_t, Nat.reduceEqDiff, Nat.not_le, Nat.reduceLeDiff, if_true, if_false, eq_self, ↓reduceIte, Nat.reduceLT, Nat.le_refl, nle1, nez1, nez2, ei_r, ei_l, ni_r, ni_l, ti_r, ti_l, ai_r, ai_l, si_r, si_l, mi_r, mi_l, di_r, nI_eq, nI_leI, nI_ltI, nI_add, pk_sub, pk_mul, pk_div, pk_rem, nI_l, lN_i, q]
  · rw [Nat.min_eq_left (by omega)]
    simp (disch := first | omega | (simp only [nlg_r, nlg_i, nlg_n, ok_0, ok_i, ok_r, ok_l]; done) | assumption | (simp only [List.length_set, List.length_append, List.length_cons, List.length_nil]; omega)) only [r_120_0, r_120_1, r_120_2, r_120_5, r_120_6, r_120_9, r_120_10, aft_v, aft_n, aft_t, gf_0, gf_s, pf_e, tg_e, hp_s, hp_n, hp_2, List.set_cons_zero, List.set_cons_succ, b2i_t, b2i_f, Ret_s, nlg_r, nlg_i, nlg_n, ok_0, ok_i, ok_r, ok_l, zi_e, zi_n, zi_t, Nat.reduceEqDiff, Nat.not_le, Nat.reduceLeDiff, if_true, if_false, eq_self, ↓reduceIte, Nat.reduceLT, Nat.le_refl, nle1, nez1, nez2, ei_r, ei_l, ni_r, ni_l, ti_r, ti_l, ai_r, ai_l, si_r, si_l, mi_r, mi_l, di_r, nI_eq, nI_leI, nI_ltI, nI_add, pk_sub, pk_mul, pk_div, pk_rem, nI_l, lN_i, q]
theorem c_118 {a b c : Nat} (ha : a ≤ 1000) (hb : 1 ≤ b) (hb2 : b ≤ 1000) (hc : c ≤ 1000) : run (d + 1) 118 0 [.int (nI a), .int (nI b), .int (nI c), .null] [] h = some (.inl (some (.int (nI (a + max b c)))), h) := by
  have q1 : ¬ a + max b c ≤ 0 := by omega
  have q2 : ¬ 2147483639 < a + max b c := by omega
  simp (disch := first | omega | (simp only [nlg_r, nlg_i, nlg_n, ok_0, ok_i, ok_r, ok_l]; done) | assumption | (simp only [List.length_set, List.length_append, List.length_cons, List.length_nil]; omega)) only [r_118_0, r_118_1, r_118_2, r_118_3, r_118_6, r_118_7, r_118_8, r_118_9, r_118_10, r_118_13, r_118_14, r_118_16, r_118_19, r_118_20, r_118_21, r_118_22, r_118_26, c_119, aft_v, aft_n, aft_t, gf_0, gf_s, pf_e, tg_e, hp_s, hp_n, hp_2, List.set_cons_zero, List.set_cons_succ, b2i_t, b2i_f, Ret_s, nlg_r, nlg_i, nlg_n, ok_0, ok_i, ok_r, ok_l, zi_e, zi_n, zi_t, Nat.reduceEqDiff, Nat.not_le, Nat.reduceLeDiff, if_true, if_false, eq_self, ↓reduceIte, Nat.reduceLT, Nat.le_refl, nle1, nez1, nez2, ei_r, ei_l, ni_r, ni_l, ti_r, ti_l, ai_r, ai_l, si_r, si_l, mi_r, mi_l, di_r, nI_eq, nI_leI, nI_ltI, nI_add, pk_sub, pk_mul, pk_div, pk_rem, nI_l, lN_i, q1, q2]
set_option maxRecDepth 20000 in
theorem c_122 {n : Nat} (hN : HN h) (h5 : 5 ≤ h.2.1) (he : 5 ≤ ed) {c : Nat} (hE : EL h xs) (h3 : h.1 ed = (24, rA xs c)) (h1 : xs.length + c ≤ n) (h2 : n ≤ 1000) : run (d + 2) 122 0 [.ref ed, .int (nI n)] [] h = some (.inl (some (.ref h.2.1)), hput (hnew h (24, List.replicate n .null)) h.2.1 (24, rA xs c ++ List.replicate (n - (xs.length + c)) .null)) := by
  have hne : ed ≠ h.2.1 := fun z => by have := hN ed (by omega); rw [h3] at this; cases this
  have q0 : ¬ nI n < 0 := nI_pos (by omega)
  have q1 : (nI n).toNatClampNeg = n := nI_clamp (by omega)
  have q2 : (nI (xs.length + c)).toNatClampNeg = xs.length + c := nI_clamp (by omega)
  have q3 : ¬ nI (xs.length + c) < 0 := nI_pos (by omega)
  have em : min (xs.length + c) n = xs.length + c := Nat.min_eq_left h1
  have r1 : (hnew h (24, List.replicate n Value.null)).1 ed = (24, rA xs c) := by rw [hn_n _ _ _ hne]; exact h3
  have hal : (rA xs c).all (okE (hnew h (24, List.replicate n Value.null))) = true := all_ok (fun x hx => by
    have := okE_lt hN (hE x hx)
    rw [okE_eq (hn_n _ _ _ (by omega))]
    exact hE x hx)
  have g1 : 5 ≤ ed ∧ (h.1 ed).1 = 24 ∧ okN 8 [Value.int (nI n), Value.ref ed] = true := ⟨he, by rw [h3], rfl⟩
  have g2 : 5 ≤ ed ∧ 5 ≤ h.2.1 ∧ ((hnew h (24, List.replicate n Value.null)).1 ed).1 = 24 ∧ ((hnew h (24, List.replicate n Value.null)).1 h.2.1).1 = 24 ∧ ¬ nI (xs.length + c) < 0 ∧ ¬ (0 : Int32) < 0 ∧ ¬ (0 : Int32) < 0 ∧ (0 : Int32).toNatClampNeg + (nI (xs.length + c)).toNatClampNeg ≤ ((hnew h (24, List.replicate n Value.null)).1 ed).2.length ∧ (0 : Int32).toNatClampNeg + (nI (xs.length + c)).toNatClampNeg ≤ ((hnew h (24, List.replicate n Value.null)).1 h.2.1).2.length ∧ ((hnew h (24, List.replicate n Value.null)).1 ed).2.all (okE (hnew h (24, List.replicate n Value.null))) = true ∧ okN 8 [] = true := by
    rw [r1, hn_s]
    refine ⟨he, h5, rfl, rfl, q3, by decide, by decide, ?_, ?_, hal, rfl⟩
    · rw [q2, rA_len]; simp
    · rw [q2]; simp; omega
  have ec : cpyL (rA xs c) (List.replicate n .null) 0 0 (xs.length + c) = rA xs c ++ List.replicate (n - (xs.length + c)) .null := by
    have := cpy_grow (l := rA xs c) (m := n) (by rw [rA_len]; exact h1)
    rwa [rA_len] at this
  simp (disch := first | omega | (simp only [nlg_r, nlg_i, nlg_n, ok_0, ok_i, ok_r, ok_l]; done) | assumption | (simp only [List.length_set, List.length_append, List.length_cons, List.length_nil]; omega)) only [r_122_0, r_122_1, r_122_2, r_122_3, r_122_6, r_122_9, r_123_0, r_123_1, r_123_3e, r_123_3n, r_123_6, r_123_7, r_123_10, r_123_13, r_123_17, r_123_24, r_123_25, r_123_26, r_123_27, r_123_28, r_123_29, r_123_30, r_123_31, r_123_32, r_123_38, r_123_39, r_122_3 g1, r_123_35 g2, c_120, q0, q1, q2, r1, ln_24, rA_len, em, aft_v, aft_n, aft_t, gf_0, gf_s, pf_e, tg_e, hp_s, hp_n, hp_2, List.set_cons_zero, List.set_cons_succ, b2i_t, b2i_f, Ret_s, nlg_r, nlg_i, nlg_n, ok_0, ok_i, ok_r, ok_l, zi_e, zi_n, zi_t, Nat.reduceEqDiff, Nat.not_le, Nat.reduceLeDiff, if_true, if_false, eq_self, ↓reduceIte, Nat.reduceLT, Nat.le_refl, nle1, nez1, nez2, hn_s, show (0 : Int32).toNatClampNeg = 0 from rfl, ec]
end LS
