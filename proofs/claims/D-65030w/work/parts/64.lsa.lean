/-! PLAIN LEAN, 25: ArrayList grows -/
section LT
variable {d al ed : Nat} {h : MH} {xs : List Nat}
/-- after a list has got room: its array lies at the new address -/
def LG (h : MH) (al : Nat) (xs : List Nat) (m : Int32) : Option Value ⊕ Nat → MH → Prop := fun o h' => o = .inl (some (.ref h.2.1)) ∧ h'.1 al = (7, [.ref h.2.1, .int (nI xs.length), .int m]) ∧ (∃ c, xs.length + (c + 1) ≤ 200 ∧ h'.1 h.2.1 = (24, rA xs (c + 1))) ∧ (∀ b, b ≠ al → b ≠ h.2.1 → h'.1 b = h.1 b) ∧ h'.2.1 = h.2.1 + 1 ∧ h'.2.2 ≤ h.2.2 + 200
set_option maxRecDepth 20000 in
theorem l_grow (hN : HN h) (h5 : 5 ≤ h.2.1) (ha : 5 ≤ al) (hE : EL h xs) {m : Int32} (h1 : h.1 al = (7, [.ref ed, .int (nI xs.length), .int m])) (hl : xs.length ≤ 60) (h3 : h.1 ed = (24, rA xs 0)) (h4 : 5 ≤ ed ∨ (ed = 1 ∧ xs = [])) : Ret (run (d + 5) 112 0 [.ref al] [] h) (LG h al xs m) := by
  have hal : al ≠ h.2.1 := fun z => by have := hN al (by omega); rw [h1] at this; cases this
  have hln : (rA xs 0).length = xs.length := by rw [rA_len]; rfl
  by_cases h0 : xs = []
  · subst h0
    by_cases he : ed = 1
    · subst he
      have q1 : (nI 10).toNatClampNeg = 10 := nI_clamp (by omega)
      have q2 : ¬ nI 10 < 0 := nI_pos (by omega)
      have em := c_119 (d := d + 3) (h := h) (a := 10) (b := 1) (by omega) (by omega)
      rw [show nI 10 = 10 from rfl, show nI 1 = 1 from rfl, show max 10 1 = 10 from rfl, show nI 10 = 10 from rfl] at em
      rw [show nI 10 = 10 from rfl] at q1 q2
      simp (disch := first | omega | (simp only [nlg_r, nlg_i, nlg_n, ok_0, ok_i, ok_r, ok_l]; done) | assumption | (simp only [List.length_set, List.length_append, List.length_cons, List.length_nil]; omega)) only [r_112_0, r_112_1, r_112_2, r_112_5, r_112_6, r_112_7, r_112_10, r_113_0, r_113_1, r_113_4, r_113_5, r_113_6, r_113_7, r_113_10, r_113_11, r_113_14, r_113_17e, r_113_17n, r_113_20, r_113_21, r_113_22, r_113_23, r_113_24, r_113_25, r_113_26, r_113_27, r_113_30, r_113_31, r_113_32, r_113_33, r_113_36, r_113_37, r_113_40, r_113_41, r_113_44, r_113_45, r_113_46, r_113_48, r_113_49, r_113_52, r_113_55, r_113_56, r_113_59, em, h1, h3, ln_24, hln, aft_v, aft_n, aft_t, gf_0, gf_s, pf_e, tg_e, hp_s, hp_n, hp_2, List.set_cons_zero, List.set_cons_succ, b2i_t, b2i_f, Ret_s, nlg_r, nlg_i, nlg_n, ok_0, ok_i, ok_r, ok_l, zi_e, zi_n, zi_t, Nat.reduceEqDiff, Nat.not_le, Nat.reduceLeDiff, if_true, if_false, eq_self, ↓reduceIte, Nat.reduceLT, Nat.le_refl, nle1, nez1, nez2, ei_r, ei_l, ni_r, ni_l, ti_r, ti_l, ai_r, ai_l, si_r, si_l, mi_r, mi_l, di_r, nI_eq, nI_leI, nI_ltI, nI_add, pk_sub, pk_mul, pk_div, pk_rem, nI_l, lN_i, zi_a, List.length_nil, show nI 0 = 0 from rfl, show nI (0 + 1) = 1 from rfl, q1, q2, hn_n, Nat.lt_irrefl]
      refine ⟨rfl, ?_, ⟨9, by simp, ?_⟩, fun b hb1 hb2 => ?_, rfl, ?_⟩
      · rw [hp_s]; rfl
      · rw [hp_n _ _ _ _ (Ne.symm hal), hn_s]; rfl
      · rw [hp_n _ _ _ _ hb1, hn_n _ _ _ hb2]
      · show h.2.2 + _ ≤ _; simp
    · have he5 : 5 ≤ ed := by rcases h4 with z | z; exact z; exact absurd z.1 he
      have c8 := c_118 (d := d + 2) (h := h) (a := 0) (b := 1) (c := 0) (by omega) (by omega) (by omega) (by omega)
      rw [show nI 0 = 0 from rfl, show nI 1 = 1 from rfl, show 0 + max 1 0 = 1 from rfl, show nI 1 = 1 from rfl] at c8
      have c2 := c_122 (d := d + 1) (n := 1) hN h5 he5 hE h3 (by simp) (by omega)
      rw [show nI 1 = 1 from rfl] at c2
      have r1 : ∀ o o', (hput (hnew h o) h.2.1 o').1 al = (7, [.ref ed, .int (nI 0), .int m]) := fun o o' => by rw [hp_n _ _ _ _ hal, hn_n _ _ _ hal]; exact h1
      simp only [show nI 0 = 0 from rfl] at r1
      simp (disch := first | omega | (simp only [nlg_r, nlg_i, nlg_n, ok_0, ok_i, ok_r, ok_l]; done) | assumption | (simp only [List.length_set, List.length_append, List.length_cons, List.length_nil]; omega)) only [r_112_0, r_112_1, r_112_2, r_112_5, r_112_6, r_112_7, r_112_10, r_113_0, r_113_1, r_113_4, r_113_5, r_113_6, r_113_7, r_113_10, r_113_11, r_113_14, r_113_17e, r_113_17n, r_113_20, r_113_21, r_113_22, r_113_23, r_113_24, r_113_25, r_113_26, r_113_27, r_113_30, r_113_31, r_113_32, r_113_33, r_113_36, r_113_37, r_113_40, r_113_41, r_113_44, r_113_45, r_113_46, r_113_48, r_113_49, r_113_52, r_113_55, r_113_56, r_113_59, c8, c2, h1, h3, r1, ln_24, hln, aft_v, aft_n, aft_t, gf_0, gf_s, pf_e, tg_e, hp_s, hp_n, hp_2, List.set_cons_zero, List.set_cons_succ, b2i_t, b2i_f, Ret_s, nlg_r, nlg_i, nlg_n, ok_0, ok_i, ok_r, ok_l, zi_e, zi_n, zi_t, Nat.reduceEqDiff, Nat.not_le, Nat.reduceLeDiff, if_true, if_false, eq_self, ↓reduceIte, Nat.reduceLT, Nat.le_refl, nle1, nez1, nez2, ei_r, ei_l, ni_r, ni_l, ti_r, ti_l, ai_r, ai_l, si_r, si_l, mi_r, mi_l, di_r, nI_eq, nI_leI, nI_ltI, nI_add, pk_sub, pk_mul, pk_div, pk_rem, nI_l, lN_i, zi_a, List.length_nil, show nI 0 = 0 from rfl, show nI (0 + 1) = 1 from rfl, Nat.lt_irrefl, show (1 : Int32) - 0 = 1 from rfl, show (0 : Int32) >>> ((1 : Int32) &&& 31) = 0 from rfl]
      refine ⟨rfl, ?_, ⟨0, by simp, ?_⟩, fun b hb1 hb2 => ?_, rfl, ?_⟩
      · rw [hp_s]; rfl
      · rw [hp_n _ _ _ _ (Ne.symm hal), hp_s]; rfl
      · rw [hp_n _ _ _ _ hb1, hp_n _ _ _ _ hb2, hn_n _ _ _ hb2]
      · show h.2.2 + _ ≤ _; simp
  · have hx : 0 < xs.length := List.length_pos_iff.mpr h0
    have he5 : 5 ≤ ed := by rcases h4 with z | z; exact z; exact absurd z.2 h0
    generalize hn : xs.length = n at *
    have es : nI n >>> ((1 : Int32) &&& 31) = nI (n / 2) := pk_shrN (by omega) _ 1 (by decide)
    have e1 : nI (n + 1) - nI n = nI 1 := by rw [pk_sub (by omega)]; congr 1; omega
    have c8 := c_118 (d := d + 2) (h := h) (a := n) (b := 1) (c := n / 2) (by omega) (by omega) (by omega) (by omega)
    have c2 := c_122 (d := d + 1) (n := n + max 1 (n / 2)) hN h5 he5 hE h3 (by rw [hn]; omega) (by omega)
    have r1 : ∀ o o', (hput (hnew h o) h.2.1 o').1 al = (7, [.ref ed, .int (nI n), .int m]) := fun o o' => by rw [hp_n _ _ _ _ hal, hn_n _ _ _ hal]; exact h1
    have c8' : run (d + 3) 118 0 [.int (nI n), .int (nI 1), .int (nI (n / 2)), .null] [] h = some (.inl (some (.int (nI (n + max 1 (n / 2))))), h) := c8
    simp (disch := first | omega | (simp only [nlg_r, nlg_i, nlg_n, ok_0, ok_i, ok_r, ok_l]; done) | assumption | (simp only [List.length_set, List.length_append, List.length_cons, List.length_nil]; omega)) only [r_112_0, r_112_1, r_112_2, r_112_5, r_112_6, r_112_7, r_112_10, r_113_0, r_113_1, r_113_4, r_113_5, r_113_6, r_113_7, r_113_10, r_113_11, r_113_14, r_113_17e, r_113_17n, r_113_20, r_113_21, r_113_22, r_113_23, r_113_24, r_113_25, r_113_26, r_113_27, r_113_30, r_113_31, r_113_32, r_113_33, r_113_36, r_113_37, r_113_40, r_113_41, r_113_44, r_113_45, r_113_46, r_113_48, r_113_49, r_113_52, r_113_55, r_113_56, r_113_59, c8', c2, h1, h3, r1, ln_24, hln, aft_v, aft_n, aft_t, gf_0, gf_s, pf_e, tg_e, hp_s, hp_n, hp_2, List.set_cons_zero, List.set_cons_succ, b2i_t, b2i_f, Ret_s, nlg_r, nlg_i, nlg_n, ok_0, ok_i, ok_r, ok_l, zi_e, zi_n, zi_t, Nat.reduceEqDiff, Nat.not_le, Nat.reduceLeDiff, if_true, if_false, eq_self, ↓reduceIte, Nat.reduceLT, Nat.le_refl, nle1, nez1, nez2, ei_r, ei_l, ni_r, ni_l, ti_r, ti_l, ai_r, ai_l, si_r, si_l, mi_r, mi_l, di_r, nI_eq, nI_leI, nI_ltI, nI_add, pk_sub, pk_mul, pk_div, pk_rem, nI_l, lN_i, es, e1, hx]
    refine ⟨rfl, ?_, ⟨max 1 (n / 2) - 1, by omega, ?_⟩, fun b hb1 hb2 => ?_, rfl, ?_⟩
    · rw [hp_s, hn]
    · rw [hp_n _ _ _ _ (Ne.symm hal), hp_s]
      rw [hn, show n + max 1 (n / 2) - (n + 0) = max 1 (n / 2) - 1 + 1 by omega]
      simp [rA]
    · rw [hp_n _ _ _ _ hb1, hp_n _ _ _ _ hb2, hn_n _ _ _ hb2]
    · show h.2.2 + _ ≤ _; simp; omega
end LT
