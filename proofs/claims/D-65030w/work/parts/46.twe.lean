/-! PLAIN LEAN, 7: a day in the twin -/
/-- growing: by how much; by how much of it is eaten -/
def gby (g b r p m : Nat) : Nat := min (min ((g * b + r) / 1000) (100000 - g)) (p / m)
def grs (g b r p m : Nat) : Nat := if gby g b r p m < (g * b + r) / 1000 then 0 else (g * b + r) % 1000
theorem lc_le {a b : Nat} (ha : a < 2 ^ 63) (hb : b < 2 ^ 63) : (lg_cmp (lN a) (lN b) ≤ 0) = (a ≤ b) := propext ((lg_cmp_le _ _).trans (pk_lLE ha hb))
theorem lc_ge {a b : Nat} (ha : a < 2 ^ 63) (hb : b < 2 ^ 63) : (0 ≤ lg_cmp (lN a) (lN b)) = (b ≤ a) := propext ((lg_cmp_ge _ _).trans (pk_lLE hb ha))
theorem lc_gt {a b : Nat} (ha : a < 2 ^ 63) (hb : b < 2 ^ 63) : (0 < lg_cmp (lN a) (lN b)) = (b < a) := propext ((lg_cmp_gt _ _).trans (pk_lLT hb ha))
theorem lc_lt {a b : Nat} (ha : a < 2 ^ 63) (hb : b < 2 ^ 63) : (lg_cmp (lN a) (lN b) < 0) = (a < b) := propext ((lg_cmp_lt _ _).trans (pk_lLT ha hb))
theorem lc_eq {a b : Nat} (ha : a < 2 ^ 63) (hb : b < 2 ^ 63) : (lg_cmp (lN a) (lN b) = 0) = (a = b) := propext ((lg_cmp_eq _ _).trans (pk_lEQ ha hb))
theorem mdv {p a b : Nat} (h : a ≤ b) (h0 : 1 ≤ b) : p * a / b ≤ p := Nat.div_le_of_le_mul (by rw [Nat.mul_comm b p]; exact Nat.mul_le_mul_left p h)
theorem g4_0 {a b c e : Nat} : [a, b, c, e].getD 0 0 = a := id rfl
theorem g4_1 {a b c e : Nat} : [a, b, c, e].getD 1 0 = b := id rfl
theorem g4_2 {a b c e : Nat} : [a, b, c, e].getD 2 0 = c := id rfl
theorem g4_3 {a b c e : Nat} : [a, b, c, e].getD 3 0 = e := id rfl
theorem ln4 {a b c e : Nat} : [a, b, c, e].length = 4 := id rfl
section TG
variable {th d : Nat} {σ : AS} {h : MH}
set_option maxRecDepth 20000 in
theorem t_flows (T : TW th σ h) (hL : WL σ) (hS : WS σ) {B : Nat} (hB : B ≤ 1000000000) (hp : ∀ k, (σ.2 14).getD k 0 ≤ B) : Ret (run d 78 0 [.ref 16, .null] [] h) (TPv h th (uc σ 14 (flw (σ.1 1) (σ.1 2) (σ.2 14)))) := by
  obtain ⟨at_, wr, ic, op, mo, hmo, hM, a17, a18, a19, a20, a21, a22, a23, a24, a25, a26, a27, a28, a29, a30, a31, a32, a33⟩ := T
  obtain ⟨l1, l2, l3, l4, l5, l6, l7, l8, l9, l10, l11, l12, l13, l14, l15, l16⟩ := hL
  obtain ⟨s1, s2, s3, s4, s5⟩ := hS
  obtain ⟨p0, p1, p2, p3, hpe⟩ := len4 l14
  obtain ⟨m0, m1, m2, m3, hme⟩ := len4 hmo
  have b0 := hp 0
  have b1 := hp 1
  have b2 := hp 2
  have b3 := hp 3
  rw [hpe] at b0 b1 b2 b3
  simp only [g4_0, g4_1, g4_2, g4_3] at b0 b1 b2 b3
  have c0 : p0 * σ.1 1 ≤ 1000000000 * 100 := Nat.mul_le_mul (by omega) (by omega)
  have c1 : p1 * σ.1 1 ≤ 1000000000 * 100 := Nat.mul_le_mul (by omega) (by omega)
  have c2 : p2 * σ.1 1 ≤ 1000000000 * 100 := Nat.mul_le_mul (by omega) (by omega)
  have c3 : p3 * σ.1 1 ≤ 1000000000 * 100 := Nat.mul_le_mul (by omega) (by omega)
  have f0 : p0 * σ.1 1 / σ.1 2 ≤ p0 := mdv s2 s3
  have f1 : p1 * σ.1 1 / σ.1 2 ≤ p1 := mdv s2 s3
  have f2 : p2 * σ.1 1 / σ.1 2 ≤ p2 := mdv s2 s3
  have f3 : p3 * σ.1 1 / σ.1 2 ≤ p3 := mdv s2 s3
  have b2 : ¬ lN (σ.1 2) = 0 := by rw [el_r (by omega) (by omega)]; omega
  rw [hpe] at a17
  rw [hme] at a18
  simp (disch := first | omega | (simp only [nlg_r, nlg_i, nlg_n, ok_0, ok_i, ok_r, ok_l]; done) | assumption | (simp only [List.length_set, List.length_append, List.length_cons, List.length_nil]; omega)) only [r_78_0, r_78_1, r_78_2, r_78_3, r_78_4, r_78_7, r_78_8, r_78_11, r_78_12, r_78_13, r_78_16, r_78_17, r_78_18, r_78_19, r_78_22, r_78_23, r_78_24, r_78_25, r_78_28, r_78_29, r_78_30, r_78_31, r_78_34, r_78_37, r_78_38, r_78_39, r_78_40, r_78_41, r_78_44, r_78_45, r_78_48, r_78_49, r_78_50, r_78_53, r_78_54, r_78_55, r_78_56, r_78_59, r_78_60, r_78_61, r_78_62, r_78_63, r_78_66, r_78_67, r_78_70, r_78_71, r_78_74, r_78_75, r_78_76, r_78_77, r_78_78, r_78_79, r_78_80, r_78_83, r_78_86, hM, mdl, aft_v, aft_n, aft_t, gf_0, gf_s, pf_e, tg_e, hp_s, hp_n, hp_2, List.set_cons_zero, List.set_cons_succ, b2i_t, b2i_f, Ret_s, nlg_r, nlg_i, nlg_n, ok_0, ok_i, ok_r, ok_l, zi_e, zi_n, zi_t, Nat.reduceEqDiff, Nat.not_le, Nat.reduceLeDiff, if_true, if_false, eq_self, ↓reduceIte, Nat.reduceLT, Nat.le_refl, nle1, nez1, nez2, ei_r, ei_l, ni_r, ni_l, ti_r, ti_l, ai_r, ai_l, si_r, si_l, mi_r, mi_l, di_r, nI_eq, nI_leI, nI_ltI, nI_add, pk_sub, pk_mul, pk_div, pk_rem, nI_l, lN_i, zi_a, al_z, as_z, al_l, as_l, a17, a18, lN_add, lN_sub, lN_mul, pk_lDiv, Nat.reduceAdd, Nat.reduceSub, List.set_cons_zero, List.set_cons_succ, g4_0, g4_1, g4_2, g4_3, ln4]
  refine ⟨rfl, ⟨at_, wr, ic, op, [p0 * σ.1 1 / σ.1 2, p1 * σ.1 1 / σ.1 2, p2 * σ.1 1 / σ.1 2, p3 * σ.1 1 / σ.1 2], rfl, ?_, ?_⟩, ?_⟩
  · simp (disch := first | omega | (simp only [nlg_r, nlg_i, nlg_n, ok_0, ok_i, ok_r, ok_l]; done) | assumption | (simp only [List.length_set, List.length_append, List.length_cons, List.length_nil]; omega)) only [aft_v, aft_n, aft_t, gf_0, gf_s, pf_e, tg_e, hp_s, hp_n, hp_2, List.set_cons_zero, List.set_cons_succ, b2i_t, b2i_f, Ret_s, nlg_r, nlg_i, nlg_n, ok_0, ok_i, ok_r, ok_l, zi_e, zi_n, zi_t, Nat.reduceEqDiff, Nat.not_le, Nat.reduceLeDiff, if_true, if_false, eq_self, ↓reduceIte, Nat.reduceLT, Nat.le_refl, nle1, nez1, nez2, uc_1, uc_2, hM]
  · simp (disch := first | omega | (simp only [nlg_r, nlg_i, nlg_n, ok_0, ok_i, ok_r, ok_l]; done) | assumption | (simp only [List.length_set, List.length_append, List.length_cons, List.length_nil]; omega)) only [TA, aft_v, aft_n, aft_t, gf_0, gf_s, pf_e, tg_e, hp_s, hp_n, hp_2, List.set_cons_zero, List.set_cons_succ, b2i_t, b2i_f, Ret_s, nlg_r, nlg_i, nlg_n, ok_0, ok_i, ok_r, ok_l, zi_e, zi_n, zi_t, Nat.reduceEqDiff, Nat.not_le, Nat.reduceLeDiff, if_true, if_false, eq_self, ↓reduceIte, Nat.reduceLT, Nat.le_refl, nle1, nez1, nez2, uc_1, uc_2, a17, a18, a19, a20, a21, a22, a23, a24, a25, a26, a27, a28, a29, a30, a31, a32, a33, and_self, hpe, flw, g4_0, g4_1, g4_2, g4_3]
  · repeat (first | exact FrT.refl _ | refine FrT.put ?_ (by omega))
end TG
