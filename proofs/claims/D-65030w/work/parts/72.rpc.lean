/-! PLAIN LEAN, 33: thin, grow, stand in the component -/
section CI1
variable {σ σ' : AS} {O : List Nat} {d rr er es ep : Nat} {ra sa pa : List Nat} {h h' : MH}
theorem gD_ne {l : List Nat} {i j x : Nat} (h : j ≠ i) : (l.set i x).getD j 0 = l.getD j 0 := by rw [gD_set, if_neg (by omega)]
/-- fixed cells, when a rope's cell is put -/
theorem CF.rput (H : CF σ rr h) {a : Nat} {o : MO} (ha : 35 ≤ a) (h3 : ∃ l, h.1 a = (3, l)) (h1 : σ'.1 = σ.1) (hc : ∀ j, 12 ≤ j → j ≤ 16 → σ'.2 j = σ.2 j) : CF σ' rr (hput h a o) := by
  obtain ⟨k1, ⟨ap, pl, k2⟩, k3, ⟨v0, v1, v2, v3, k4⟩, k5, k6, k7, k8, k9, x, k10⟩ := H
  have hrr : rr ≠ a := fun z => by obtain ⟨l, hl⟩ := h3; rw [z, hl] at k5; cases k5
  refine ⟨?_, ⟨ap, pl, ?_⟩, ?_, ⟨v0, v1, v2, v3, ?_⟩, ?_, k6, ?_, ?_, ?_, x, ?_⟩ <;> simp (disch := first | omega | (simp only [nlg_r, nlg_i, nlg_n, ok_0, ok_i, ok_r, ok_l]; done) | assumption | (simp only [List.length_set, List.length_append, List.length_cons, List.length_nil]; omega)) only [aft_v, aft_n, aft_t, gf_0, gf_s, pf_e, tg_e, hp_s, hp_n, hp_2, List.set_cons_zero, List.set_cons_succ, b2i_t, b2i_f, Ret_s, nlg_r, nlg_i, nlg_n, ok_0, ok_i, ok_r, ok_l, zi_e, zi_n, zi_t, Nat.reduceEqDiff, Nat.not_le, Nat.reduceLeDiff, if_true, if_false, eq_self, ↓reduceIte, Nat.reduceLT, Nat.le_refl, nle1, nez1, nez2, k1, k2, k3, k4, k5, k7, k8, k9, k10, c5, h1, hc 12 (by omega) (by omega), hc 13 (by omega) (by omega), hc 14 (by omega) (by omega), hc 15 (by omega) (by omega), hc 16 (by omega) (by omega), hrr]
theorem c_68 {a : Nat} {x0 x1 x2 x3 x4 : Value} {v : Int32} (ha : 5 ≤ a) (e : h.1 a = (3, [x0, x1, x2, x3, x4])) : run d 68 0 [.ref a, .int v] [] h = some (.inl none, hput (hput h a (3, [x0, x1, .int v, x3, x4])) a (3, [x0, x1, .int v, .int 0, x4])) := by
  simp (disch := first | omega | (simp only [nlg_r, nlg_i, nlg_n, ok_0, ok_i, ok_r, ok_l]; done) | assumption | (simp only [List.length_set, List.length_append, List.length_cons, List.length_nil]; omega)) only [r_68_0, r_68_1, r_68_2, r_68_5, r_68_6, r_68_7, r_68_10, e, aft_v, aft_n, aft_t, gf_0, gf_s, pf_e, tg_e, hp_s, hp_n, hp_2, List.set_cons_zero, List.set_cons_succ, b2i_t, b2i_f, Ret_s, nlg_r, nlg_i, nlg_n, ok_0, ok_i, ok_r, ok_l, zi_e, zi_n, zi_t, Nat.reduceEqDiff, Nat.not_le, Nat.reduceLeDiff, if_true, if_false, eq_self, ↓reduceIte, Nat.reduceLT, Nat.le_refl, nle1, nez1, nez2]
theorem hp_p (h : MH) (a : Nat) (o o' : MO) : hput (hput h a o) a o' = hput h a o' := by
  unfold hput
  congr 1
  funext j
  by_cases q : j = a <;> simp [q]
theorem w_thin (H : CP σ O h) (hL : WL σ) (hV : WV σ) {k a b : Nat} (h1 : k < (σ.2 1).length) (h2 : 1 ≤ b) (h3 : b ≤ 1000) (h4 : a ≤ b) : Ret (run (d + 5) 6 0 [.ref 5, .int (nI k), .int (nI a), .int (nI b), .ref 34, .null] [] h) (CR h 0 (nI ((σ.2 3).getD k 0 * a / b)).toInt64 (uc (uc σ 3 ((σ.2 3).set k ((σ.2 3).getD k 0 * a / b))) 4 ((σ.2 4).set k 0)) O) := by
  obtain ⟨x, ho⟩ := H.o
  obtain ⟨rr, er, es, ep, ra, sa, pa, H1, H2⟩ := H
  have hM := H1.1
  have ca := c_at (d := d) hM H2 hL h1
  obtain ⟨r1, r2, r3⟩ := H2.rop1 h1
  obtain ⟨v1, v2, v3, v4, v5, -⟩ := hV k
  have e2 : inR (nI b) 1 1000 = true := inR_nI (lo := 1) (hi := 1000) h2 h3 (by omega)
  have e3 : inR (nI a) 0 (nI b) = true := inR_nI (lo := 0) (by omega) h4 (by omega)
  have b1 : (σ.2 3).getD k 0 * a ≤ 100000 * 1000 := Nat.mul_le_mul v4 (by omega)
  have b2 : ¬ lN b = 0 := by rw [el_r (by omega) (by omega)]; omega
  have l3 := hL.2.2.1
  have l4 := hL.2.2.2.1
  have eR : ropC (uc (uc σ 3 ((σ.2 3).set k ((σ.2 3).getD k 0 * a / b))) 4 ((σ.2 4).set k 0)) k = (3, [.int (nI ((σ.2 1).getD k 0)), .int (nI ((σ.2 2).getD k 0)), .int (nI ((σ.2 3).getD k 0 * a / b)), .int 0, .long (lN ((σ.2 5).getD k 0))]) := by
    simp only [ropC, uc_2, Nat.reduceEqDiff, if_true, if_false]
    rw [gsame (by omega), gsame (by omega)]
    rfl
  have hC := H2.rput (σ' := uc (uc σ 3 ((σ.2 3).set k ((σ.2 3).getD k 0 * a / b))) 4 ((σ.2 4).set k 0)) h1 rfl (fun j hj => by simp only [ropC, uc_2, Nat.reduceEqDiff, if_true, if_false]; rw [gD_ne hj, gD_ne hj]) (fun j q1 q2 => by rw [uc_2, uc_2, if_neg (by omega), if_neg (by omega)])
  have hF := H1.rput (σ' := uc (uc σ 3 ((σ.2 3).set k ((σ.2 3).getD k 0 * a / b))) 4 ((σ.2 4).set k 0)) (o := ropC (uc (uc σ 3 ((σ.2 3).set k ((σ.2 3).getD k 0 * a / b))) 4 ((σ.2 4).set k 0)) k) r1 ⟨_, r3⟩ rfl (fun j q1 q2 => by rw [uc_2, uc_2, if_neg (by omega), if_neg (by omega)])
  rw [eR] at hC hF
  have r3' := r3
  simp only [ropC] at r3
  generalize hra : ra.getD k 0 = A at *
  have c8 := c_68 (d := d + 3) (v := nI ((σ.2 3).getD k 0 * a / b)) (show 5 ≤ A by omega) r3
  rw [hp_p] at c8
  have eW : run (d + 4) 36 0 [.ref 5, .int (nI k), .int (nI a), .int (nI b), .null] [] h = some (.inl (some (.int (nI ((σ.2 3).getD k 0 * a / b)))), hput h A (3, [.int (nI ((σ.2 1).getD k 0)), .int (nI ((σ.2 2).getD k 0)), .int (nI ((σ.2 3).getD k 0 * a / b)), .int 0, .long (lN ((σ.2 5).getD k 0))])) := by
    simp (disch := first | omega | (simp only [nlg_r, nlg_i, nlg_n, ok_0, ok_i, ok_r, ok_l]; done) | assumption | (simp only [List.length_set, List.length_append, List.length_cons, List.length_nil]; omega)) only [r_36_0, r_36_1, r_36_2, r_36_5, r_36_7, r_36_8, r_36_9, r_36_12, r_36_15, r_36_18, r_36_19, r_36_20, r_36_21, r_36_24, r_36_27, r_36_28, r_36_31, r_36_32, r_36_35, r_36_37, r_36_39, r_36_42, r_36_43, r_36_44, r_36_45, r_36_46, r_36_47, r_36_48, r_36_49, r_36_50, r_36_53, r_36_55, r_36_58, hM, c5, ca, c_21, e2, e3, c_26t, aft_v, aft_n, aft_t, gf_0, gf_s, pf_e, tg_e, hp_s, hp_n, hp_2, List.set_cons_zero, List.set_cons_succ, b2i_t, b2i_f, Ret_s, nlg_r, nlg_i, nlg_n, ok_0, ok_i, ok_r, ok_l, zi_e, zi_n, zi_t, Nat.reduceEqDiff, Nat.not_le, Nat.reduceLeDiff, if_true, if_false, eq_self, ↓reduceIte, Nat.reduceLT, Nat.le_refl, nle1, nez1, nez2, r3, nI_l, lN_mul, pk_lDiv, lN_i, c8]
  simp (disch := first | omega | (simp only [nlg_r, nlg_i, nlg_n, ok_0, ok_i, ok_r, ok_l]; done) | assumption | (simp only [List.length_set, List.length_append, List.length_cons, List.length_nil]; omega)) only [r_6_0, r_6_2, r_6_3, r_6_4, r_6_5, r_6_6, r_6_7, r_6_10, r_6_11, r_6_12, r_6_15, r_6_17, r_6_18, r_6_19, r_6_21, r_6_22, r_6_23, r_6_24, hM, c5, aft_v, aft_n, aft_t, gf_0, gf_s, pf_e, tg_e, hp_s, hp_n, hp_2, List.set_cons_zero, List.set_cons_succ, b2i_t, b2i_f, Ret_s, nlg_r, nlg_i, nlg_n, ok_0, ok_i, ok_r, ok_l, zi_e, zi_n, zi_t, Nat.reduceEqDiff, Nat.not_le, Nat.reduceLeDiff, if_true, if_false, eq_self, ↓reduceIte, Nat.reduceLT, Nat.le_refl, nle1, nez1, nez2, eW, ho, as_o]
  exact ⟨rfl, ⟨rr, er, es, ep, ra, sa, pa, hF.out _, hC.put (by omega) (fun _ _ _ => rfl)⟩, ((FrC.refl h).put (by omega)).put (by omega), fun _ => by rw [hp_s]⟩
theorem c_121 {a b : Nat} (ha : a < 2 ^ 63) (hb : b < 2 ^ 63) : run d 121 0 [.long (lN a), .null, .long (lN b), .null] [] h = some (.inl (some (.long (lN (min a b)))), h) := by
  by_cases q : b < a
  · rw [Nat.min_eq_right (by omega)]
    simp (disch := first | omega | (simp only [nlg_r, nlg_i, nlg_n, ok_0, ok_i, ok_r, ok_l]; done) | assumption | (simp only [List.length_set, List.length_append, List.length_cons, List.length_nil]; omega)) only [r_121_0, r_121_1, r_121_2, r_121_3, r_121_6, r_121_7, r_121_10, r_121_11, aft_v, aft_n, aft_t, gf_0, gf_s, pf_e, tg_e, hp_s, hp_n, hp_2, List.set_cons_zero, List.set_cons_succ, b2i_t, b2i_f, Ret_s, nlg_r, nlg_i, nlg_n, ok_0, ok_i, ok_r, ok_l, zi_e, zi_n, zi_t, Nat.reduceEqDiff, Nat.not_le, Nat.reduceLeDiff, if_true, if_false, eq_self, ↓reduceIte, Nat.reduceLT, Nat.le_refl, nle1, nez1, nez2, lc_gt, q]
  · rw [Nat.min_eq_left (by omega)]
    simp (disch := first | omega | (simp only [nlg_r, nlg_i, nlg_n, ok_0, ok_i, ok_r, ok_l]; done) | assumption | (simp only [List.length_set, List.length_append, List.length_cons, List.length_nil]; omega)) only [r_121_0, r_121_1, r_121_2, r_121_3, r_121_6, r_121_7, r_121_10, r_121_11, aft_v, aft_n, aft_t, gf_0, gf_s, pf_e, tg_e, hp_s, hp_n, hp_2, List.set_cons_zero, List.set_cons_succ, b2i_t, b2i_f, Ret_s, nlg_r, nlg_i, nlg_n, ok_0, ok_i, ok_r, ok_l, zi_e, zi_n, zi_t, Nat.reduceEqDiff, Nat.not_le, Nat.reduceLeDiff, if_true, if_false, eq_self, ↓reduceIte, Nat.reduceLT, Nat.le_refl, nle1, nez1, nez2, lc_gt, q]
set_option maxRecDepth 20000 in
theorem c_65 {A m g r b P : Nat} {ar : Value} {ea : Nat} (hA : 5 ≤ A) (e : h.1 A = (3, [.int (nI m), ar, .int (nI g), .int (nI r), .long (lN ea)])) (hm1 : 1 ≤ m) (hm : m ≤ 200) (hg : g ≤ 100000) (hr : r < 1000) (hb : b ≤ 200) (hP : P ≤ 1000000000) :
    run (d + 1) 65 0 [.ref A, .int (nI b), .long (lN P), .null, .null, .null, .null, .null, .null, .null, .null, .null] [] h = some (.inl (some (.long (lN (gby g b r P m * m)))), hput h A (3, [.int (nI m), ar, .int (nI (g + gby g b r P m)), .int (nI (grs g b r P m)), .long (lN (ea + gby g b r P m * m))])) := by
  have b1 : g * b ≤ 100000 * 200 := Nat.mul_le_mul hg hb
  have bd : P / m ≤ P := Nat.div_le_self _ _
  have bm : ¬ lN m = 0 := by rw [el_r (by omega) (by omega)]; omega
  have bt : ¬ (1000 : Int32) = 0 := by decide
  have cm := c_121 (d := d) (h := h) (a := 100000 - g) (b := P / m) (by omega) (by omega)
  have em : g * b + r - (g * b + r) / 1000 * 1000 = (g * b + r) % 1000 := by omega
  generalize hX : gby g b r P m = X
  generalize hY : grs g b r P m = Y
  have hX' : min (min ((g * b + r) / 1000) (100000 - g)) (P / m) = X := hX
  have hY' : (if X < (g * b + r) / 1000 then 0 else (g * b + r) % 1000) = Y := by rw [← hX]; exact hY
  by_cases q : min (100000 - g) (P / m) < (g * b + r) / 1000
  · have eX : X = min (100000 - g) (P / m) := by omega
    rw [if_pos (by omega)] at hY'
    subst hY'
    rw [← eX] at q cm
    simp (disch := first | omega | (simp only [nlg_r, nlg_i, nlg_n, ok_0, ok_i, ok_r, ok_l]; done) | assumption | (simp only [List.length_set, List.length_append, List.length_cons, List.length_nil]; omega)) only [r_65_0, r_65_1, r_65_4, r_65_5, r_65_6, r_65_7, r_65_10, r_65_11, r_65_13, r_65_15, r_65_18, r_65_19, r_65_21, r_65_23, r_65_24, r_65_27, r_65_28, r_65_29, r_65_30, r_65_31, r_65_34, r_65_35, r_65_36, r_65_39, r_65_41, r_65_43, r_65_44, r_65_46, r_65_47, r_65_50, r_65_51, r_65_54, r_65_55, r_65_57, r_65_59, r_65_62, r_65_64, r_65_67, r_65_69, r_65_70, r_65_72, r_65_73, r_65_75, r_65_78, r_65_80, r_65_83, r_65_84, r_65_87, r_65_88, r_65_91, r_65_92, r_65_93, r_65_96, r_65_98, r_65_99, r_65_102, r_65_104, r_65_105, r_65_106, r_65_109, r_65_110, r_65_111, r_65_113, r_65_114, r_65_115, r_65_118, r_65_120, r_65_121, r_65_124, r_65_126, e, aft_v, aft_n, aft_t, gf_0, gf_s, pf_e, tg_e, hp_s, hp_n, hp_2, List.set_cons_zero, List.set_cons_succ, b2i_t, b2i_f, Ret_s, nlg_r, nlg_i, nlg_n, ok_0, ok_i, ok_r, ok_l, zi_e, zi_n, zi_t, Nat.reduceEqDiff, Nat.not_le, Nat.reduceLeDiff, if_true, if_false, eq_self, ↓reduceIte, Nat.reduceLT, Nat.le_refl, nle1, nez1, nez2, ei_r, ei_l, ni_r, ni_l, ti_r, ti_l, ai_r, ai_l, si_r, si_l, mi_r, mi_l, di_r, nI_eq, nI_leI, nI_ltI, nI_add, pk_sub, pk_mul, pk_div, pk_rem, nI_l, lN_i, el_r, nl_r, tl_r, dl_r, ml_r, al_r, pk_lEQ, pk_lLE, pk_lLT, lN_add, lN_sub, lN_mul, pk_lDiv, pk_lRem, cm, lc_gt, q, hp_p]
    rfl
  · have eX : X = (g * b + r) / 1000 := by omega
    rw [if_neg (by omega)] at hY'
    subst hY' eX
    simp (disch := first | omega | (simp only [nlg_r, nlg_i, nlg_n, ok_0, ok_i, ok_r, ok_l]; done) | assumption | (simp only [List.length_set, List.length_append, List.length_cons, List.length_nil]; omega)) only [r_65_0, r_65_1, r_65_4, r_65_5, r_65_6, r_65_7, r_65_10, r_65_11, r_65_13, r_65_15, r_65_18, r_65_19, r_65_21, r_65_23, r_65_24, r_65_27, r_65_28, r_65_29, r_65_30, r_65_31, r_65_34, r_65_35, r_65_36, r_65_39, r_65_41, r_65_43, r_65_44, r_65_46, r_65_47, r_65_50, r_65_51, r_65_54, r_65_55, r_65_57, r_65_59, r_65_62, r_65_64, r_65_67, r_65_69, r_65_70, r_65_72, r_65_73, r_65_75, r_65_78, r_65_80, r_65_83, r_65_84, r_65_87, r_65_88, r_65_91, r_65_92, r_65_93, r_65_96, r_65_98, r_65_99, r_65_102, r_65_104, r_65_105, r_65_106, r_65_109, r_65_110, r_65_111, r_65_113, r_65_114, r_65_115, r_65_118, r_65_120, r_65_121, r_65_124, r_65_126, e, aft_v, aft_n, aft_t, gf_0, gf_s, pf_e, tg_e, hp_s, hp_n, hp_2, List.set_cons_zero, List.set_cons_succ, b2i_t, b2i_f, Ret_s, nlg_r, nlg_i, nlg_n, ok_0, ok_i, ok_r, ok_l, zi_e, zi_n, zi_t, Nat.reduceEqDiff, Nat.not_le, Nat.reduceLeDiff, if_true, if_false, eq_self, ↓reduceIte, Nat.reduceLT, Nat.le_refl, nle1, nez1, nez2, ei_r, ei_l, ni_r, ni_l, ti_r, ti_l, ai_r, ai_l, si_r, si_l, mi_r, mi_l, di_r, nI_eq, nI_leI, nI_ltI, nI_add, pk_sub, pk_mul, pk_div, pk_rem, nI_l, lN_i, el_r, nl_r, tl_r, dl_r, ml_r, al_r, pk_lEQ, pk_lLE, pk_lLT, lN_add, lN_sub, lN_mul, pk_lDiv, pk_lRem, cm, lc_gt, q, hp_p, em]
theorem c_66 {A m g s : Nat} {ar x3 x4 : Value} (hA : 5 ≤ A) (e : h.1 A = (3, [.int (nI m), ar, .int (nI g), x3, x4])) (hm1 : 1 ≤ m) (hm : m ≤ 200) (hg : g ≤ 100000) (hs : s ≤ 20000000) :
    run (d + 1) 66 0 [.ref A, .int (nI s)] [] h = some (.inl none, if 0 < s ∧ s < m * g then hput h A (3, [.int (nI m), ar, .int (nI (s / m)), x3, x4]) else h) := by
  have b1 : m * g ≤ 200 * 100000 := Nat.mul_le_mul hm hg
  have c7 := c_67 (d := d) e
  have bm : ¬ nI m = 0 := by rw [ei_r (by omega) (by omega)]; omega
  by_cases q1 : s ≤ 0
  · rw [if_neg (by omega)]
    simp (disch := first | omega | (simp only [nlg_r, nlg_i, nlg_n, ok_0, ok_i, ok_r, ok_l]; done) | assumption | (simp only [List.length_set, List.length_append, List.length_cons, List.length_nil]; omega)) only [r_66_0, r_66_1, r_66_4, r_66_5, r_66_8, r_66_9, r_66_12, r_66_13, r_66_14, r_66_15, r_66_18, r_66_19, r_66_22, aft_v, aft_n, aft_t, gf_0, gf_s, pf_e, tg_e, hp_s, hp_n, hp_2, List.set_cons_zero, List.set_cons_succ, b2i_t, b2i_f, Ret_s, nlg_r, nlg_i, nlg_n, ok_0, ok_i, ok_r, ok_l, zi_e, zi_n, zi_t, Nat.reduceEqDiff, Nat.not_le, Nat.reduceLeDiff, if_true, if_false, eq_self, ↓reduceIte, Nat.reduceLT, Nat.le_refl, nle1, nez1, nez2, ei_r, ei_l, ni_r, ni_l, ti_r, ti_l, ai_r, ai_l, si_r, si_l, mi_r, mi_l, di_r, nI_eq, nI_leI, nI_ltI, nI_add, pk_sub, pk_mul, pk_div, pk_rem, nI_l, lN_i, q1]
  · by_cases q2 : m * g ≤ s
    · rw [if_neg (by omega)]
      simp (disch := first | omega | (simp only [nlg_r, nlg_i, nlg_n, ok_0, ok_i, ok_r, ok_l]; done) | assumption | (simp only [List.length_set, List.length_append, List.length_cons, List.length_nil]; omega)) only [r_66_0, r_66_1, r_66_4, r_66_5, r_66_8, r_66_9, r_66_12, r_66_13, r_66_14, r_66_15, r_66_18, r_66_19, r_66_22, e, aft_v, aft_n, aft_t, gf_0, gf_s, pf_e, tg_e, hp_s, hp_n, hp_2, List.set_cons_zero, List.set_cons_succ, b2i_t, b2i_f, Ret_s, nlg_r, nlg_i, nlg_n, ok_0, ok_i, ok_r, ok_l, zi_e, zi_n, zi_t, Nat.reduceEqDiff, Nat.not_le, Nat.reduceLeDiff, if_true, if_false, eq_self, ↓reduceIte, Nat.reduceLT, Nat.le_refl, nle1, nez1, nez2, ei_r, ei_l, ni_r, ni_l, ti_r, ti_l, ai_r, ai_l, si_r, si_l, mi_r, mi_l, di_r, nI_eq, nI_leI, nI_ltI, nI_add, pk_sub, pk_mul, pk_div, pk_rem, nI_l, lN_i, q1, c7, q2]
    · rw [if_pos (by omega)]
      simp (disch := first | omega | (simp only [nlg_r, nlg_i, nlg_n, ok_0, ok_i, ok_r, ok_l]; done) | assumption | (simp only [List.length_set, List.length_append, List.length_cons, List.length_nil]; omega)) only [r_66_0, r_66_1, r_66_4, r_66_5, r_66_8, r_66_9, r_66_12, r_66_13, r_66_14, r_66_15, r_66_18, r_66_19, r_66_22, e, aft_v, aft_n, aft_t, gf_0, gf_s, pf_e, tg_e, hp_s, hp_n, hp_2, List.set_cons_zero, List.set_cons_succ, b2i_t, b2i_f, Ret_s, nlg_r, nlg_i, nlg_n, ok_0, ok_i, ok_r, ok_l, zi_e, zi_n, zi_t, Nat.reduceEqDiff, Nat.not_le, Nat.reduceLeDiff, if_true, if_false, eq_self, ↓reduceIte, Nat.reduceLT, Nat.le_refl, nle1, nez1, nez2, ei_r, ei_l, ni_r, ni_l, ti_r, ti_l, ai_r, ai_l, si_r, si_l, mi_r, mi_l, di_r, nI_eq, nI_leI, nI_ltI, nI_add, pk_sub, pk_mul, pk_div, pk_rem, nI_l, lN_i, q1, c7, q2]
end CI1
