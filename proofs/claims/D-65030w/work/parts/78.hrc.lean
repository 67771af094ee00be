/-! PLAIN LEAN, 39: harvest, changed in the component -/
section CT
variable {σ σ' : AS} {O : List Nat} {d rr er es ep : Nat} {ra sa pa : List Nat} {h h' : MH}
theorem S11.frx {h1 h2 : MH} (S : S11 h h1) (F : FrC h1 h2) : FrC h h2 := by
  obtain ⟨a1, a2, a3, a4⟩ := F
  rw [S.2] at a2 a3 a4
  exact ⟨fun a ha => (a1 a ha).trans (S.1 a (by omega)), a2, a3, a4⟩
theorem w_harvest1 (H : CP σ O h) {r : Int32} (hc : inR r 0 (nI (σ.2 1).length - 1) = false) : Ret (run (d + 5) 7 0 [.ref 5, .int r, .ref 34, .null] [] h) (CR h 1 0 σ O) := by
  obtain ⟨hx1, hx2, hN, h35⟩ := H.x 0
  obtain ⟨rr, er, es, ep, ra, sa, pa, H1, H2⟩ := H
  have hM := H1.1
  have ca := c_atx (d := d) hM H2 hc
  have e : run (d + 4) 37 0 [.ref 5, .int r, .null, .null] [] h = some (.inr h.2.1, hx 0 h) := by
    simp (disch := first | omega | (simp only [nlg_r, nlg_i, nlg_n, ok_0, ok_i, ok_r, ok_l]; done) | assumption | (simp only [List.length_set, List.length_append, List.length_cons, List.length_nil]; omega)) only [r_37_0, r_37_1, r_37_2, r_37_5, r_37_6, r_37_7, r_37_8, r_37_11, r_37_12, r_37_15, r_37_16, r_37_19, r_37_22, r_37_23, r_37_26, r_37_29, r_37_32, r_37_33, r_37_36, r_37_37, r_37_40, r_37_41, r_37_44, r_37_45, r_37_46, r_37_47, r_37_50, r_37_51, hM, c5, ca, aft_v, aft_n, aft_t, gf_0, gf_s, pf_e, tg_e, hp_s, hp_n, hp_2, List.set_cons_zero, List.set_cons_succ, b2i_t, b2i_f, Ret_s, nlg_r, nlg_i, nlg_n, ok_0, ok_i, ok_r, ok_l, zi_e, zi_n, zi_t, Nat.reduceEqDiff, Nat.not_le, Nat.reduceLeDiff, if_true, if_false, eq_self, ↓reduceIte, Nat.reduceLT, Nat.le_refl, nle1, nez1, nez2, thx mh37 (show 0 < 3 by omega)]
  simp (disch := first | omega | (simp only [nlg_r, nlg_i, nlg_n, ok_0, ok_i, ok_r, ok_l]; done) | assumption | (simp only [List.length_set, List.length_append, List.length_cons, List.length_nil]; omega)) only [r_7_0, r_7_1, r_7_2, r_7_3, r_7_4, r_7_7, r_7_8, r_7_9, r_7_12, r_7_13, r_7_14, r_7_15, r_7_16, r_7_17, r_7_18, r_7_19, hM, c5, aft_v, aft_n, aft_t, gf_0, gf_s, pf_e, tg_e, hp_s, hp_n, hp_2, List.set_cons_zero, List.set_cons_succ, b2i_t, b2i_f, Ret_s, nlg_r, nlg_i, nlg_n, ok_0, ok_i, ok_r, ok_l, zi_e, zi_n, zi_t, Nat.reduceEqDiff, Nat.not_le, Nat.reduceLeDiff, if_true, if_false, eq_self, ↓reduceIte, Nat.reduceLT, Nat.le_refl, nle1, nez1, nez2, e, thy mh7o.1]
  exact ⟨rfl, hx1, hx2, fun z => by cases z⟩
set_option maxRecDepth 20000 in
theorem w_harvest2 (H : CP σ O h) (hL : WL σ) (hV : WV σ) (hS : WS σ) (hW : ru σ 3 ≤ 99) (hO : O.length ≤ 60) {k : Nat} (hk : k < (σ.2 1).length) (hon : onD (cls σ O ((σ.2 2).getD k 0) (σ.1 0) (σ.1 0)) (σ.1 0) = true) : Ret (run (d + 5) 7 0 [.ref 5, .int (nI k), .ref 34, .null] [] h) (CR h 2 0 σ O) := by
  obtain ⟨rr, er, es, ep, ra, sa, pa, H1, H2⟩ := H
  have hM := H1.1
  have ca := c_at (d := d) hM H2 hL hk
  obtain ⟨r1, r2, r3⟩ := H2.rop1 hk
  obtain ⟨v1, v2, v3, v4, v5, -⟩ := hV k
  have s1 := hS.1
  obtain ⟨h1, f1, f2, f3⟩ := c_38 (d := d) H1 H2 hL hV hW hO (show (σ.2 2).getD k 0 ≤ 1000 by omega) (show σ.1 0 ≤ 1000 by omega) (show σ.1 0 ≤ 1000 by omega)
  have c52 := c_52 (d := d + 3) f2 (cls_I hV hW O ((σ.2 2).getD k 0) (σ.1 0) (σ.1 0)) (show σ.1 0 ≤ 1000 by omega)
  rw [hon] at c52
  have H1' := H1.s11 f3 f2
  have P : CP σ O h1 := ⟨rr, er, es, ep, ra, sa, pa, H1', H2.s11 f3⟩
  obtain ⟨hx1, hx2, hN, h35⟩ := P.x 2
  have hM' := H1'.1
  simp only [ropC] at r3
  simp only [clC] at f2
  have e : run (d + 4) 37 0 [.ref 5, .int (nI k), .null, .null] [] h = some (.inr h1.2.1, hx 2 h1) := by
    simp (disch := first | omega | (simp only [nlg_r, nlg_i, nlg_n, ok_0, ok_i, ok_r, ok_l]; done) | assumption | (simp only [List.length_set, List.length_append, List.length_cons, List.length_nil]; omega)) only [r_37_0, r_37_1, r_37_2, r_37_5, r_37_6, r_37_7, r_37_8, r_37_11, r_37_12, r_37_15, r_37_16, r_37_19, r_37_22, r_37_23, r_37_26, r_37_29, r_37_32, r_37_33, r_37_36, r_37_37, r_37_40, r_37_41, r_37_44, r_37_45, r_37_46, r_37_47, r_37_50, r_37_51, hM, hM', c5, ca, aft_v, aft_n, aft_t, gf_0, gf_s, pf_e, tg_e, hp_s, hp_n, hp_2, List.set_cons_zero, List.set_cons_succ, b2i_t, b2i_f, Ret_s, nlg_r, nlg_i, nlg_n, ok_0, ok_i, ok_r, ok_l, zi_e, zi_n, zi_t, Nat.reduceEqDiff, Nat.not_le, Nat.reduceLeDiff, if_true, if_false, eq_self, ↓reduceIte, Nat.reduceLT, Nat.le_refl, nle1, nez1, nez2, r3, f1, f2, c52, c_27f, thx mh37 (show 2 < 3 by omega)]
  simp (disch := first | omega | (simp only [nlg_r, nlg_i, nlg_n, ok_0, ok_i, ok_r, ok_l]; done) | assumption | (simp only [List.length_set, List.length_append, List.length_cons, List.length_nil]; omega)) only [r_7_0, r_7_1, r_7_2, r_7_3, r_7_4, r_7_7, r_7_8, r_7_9, r_7_12, r_7_13, r_7_14, r_7_15, r_7_16, r_7_17, r_7_18, r_7_19, hM, c5, aft_v, aft_n, aft_t, gf_0, gf_s, pf_e, tg_e, hp_s, hp_n, hp_2, List.set_cons_zero, List.set_cons_succ, b2i_t, b2i_f, Ret_s, nlg_r, nlg_i, nlg_n, ok_0, ok_i, ok_r, ok_l, zi_e, zi_n, zi_t, Nat.reduceEqDiff, Nat.not_le, Nat.reduceLeDiff, if_true, if_false, eq_self, ↓reduceIte, Nat.reduceLT, Nat.le_refl, nle1, nez1, nez2, e, thy mh7o.2]
  exact ⟨rfl, hx1, f3.frx hx2, fun z => by cases z⟩
set_option maxRecDepth 20000 in
theorem w_harvest (H : CP σ O h) (hL : WL σ) (hV : WV σ) (hS : WS σ) (hW : ru σ 3 ≤ 99) (hO : O.length ≤ 60) {k : Nat} (hk : k < (σ.2 1).length) (hon : onD (cls σ O ((σ.2 2).getD k 0) (σ.1 0) (σ.1 0)) (σ.1 0) = false) : Ret (run (d + 5) 7 0 [.ref 5, .int (nI k), .ref 34, .null] [] h) (CR h 0 (nI ((σ.2 1).getD k 0 * (σ.2 3).getD k 0)).toInt64 (uc (uc σ 3 ((σ.2 3).set k 0)) 4 ((σ.2 4).set k 0)) O) := by
  obtain ⟨rr, er, es, ep, ra, sa, pa, H1, H2⟩ := H
  have hM := H1.1
  have ca := c_at (d := d) hM H2 hL hk
  obtain ⟨r1, r2, r3⟩ := H2.rop1 hk
  obtain ⟨v1, v2, v3, v4, v5, -⟩ := hV k
  have s1 := hS.1
  have l3 := hL.2.2.1
  have l4 := hL.2.2.2.1
  obtain ⟨h1, f1, f2, f3⟩ := c_38 (d := d) H1 H2 hL hV hW hO (show (σ.2 2).getD k 0 ≤ 1000 by omega) (show σ.1 0 ≤ 1000 by omega) (show σ.1 0 ≤ 1000 by omega)
  have c52 := c_52 (d := d + 3) f2 (cls_I hV hW O ((σ.2 2).getD k 0) (σ.1 0) (σ.1 0)) (show σ.1 0 ≤ 1000 by omega)
  rw [hon] at c52
  have H1' := H1.s11 f3 f2
  have H2' := H2.s11 f3
  have P : CP σ O h1 := ⟨rr, er, es, ep, ra, sa, pa, H1', H2'⟩
  obtain ⟨x, ho⟩ := P.o
  have hM' := H1'.1
  obtain ⟨-, -, r3'⟩ := H2'.rop1 hk
  have eR : ropC (uc (uc σ 3 ((σ.2 3).set k 0)) 4 ((σ.2 4).set k 0)) k = (3, [.int (nI ((σ.2 1).getD k 0)), .int (nI ((σ.2 2).getD k 0)), .int 0, .int 0, .long (lN ((σ.2 5).getD k 0))]) := by
    simp only [ropC, uc_2, Nat.reduceEqDiff, if_true, if_false]
    rw [gsame (by omega), gsame (by omega)]
    rfl
  have hC := H2'.rput (σ' := uc (uc σ 3 ((σ.2 3).set k 0)) 4 ((σ.2 4).set k 0)) hk rfl (fun j hj => by simp only [ropC, uc_2, Nat.reduceEqDiff, if_true, if_false]; rw [gD_ne hj, gD_ne hj]) (fun j q1 q2 => by rw [uc_2, uc_2, if_neg (by omega), if_neg (by omega)])
  have hF := H1'.rput (σ' := uc (uc σ 3 ((σ.2 3).set k 0)) 4 ((σ.2 4).set k 0)) (o := ropC (uc (uc σ 3 ((σ.2 3).set k 0)) 4 ((σ.2 4).set k 0)) k) r1 ⟨_, r3'⟩ rfl (fun j q1 q2 => by rw [uc_2, uc_2, if_neg (by omega), if_neg (by omega)])
  rw [eR] at hC hF
  simp only [ropC] at r3 r3'
  simp only [clC] at f2
  generalize hra : ra.getD k 0 = A at *
  have c8 := c_68 (d := d + 3) (v := 0) (show 5 ≤ A by omega) r3'
  have c7 := c_67 (d := d + 3) r3'
  rw [hp_p] at c8
  have e : run (d + 4) 37 0 [.ref 5, .int (nI k), .null, .null] [] h = some (.inl (some (.int (nI ((σ.2 1).getD k 0 * (σ.2 3).getD k 0)))), hput h1 A (3, [.int (nI ((σ.2 1).getD k 0)), .int (nI ((σ.2 2).getD k 0)), .int 0, .int 0, .long (lN ((σ.2 5).getD k 0))])) := by
    simp (disch := first | omega | (simp only [nlg_r, nlg_i, nlg_n, ok_0, ok_i, ok_r, ok_l]; done) | assumption | (simp only [List.length_set, List.length_append, List.length_cons, List.length_nil]; omega)) only [r_37_0, r_37_1, r_37_2, r_37_5, r_37_6, r_37_7, r_37_8, r_37_11, r_37_12, r_37_15, r_37_16, r_37_19, r_37_22, r_37_23, r_37_26, r_37_29, r_37_32, r_37_33, r_37_36, r_37_37, r_37_40, r_37_41, r_37_44, r_37_45, r_37_46, r_37_47, r_37_50, r_37_51, hM, hM', c5, ca, aft_v, aft_n, aft_t, gf_0, gf_s, pf_e, tg_e, hp_s, hp_n, hp_2, List.set_cons_zero, List.set_cons_succ, b2i_t, b2i_f, Ret_s, nlg_r, nlg_i, nlg_n, ok_0, ok_i, ok_r, ok_l, zi_e, zi_n, zi_t, Nat.reduceEqDiff, Nat.not_le, Nat.reduceLeDiff, if_true, if_false, eq_self, ↓reduceIte, Nat.reduceLT, Nat.le_refl, nle1, nez1, nez2, r3, r3', f1, f2, c52, c_27t, c7, c8]
  simp (disch := first | omega | (simp only [nlg_r, nlg_i, nlg_n, ok_0, ok_i, ok_r, ok_l]; done) | assumption | (simp only [List.length_set, List.length_append, List.length_cons, List.length_nil]; omega)) only [r_7_0, r_7_1, r_7_2, r_7_3, r_7_4, r_7_7, r_7_8, r_7_9, r_7_12, r_7_13, r_7_14, r_7_15, r_7_16, r_7_17, r_7_18, r_7_19, hM, c5, aft_v, aft_n, aft_t, gf_0, gf_s, pf_e, tg_e, hp_s, hp_n, hp_2, List.set_cons_zero, List.set_cons_succ, b2i_t, b2i_f, Ret_s, nlg_r, nlg_i, nlg_n, ok_0, ok_i, ok_r, ok_l, zi_e, zi_n, zi_t, Nat.reduceEqDiff, Nat.not_le, Nat.reduceLeDiff, if_true, if_false, eq_self, ↓reduceIte, Nat.reduceLT, Nat.le_refl, nle1, nez1, nez2, e, ho, as_o]
  exact ⟨rfl, ⟨rr, er, es, ep, ra, sa, pa, hF.out _, hC.put (by omega) (fun _ _ _ => rfl)⟩, (f3.fr.put (by omega)).put (by omega), fun _ => by rw [hp_s]⟩
theorem w_changed1 (H : CP σ O h) {a : Int32} (hc : inR a 0 3 = false) : Ret (run (d + 4) 11 0 [.ref 5, .int a, .ref 34, .null] [] h) (CR h 1 0 σ O) := by
  obtain ⟨hx1, hx2, hN, h35⟩ := H.x 0
  obtain ⟨rr, hM⟩ := H.c5
  have e : run (d + 3) 42 0 [.ref 5, .int a, .null, .null, .null] [] h = some (.inr h.2.1, hx 0 h) := by
    simp (disch := first | omega | (simp only [nlg_r, nlg_i, nlg_n, ok_0, ok_i, ok_r, ok_l]; done) | assumption | (simp only [List.length_set, List.length_append, List.length_cons, List.length_nil]; omega)) only [r_42_0, r_42_1, r_42_4, r_42_7, r_42_8, r_42_9, r_42_10, r_42_11, r_42_12, r_42_13, r_42_16, r_42_19, r_42_20, r_42_21, r_42_22, r_42_23, r_42_26, r_42_29, r_42_30, r_42_33, r_42_35, r_42_36, r_42_38, r_42_39, r_42_40, r_42_41, r_42_42, r_42_45, r_42_46, r_42_49, r_42_52, r_42_53, r_42_56, r_42_57, r_42_58, r_42_59, r_42_62, r_42_65, r_42_66, c_24, hc, c_25f, aft_v, aft_n, aft_t, gf_0, gf_s, pf_e, tg_e, hp_s, hp_n, hp_2, List.set_cons_zero, List.set_cons_succ, b2i_t, b2i_f, Ret_s, nlg_r, nlg_i, nlg_n, ok_0, ok_i, ok_r, ok_l, zi_e, zi_n, zi_t, Nat.reduceEqDiff, Nat.not_le, Nat.reduceLeDiff, if_true, if_false, eq_self, ↓reduceIte, Nat.reduceLT, Nat.le_refl, nle1, nez1, nez2, thx mh42 (show 0 < 3 by omega)]
  simp (disch := first | omega | (simp only [nlg_r, nlg_i, nlg_n, ok_0, ok_i, ok_r, ok_l]; done) | assumption | (simp only [List.length_set, List.length_append, List.length_cons, List.length_nil]; omega)) only [r_11_0, r_11_1, r_11_2, r_11_3, r_11_4, r_11_7, r_11_8, r_11_9, r_11_12, r_11_13, r_11_14, r_11_15, r_11_16, hM, c5, aft_v, aft_n, aft_t, gf_0, gf_s, pf_e, tg_e, hp_s, hp_n, hp_2, List.set_cons_zero, List.set_cons_succ, b2i_t, b2i_f, Ret_s, nlg_r, nlg_i, nlg_n, ok_0, ok_i, ok_r, ok_l, zi_e, zi_n, zi_t, Nat.reduceEqDiff, Nat.not_le, Nat.reduceLeDiff, if_true, if_false, eq_self, ↓reduceIte, Nat.reduceLT, Nat.le_refl, nle1, nez1, nez2, e, thy mh11o]
  exact ⟨rfl, hx1, hx2, fun z => by cases z⟩
set_option maxRecDepth 20000 in
/-- one day of changed -/
theorem c_42s {v0 v1 v2 v3 : Value} (hL : WL σ) (hV : WV σ) (hS : WS σ) (hW : ru σ 3 ≤ 99) (hO : O.length ≤ 60) {a j : Nat} (ha : a ≤ 3) (hj : j ≤ σ.1 0) (H1 : CF σ rr h) (H2 : CL σ O er es ep ra sa pa h) {z : Value} :
    ∃ h' z' w0 w1 w2 w3, run (d + 4) 42 11 [.ref 5, .int (nI a), .int (nI (chg σ O a j)), .int (nI j), z] [] h = run (d + 4) 42 11 [.ref 5, .int (nI a), .int (nI (chg σ O a (j + 1))), .int (nI (j + 1)), z'] [] h' ∧ h'.1 11 = (2, [w0, w1, w2, w3]) ∧ S11 h h' := by
  have hM := H1.1
  have s1 := hS.1
  have cl := chg_le σ O a j
  obtain ⟨h1, f1, f2, f3⟩ := c_38 (d := d) H1 H2 hL hV hW hO (show a ≤ 1000 by omega) (show j ≤ 1000 by omega) (show σ.1 0 ≤ 1000 by omega)
  have c52 := c_52 (d := d + 3) f2 (cls_I hV hW O a j (σ.1 0)) (show j ≤ 1000 by omega)
  have H1' := H1.s11 f3 f2
  have H2' := H2.s11 f3
  have hM' := H1'.1
  obtain ⟨h2, g1, g2, g3⟩ := c_38 (d := d) H1' H2' hL hV hW hO (show a ≤ 1000 by omega) (show j ≤ 1000 by omega) (show j ≤ 1000 by omega)
  have c53 := c_52 (d := d + 3) g2 (cls_I hV hW O a j j) (show j ≤ 1000 by omega)
  have g2' := g2
  simp only [clC] at f2 g2'
  have q : ¬ σ.1 0 < j := by omega
  cases x1 : onD (cls σ O a j (σ.1 0)) j <;> cases x2 : onD (cls σ O a j j) j <;> rw [x1] at c52 <;> rw [x2] at c53
  · have ec : chg σ O a (j + 1) = chg σ O a j := by simp [chg, x1, x2]
    rw [ec]
    refine ⟨h2, .int 0, _, _, _, _, ?_, g2', f3.trans g3⟩
    conv => lhs; rw [r_42_11]
    simp (disch := first | omega | (simp only [nlg_r, nlg_i, nlg_n, ok_0, ok_i, ok_r, ok_l]; done) | assumption | (simp only [List.length_set, List.length_append, List.length_cons, List.length_nil]; omega)) only [r_42_12, r_42_13, r_42_16, r_42_19, r_42_20, r_42_21, r_42_22, r_42_23, r_42_26, r_42_29, r_42_30, r_42_33, r_42_35, r_42_36, r_42_38, r_42_39, r_42_40, r_42_41, r_42_42, r_42_45, r_42_46, r_42_49, r_42_52, r_42_53, r_42_56, r_42_57, r_42_58, r_42_59, r_42_62, hM, hM', c5, aft_v, aft_n, aft_t, gf_0, gf_s, pf_e, tg_e, hp_s, hp_n, hp_2, List.set_cons_zero, List.set_cons_succ, b2i_t, b2i_f, Ret_s, nlg_r, nlg_i, nlg_n, ok_0, ok_i, ok_r, ok_l, zi_e, zi_n, zi_t, Nat.reduceEqDiff, Nat.not_le, Nat.reduceLeDiff, if_true, if_false, eq_self, ↓reduceIte, Nat.reduceLT, Nat.le_refl, nle1, nez1, nez2, ei_r, ei_l, ni_r, ni_l, ti_r, ti_l, ai_r, ai_l, si_r, si_l, mi_r, mi_l, di_r, nI_eq, nI_leI, nI_ltI, nI_add, pk_sub, pk_mul, pk_div, pk_rem, nI_l, lN_i, q, f1, f2, g1, g2', c52, c53, Nat.add_zero]
  · have ec : chg σ O a (j + 1) = chg σ O a j + 1 := by simp [chg, x1, x2]
    rw [ec]
    refine ⟨h2, .int 0, _, _, _, _, ?_, g2', f3.trans g3⟩
    conv => lhs; rw [r_42_11]
    simp (disch := first | omega | (simp only [nlg_r, nlg_i, nlg_n, ok_0, ok_i, ok_r, ok_l]; done) | assumption | (simp only [List.length_set, List.length_append, List.length_cons, List.length_nil]; omega)) only [r_42_12, r_42_13, r_42_16, r_42_19, r_42_20, r_42_21, r_42_22, r_42_23, r_42_26, r_42_29, r_42_30, r_42_33, r_42_35, r_42_36, r_42_38, r_42_39, r_42_40, r_42_41, r_42_42, r_42_45, r_42_46, r_42_49, r_42_52, r_42_53, r_42_56, r_42_57, r_42_58, r_42_59, r_42_62, hM, hM', c5, aft_v, aft_n, aft_t, gf_0, gf_s, pf_e, tg_e, hp_s, hp_n, hp_2, List.set_cons_zero, List.set_cons_succ, b2i_t, b2i_f, Ret_s, nlg_r, nlg_i, nlg_n, ok_0, ok_i, ok_r, ok_l, zi_e, zi_n, zi_t, Nat.reduceEqDiff, Nat.not_le, Nat.reduceLeDiff, if_true, if_false, eq_self, ↓reduceIte, Nat.reduceLT, Nat.le_refl, nle1, nez1, nez2, ei_r, ei_l, ni_r, ni_l, ti_r, ti_l, ai_r, ai_l, si_r, si_l, mi_r, mi_l, di_r, nI_eq, nI_leI, nI_ltI, nI_add, pk_sub, pk_mul, pk_div, pk_rem, nI_l, lN_i, q, f1, f2, g1, g2', c52, c53, Nat.add_zero]
  · have ec : chg σ O a (j + 1) = chg σ O a j + 1 := by simp [chg, x1, x2]
    rw [ec]
    refine ⟨h2, .int 1, _, _, _, _, ?_, g2', f3.trans g3⟩
    conv => lhs; rw [r_42_11]
    simp (disch := first | omega | (simp only [nlg_r, nlg_i, nlg_n, ok_0, ok_i, ok_r, ok_l]; done) | assumption | (simp only [List.length_set, List.length_append, List.length_cons, List.length_nil]; omega)) only [r_42_12, r_42_13, r_42_16, r_42_19, r_42_20, r_42_21, r_42_22, r_42_23, r_42_26, r_42_29, r_42_30, r_42_33, r_42_35, r_42_36, r_42_38, r_42_39, r_42_40, r_42_41, r_42_42, r_42_45, r_42_46, r_42_49, r_42_52, r_42_53, r_42_56, r_42_57, r_42_58, r_42_59, r_42_62, hM, hM', c5, aft_v, aft_n, aft_t, gf_0, gf_s, pf_e, tg_e, hp_s, hp_n, hp_2, List.set_cons_zero, List.set_cons_succ, b2i_t, b2i_f, Ret_s, nlg_r, nlg_i, nlg_n, ok_0, ok_i, ok_r, ok_l, zi_e, zi_n, zi_t, Nat.reduceEqDiff, Nat.not_le, Nat.reduceLeDiff, if_true, if_false, eq_self, ↓reduceIte, Nat.reduceLT, Nat.le_refl, nle1, nez1, nez2, ei_r, ei_l, ni_r, ni_l, ti_r, ti_l, ai_r, ai_l, si_r, si_l, mi_r, mi_l, di_r, nI_eq, nI_leI, nI_ltI, nI_add, pk_sub, pk_mul, pk_div, pk_rem, nI_l, lN_i, q, f1, f2, g1, g2', c52, c53, Nat.add_zero]
  · have ec : chg σ O a (j + 1) = chg σ O a j := by simp [chg, x1, x2]
    rw [ec]
    refine ⟨h2, .int 1, _, _, _, _, ?_, g2', f3.trans g3⟩
    conv => lhs; rw [r_42_11]
    simp (disch := first | omega | (simp only [nlg_r, nlg_i, nlg_n, ok_0, ok_i, ok_r, ok_l]; done) | assumption | (simp only [List.length_set, List.length_append, List.length_cons, List.length_nil]; omega)) only [r_42_12, r_42_13, r_42_16, r_42_19, r_42_20, r_42_21, r_42_22, r_42_23, r_42_26, r_42_29, r_42_30, r_42_33, r_42_35, r_42_36, r_42_38, r_42_39, r_42_40, r_42_41, r_42_42, r_42_45, r_42_46, r_42_49, r_42_52, r_42_53, r_42_56, r_42_57, r_42_58, r_42_59, r_42_62, hM, hM', c5, aft_v, aft_n, aft_t, gf_0, gf_s, pf_e, tg_e, hp_s, hp_n, hp_2, List.set_cons_zero, List.set_cons_succ, b2i_t, b2i_f, Ret_s, nlg_r, nlg_i, nlg_n, ok_0, ok_i, ok_r, ok_l, zi_e, zi_n, zi_t, Nat.reduceEqDiff, Nat.not_le, Nat.reduceLeDiff, if_true, if_false, eq_self, ↓reduceIte, Nat.reduceLT, Nat.le_refl, nle1, nez1, nez2, ei_r, ei_l, ni_r, ni_l, ti_r, ti_l, ai_r, ai_l, si_r, si_l, mi_r, mi_l, di_r, nI_eq, nI_leI, nI_ltI, nI_add, pk_sub, pk_mul, pk_div, pk_rem, nI_l, lN_i, q, f1, f2, g1, g2', c52, c53, Nat.add_zero]
theorem c_42l (hL : WL σ) (hV : WV σ) (hS : WS σ) (hW : ru σ 3 ≤ 99) (hO : O.length ≤ 60) {a : Nat} (ha : a ≤ 3) : ∀ (m j : Nat) (h : MH) (z : Value), j + m = σ.1 0 + 1 → CF σ rr h → CL σ O er es ep ra sa pa h →
    ∃ h' z', run (d + 4) 42 11 [.ref 5, .int (nI a), .int (nI (chg σ O a j)), .int (nI j), z] [] h = run (d + 4) 42 11 [.ref 5, .int (nI a), .int (nI (chg σ O a (σ.1 0 + 1))), .int (nI (σ.1 0 + 1)), z'] [] h' ∧ CF σ rr h' ∧ CL σ O er es ep ra sa pa h' ∧ S11 h h' := by
  intro m
  induction m with
  | zero =>
    intro j h z hj H1 H2
    have hj : j = σ.1 0 + 1 := by omega
    subst hj
    exact ⟨h, z, rfl, H1, H2, fun _ _ => rfl, rfl⟩
  | succ m ih =>
    intro j h z hj H1 H2
    obtain ⟨h1, z1, w0, w1, w2, w3, e1, e2, e3⟩ := c_42s (d := d) (v0 := .null) (v1 := .null) (v2 := .null) (v3 := .null) hL hV hS hW hO (a := a) (j := j) ha (by omega) H1 H2 (z := z)
    obtain ⟨h', z', f1, f2, f3, f4⟩ := ih (j + 1) h1 z1 (by omega) (H1.s11 e3 e2) (H2.s11 e3)
    exact ⟨h', z', by rw [e1, f1], f2, f3, e3.trans f4⟩
set_option maxRecDepth 20000 in
theorem w_changed (H : CP σ O h) (hL : WL σ) (hV : WV σ) (hS : WS σ) (hW : ru σ 3 ≤ 99) (hO : O.length ≤ 60) {a : Nat} (ha : a ≤ 3) : Ret (run (d + 5) 11 0 [.ref 5, .int (nI a), .ref 34, .null] [] h) (CR h 0 (nI (chg σ O a (σ.1 0 + 1))).toInt64 σ O) := by
  obtain ⟨rr, er, es, ep, ra, sa, pa, H1, H2⟩ := H
  have hM := H1.1
  have s1 := hS.1
  have e1 : inR (nI a) 0 3 = true := inR_nI (lo := 0) (hi := 3) (by omega) ha (by omega)
  obtain ⟨h', z', f1, f2, f3, f4⟩ := c_42l (d := d) hL hV hS hW hO ha (σ.1 0 + 1) 0 h .null (by omega) H1 H2
  have P : CP σ O h' := ⟨rr, er, es, ep, ra, sa, pa, f2, f3⟩
  obtain ⟨x, ho⟩ := P.o
  have hM' := f2.1
  simp only [show nI 0 = 0 from rfl, chg] at f1
  have cl := chg_le σ O a (σ.1 0 + 1)
  have eR : run (d + 4) 42 0 [.ref 5, .int (nI a), .null, .null, .null] [] h = some (.inl (some (.int (nI (chg σ O a (σ.1 0 + 1))))), h') := by
    have e0 : run (d + 4) 42 0 [.ref 5, .int (nI a), .null, .null, .null] [] h = run (d + 4) 42 11 [.ref 5, .int (nI a), .int 0, .int 0, .null] [] h := by
      simp (disch := first | omega | (simp only [nlg_r, nlg_i, nlg_n, ok_0, ok_i, ok_r, ok_l]; done) | assumption | (simp only [List.length_set, List.length_append, List.length_cons, List.length_nil]; omega)) only [r_42_0, r_42_1, r_42_4, r_42_7, r_42_8, r_42_9, r_42_10, c_24, e1, c_25t, aft_v, aft_n, aft_t, gf_0, gf_s, pf_e, tg_e, hp_s, hp_n, hp_2, List.set_cons_zero, List.set_cons_succ, b2i_t, b2i_f, Ret_s, nlg_r, nlg_i, nlg_n, ok_0, ok_i, ok_r, ok_l, zi_e, zi_n, zi_t, Nat.reduceEqDiff, Nat.not_le, Nat.reduceLeDiff, if_true, if_false, eq_self, ↓reduceIte, Nat.reduceLT, Nat.le_refl, nle1, nez1, nez2]
    rw [e0, f1, r_42_11]
    have q : σ.1 0 < σ.1 0 + 1 := by omega
    simp (disch := first | omega | (simp only [nlg_r, nlg_i, nlg_n, ok_0, ok_i, ok_r, ok_l]; done) | assumption | (simp only [List.length_set, List.length_append, List.length_cons, List.length_nil]; omega)) only [r_42_12, r_42_13, r_42_16, r_42_19, r_42_20, r_42_21, r_42_22, r_42_23, r_42_26, r_42_29, r_42_30, r_42_33, r_42_35, r_42_36, r_42_38, r_42_39, r_42_40, r_42_41, r_42_42, r_42_45, r_42_46, r_42_49, r_42_52, r_42_53, r_42_56, r_42_57, r_42_58, r_42_59, r_42_62, r_42_65, r_42_66, hM', c5, aft_v, aft_n, aft_t, gf_0, gf_s, pf_e, tg_e, hp_s, hp_n, hp_2, List.set_cons_zero, List.set_cons_succ, b2i_t, b2i_f, Ret_s, nlg_r, nlg_i, nlg_n, ok_0, ok_i, ok_r, ok_l, zi_e, zi_n, zi_t, Nat.reduceEqDiff, Nat.not_le, Nat.reduceLeDiff, if_true, if_false, eq_self, ↓reduceIte, Nat.reduceLT, Nat.le_refl, nle1, nez1, nez2, ei_r, ei_l, ni_r, ni_l, ti_r, ti_l, ai_r, ai_l, si_r, si_l, mi_r, mi_l, di_r, nI_eq, nI_leI, nI_ltI, nI_add, pk_sub, pk_mul, pk_div, pk_rem, nI_l, lN_i, q, chg]
  simp (disch := first | omega | (simp only [nlg_r, nlg_i, nlg_n, ok_0, ok_i, ok_r, ok_l]; done) | assumption | (simp only [List.length_set, List.length_append, List.length_cons, List.length_nil]; omega)) only [r_11_0, r_11_1, r_11_2, r_11_3, r_11_4, r_11_7, r_11_8, r_11_9, r_11_12, r_11_13, r_11_14, r_11_15, r_11_16, hM, c5, aft_v, aft_n, aft_t, gf_0, gf_s, pf_e, tg_e, hp_s, hp_n, hp_2, List.set_cons_zero, List.set_cons_succ, b2i_t, b2i_f, Ret_s, nlg_r, nlg_i, nlg_n, ok_0, ok_i, ok_r, ok_l, zi_e, zi_n, zi_t, Nat.reduceEqDiff, Nat.not_le, Nat.reduceLeDiff, if_true, if_false, eq_self, ↓reduceIte, Nat.reduceLT, Nat.le_refl, nle1, nez1, nez2, eR, ho, as_o]
  exact ⟨rfl, P.out _, f4.fr.put (by omega), fun _ => by rw [hp_s]⟩
end CT
