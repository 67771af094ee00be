/-! PLAIN LEAN, 46: odds in the component, its wrapper -/
theorem mh13o : hnd 13 9 (40 + 0) = some (some 16) ∧ hnd 13 9 (40 + 1) = some (some 20) := by decide +kernel
section CZ
variable {σ σ' : AS} {O : List Nat} {d er es ep : Nat} {ra sa pa : List Nat} {h h' : MH}
theorem w_odds1 (H : CP σ O h) (hL : WL σ) {p x b pt : Int32} (hc : (inR p 0 (nI (σ.2 10).length - 1) && inR pt 0 1) = false) : Ret (run (d + 4) 13 0 [.ref 5, .int p, .int x, .int b, .int pt, .ref 34, .null] [] h) (CR h 1 0 σ O) := by
  obtain ⟨hx1, hx2, hN, h35⟩ := H.x 0
  obtain ⟨rr, er, es, ep, ra, sa, pa, H1, H2⟩ := H
  have z8 := l_size (d := d + 2) H2.2.2.2.2.1
  have n3 := H2.2.2.2.2.2.2.2.2.2.2.2.2.2.1
  rw [n3] at z8
  obtain ⟨m6, c6, f8, -⟩ := H2.2.2.2.2.1
  have hM := H1.1
  have e : run (d + 3) 44 0 [.ref 5, .int p, .int x, .int b, .int pt] [] h = some (.inr h.2.1, hx 0 h) := by
    cases e1 : inR p 0 (nI (σ.2 10).length - 1) <;> cases e2 : inR pt 0 1 <;> simp only [e1, e2, Bool.and_self, Bool.and_false, Bool.false_and, reduceCtorEq] at hc
    all_goals simp (disch := first | omega | (simp only [nlg_r, nlg_i, nlg_n, ok_0, ok_i, ok_r, ok_l]; done) | assumption | (simp only [List.length_set, List.length_append, List.length_cons, List.length_nil]; omega)) only [r_44_0, r_44_1, r_44_2, r_44_3, r_44_6, r_44_9, r_44_10, r_44_11, r_44_14, r_44_17, r_44_19, r_44_20, r_44_21, r_44_24, r_44_27, r_44_28, r_44_31, r_44_32, r_44_35, r_44_36, r_44_37, r_44_39, r_44_42, r_44_45, r_44_46, r_44_47, r_44_48, r_44_51, r_44_54, r_44_55, r_44_58, r_44_59, r_44_62, r_44_63, r_44_66, r_44_67, r_44_70, r_44_73, r_44_74, r_44_75, r_44_77, r_44_80, hM, c5, c_21, e1, e2, c_25f, aft_v, aft_n, aft_t, gf_0, gf_s, pf_e, tg_e, hp_s, hp_n, hp_2, List.set_cons_zero, List.set_cons_succ, b2i_t, b2i_f, Ret_s, nlg_r, nlg_i, nlg_n, ok_0, ok_i, ok_r, ok_l, zi_e, zi_n, zi_t, Nat.reduceEqDiff, Nat.not_le, Nat.reduceLeDiff, if_true, if_false, eq_self, ↓reduceIte, Nat.reduceLT, Nat.le_refl, nle1, nez1, nez2, f8, z8, thx mh44 (show 0 < 3 by omega)]
  simp (disch := first | omega | (simp only [nlg_r, nlg_i, nlg_n, ok_0, ok_i, ok_r, ok_l]; done) | assumption | (simp only [List.length_set, List.length_append, List.length_cons, List.length_nil]; omega)) only [r_13_0, r_13_2, r_13_3, r_13_4, r_13_5, r_13_6, r_13_7, r_13_9, r_13_12, r_13_13, r_13_16, r_13_18, r_13_19, r_13_20, r_13_22, r_13_23, r_13_24, r_13_25, hM, c5, aft_v, aft_n, aft_t, gf_0, gf_s, pf_e, tg_e, hp_s, hp_n, hp_2, List.set_cons_zero, List.set_cons_succ, b2i_t, b2i_f, Ret_s, nlg_r, nlg_i, nlg_n, ok_0, ok_i, ok_r, ok_l, zi_e, zi_n, zi_t, Nat.reduceEqDiff, Nat.not_le, Nat.reduceLeDiff, if_true, if_false, eq_self, ↓reduceIte, Nat.reduceLT, Nat.le_refl, nle1, nez1, nez2, e, thy mh13o.1]
  exact ⟨rfl, hx1, hx2, fun z => by cases z⟩
theorem w_odds2 (H : CP σ O h) (hL : WL σ) {p x b pt : Int32} (h1 : (inR p 0 (nI (σ.2 10).length - 1) && inR pt 0 1) = true) (hc : (inR b 1 20 && inR x 0 b) = false) : Ret (run (d + 4) 13 0 [.ref 5, .int p, .int x, .int b, .int pt, .ref 34, .null] [] h) (CR h 2 0 σ O) := by
  obtain ⟨hx1, hx2, hN, h35⟩ := H.x 1
  obtain ⟨rr, er, es, ep, ra, sa, pa, H1, H2⟩ := H
  have z8 := l_size (d := d + 2) H2.2.2.2.2.1
  have n3 := H2.2.2.2.2.2.2.2.2.2.2.2.2.2.1
  rw [n3] at z8
  obtain ⟨m6, c6, f8, -⟩ := H2.2.2.2.2.1
  have hM := H1.1
  simp only [Bool.and_eq_true] at h1
  have e : run (d + 3) 44 0 [.ref 5, .int p, .int x, .int b, .int pt] [] h = some (.inr h.2.1, hx 1 h) := by
    cases e1 : inR b 1 20 <;> cases e2 : inR x 0 b <;> simp only [e1, e2, Bool.and_self, Bool.and_false, Bool.false_and, reduceCtorEq] at hc
    all_goals simp (disch := first | omega | (simp only [nlg_r, nlg_i, nlg_n, ok_0, ok_i, ok_r, ok_l]; done) | assumption | (simp only [List.length_set, List.length_append, List.length_cons, List.length_nil]; omega)) only [r_44_0, r_44_1, r_44_2, r_44_3, r_44_6, r_44_9, r_44_10, r_44_11, r_44_14, r_44_17, r_44_19, r_44_20, r_44_21, r_44_24, r_44_27, r_44_28, r_44_31, r_44_32, r_44_35, r_44_36, r_44_37, r_44_39, r_44_42, r_44_45, r_44_46, r_44_47, r_44_48, r_44_51, r_44_54, r_44_55, r_44_58, r_44_59, r_44_62, r_44_63, r_44_66, r_44_67, r_44_70, r_44_73, r_44_74, r_44_75, r_44_77, r_44_80, hM, c5, c_21, h1.1, h1.2, e1, e2, c_25t, c_26f, aft_v, aft_n, aft_t, gf_0, gf_s, pf_e, tg_e, hp_s, hp_n, hp_2, List.set_cons_zero, List.set_cons_succ, b2i_t, b2i_f, Ret_s, nlg_r, nlg_i, nlg_n, ok_0, ok_i, ok_r, ok_l, zi_e, zi_n, zi_t, Nat.reduceEqDiff, Nat.not_le, Nat.reduceLeDiff, if_true, if_false, eq_self, ↓reduceIte, Nat.reduceLT, Nat.le_refl, nle1, nez1, nez2, f8, z8, thx mh44 (show 1 < 3 by omega)]
  simp (disch := first | omega | (simp only [nlg_r, nlg_i, nlg_n, ok_0, ok_i, ok_r, ok_l]; done) | assumption | (simp only [List.length_set, List.length_append, List.length_cons, List.length_nil]; omega)) only [r_13_0, r_13_2, r_13_3, r_13_4, r_13_5, r_13_6, r_13_7, r_13_9, r_13_12, r_13_13, r_13_16, r_13_18, r_13_19, r_13_20, r_13_22, r_13_23, r_13_24, r_13_25, hM, c5, aft_v, aft_n, aft_t, gf_0, gf_s, pf_e, tg_e, hp_s, hp_n, hp_2, List.set_cons_zero, List.set_cons_succ, b2i_t, b2i_f, Ret_s, nlg_r, nlg_i, nlg_n, ok_0, ok_i, ok_r, ok_l, zi_e, zi_n, zi_t, Nat.reduceEqDiff, Nat.not_le, Nat.reduceLeDiff, if_true, if_false, eq_self, ↓reduceIte, Nat.reduceLT, Nat.le_refl, nle1, nez1, nez2, e, thy mh13o.2]
  exact ⟨rfl, hx1, hx2, fun z => by cases z⟩
theorem w_odds (H : CP σ O h) (hL : WL σ) (hV : WV σ) {p x b pt : Nat} (hp : p < (σ.2 10).length) (hpt : pt ≤ 1) (hb1 : 1 ≤ b) (hb : b ≤ 20) (hx : x ≤ b) : Ret (run (d + 102) 13 0 [.ref 5, .int (nI p), .int (nI x), .int (nI b), .int (nI pt), .ref 34, .null] [] h) (CR h 0 (lN (odd ((σ.2 10).getD p 0) ((σ.2 11).getD p 0) x b pt)) σ O) := by
  have HO := H
  obtain ⟨x0, ho⟩ := H.o
  obtain ⟨rr, er, es, ep, ra, sa, pa, H1, H2⟩ := H
  have z8 := l_size (d := d + 100) H2.2.2.2.2.1
  have n3 := H2.2.2.2.2.2.2.2.2.2.2.2.2.2.1
  have g8 := l_get (d := d + 98) (k := p) H2.2.2.2.2.1 (by omega)
  rw [n3] at z8
  obtain ⟨s1, s2⟩ := H2.2.2.2.2.2.2.2.2.2.2.2.2.2.2.2.2.2.1 p (by omega)
  obtain ⟨m6, c6, f8, -⟩ := H2.2.2.2.2.1
  have hM := H1.1
  have v10 := (hV p).2.2.2.2.2.2.2.2.2.1
  have v11 := (hV p).2.2.2.2.2.2.2.2.2.2.1
  have i1 : inR (nI p) 0 (nI (σ.2 10).length - 1) = true := inR_ok hp (by have := hL.2.2.2.2.2.2.2.2.2.1; omega)
  have i2 : inR (nI pt) 0 1 = true := inR_nI (lo := 0) (hi := 1) (by omega) hpt (by omega)
  have i3 : inR (nI b) 1 20 = true := inR_nI (lo := 1) (hi := 20) hb1 hb (by omega)
  have i4 : inR (nI x) 0 (nI b) = true := inR_nI (lo := 0) (by omega) hx (by omega)
  simp only [plnC] at s2
  have c54 := c_54 (d := d) (x := x) (b := b) (pt := pt) s2 v10 v11 hb1 hb hx hpt
  have e : run (d + 101) 44 0 [.ref 5, .int (nI p), .int (nI x), .int (nI b), .int (nI pt)] [] h = some (.inl (some (.long (lN (odd ((σ.2 10).getD p 0) ((σ.2 11).getD p 0) x b pt)))), h) := by
    simp (disch := first | omega | (simp only [nlg_r, nlg_i, nlg_n, ok_0, ok_i, ok_r, ok_l]; done) | assumption | (simp only [List.length_set, List.length_append, List.length_cons, List.length_nil]; omega)) only [r_44_0, r_44_1, r_44_2, r_44_3, r_44_6, r_44_9, r_44_10, r_44_11, r_44_14, r_44_17, r_44_19, r_44_20, r_44_21, r_44_24, r_44_27, r_44_28, r_44_31, r_44_32, r_44_35, r_44_36, r_44_37, r_44_39, r_44_42, r_44_45, r_44_46, r_44_47, r_44_48, r_44_51, r_44_54, r_44_55, r_44_58, r_44_59, r_44_62, r_44_63, r_44_66, r_44_67, r_44_70, r_44_73, r_44_74, r_44_75, r_44_77, r_44_80, hM, c5, c_21, i1, i2, i3, i4, c_25t, c_26t, aft_v, aft_n, aft_t, gf_0, gf_s, pf_e, tg_e, hp_s, hp_n, hp_2, List.set_cons_zero, List.set_cons_succ, b2i_t, b2i_f, Ret_s, nlg_r, nlg_i, nlg_n, ok_0, ok_i, ok_r, ok_l, zi_e, zi_n, zi_t, Nat.reduceEqDiff, Nat.not_le, Nat.reduceLeDiff, if_true, if_false, eq_self, ↓reduceIte, Nat.reduceLT, Nat.le_refl, nle1, nez1, nez2, f8, z8, g8, s2, c54]
  simp (disch := first | omega | (simp only [nlg_r, nlg_i, nlg_n, ok_0, ok_i, ok_r, ok_l]; done) | assumption | (simp only [List.length_set, List.length_append, List.length_cons, List.length_nil]; omega)) only [r_13_0, r_13_2, r_13_3, r_13_4, r_13_5, r_13_6, r_13_7, r_13_9, r_13_12, r_13_13, r_13_16, r_13_18, r_13_19, r_13_20, r_13_22, r_13_23, r_13_24, r_13_25, hM, c5, aft_v, aft_n, aft_t, gf_0, gf_s, pf_e, tg_e, hp_s, hp_n, hp_2, List.set_cons_zero, List.set_cons_succ, b2i_t, b2i_f, Ret_s, nlg_r, nlg_i, nlg_n, ok_0, ok_i, ok_r, ok_l, zi_e, zi_n, zi_t, Nat.reduceEqDiff, Nat.not_le, Nat.reduceLeDiff, if_true, if_false, eq_self, ↓reduceIte, Nat.reduceLT, Nat.le_refl, nle1, nez1, nez2, e, ho, as_o]
  exact ⟨rfl, HO.out _, (FrC.refl h).put (by omega), fun _ => by rw [hp_s]⟩
end CZ
