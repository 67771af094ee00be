/-! PLAIN LEAN, 32: ropes in the component, continued -/
section CH
variable {σ σ' : AS} {O : List Nat} {d rr er es ep : Nat} {ra sa pa : List Nat} {h h' : MH}
theorem CL.rop1 (H : CL σ O er es ep ra sa pa h) {k : Nat} (hk : k < (σ.2 1).length) : 35 ≤ ra.getD k 0 ∧ ra.getD k 0 < h.2.1 ∧ h.1 (ra.getD k 0) = ropC σ k := by
  obtain ⟨k1, k2, k3, k4, k5, k6, k7, k8, k9, k10, k11, k12, k13, k14, k15, k16, -⟩ := H
  obtain ⟨a1, a2⟩ := k16 k (by omega)
  exact ⟨a1, k1.lt (show h.1 (ra.getD k 0) = (3, _) from a2) (by decide), a2⟩
/-- a rope's cell is put -/
theorem CL.rput (H : CL σ O er es ep ra sa pa h) {k : Nat} (hk : k < (σ.2 1).length) (hl : (σ'.2 1).length = (σ.2 1).length) (hr : ∀ j, j ≠ k → ropC σ' j = ropC σ j) (hc : ∀ j, 6 ≤ j → j ≤ 11 → σ'.2 j = σ.2 j) : CL σ' O er es ep ra sa pa (hput h (ra.getD k 0) (ropC σ' k)) := by
  obtain ⟨r1, r2, r3⟩ := H.rop1 hk
  obtain ⟨k1, k2, k3, k4, k5, k6, k7, k8, k9, k10, k11, k12, k13, k14, k15, k16, k17, k18, k19, k20, k21⟩ := H
  have eo : ∀ (b t : Nat) (l : List Value), h.1 b = (t, l) → t ≠ 3 → (hput h (ra.getD k 0) (ropC σ' k)).1 b = h.1 b := fun b t l hb n1 => hp_n _ _ _ _ (fun z => by rw [z, r3] at hb; exact n1 (Prod.mk.inj hb).1.symm)
  have ll : ∀ al ed xs, LA h al ed xs → LA (hput h (ra.getD k 0) (ropC σ' k)) al ed xs := fun al ed xs hA => by
    obtain ⟨m, c, q1, q2, q3, q4⟩ := hA
    exact ⟨m, c, (eo _ _ _ q1 (by decide)).trans q1, q2, (eo _ _ _ q3 (by decide)).trans q3, q4⟩
  refine ⟨k1.put r2, k2, ll _ _ _ k3, ll _ _ _ k4, ll _ _ _ k5, k6, k7, k8, k9, k10, k11, by rw [hl]; exact k12, k13, by rw [hc 10 (by omega) (by omega)]; exact k14, k15, fun j hj => ?_, fun j hj => ?_, fun j hj => ?_, ?_, ?_, ?_⟩
  · obtain ⟨a1, a2⟩ := k16 j hj
    refine ⟨a1, ?_⟩
    by_cases q : j = k
    · subst q; exact hp_s _ _ _
    · rw [hp_n, a2, hr j q]
      intro z
      have hj2 : ra.getD j 0 = ra[j] := by simp [List.getD_eq_getElem?_getD, hj]
      have hk1 : k < ra.length := by omega
      have hk2 : ra.getD k 0 = ra[k] := by simp [List.getD_eq_getElem?_getD, hk1]
      rw [hj2, hk2] at z
      exact q ((List.getElem_inj k15).mp z)
  · obtain ⟨a1, a2⟩ := k17 j hj
    refine ⟨a1, ?_⟩
    rw [eo _ _ _ a2 (by decide), a2]
    simp only [smpC, sA, sD, sC, sT, hc 6 (by omega) (by omega), hc 7 (by omega) (by omega), hc 8 (by omega) (by omega), hc 9 (by omega) (by omega)]
  · obtain ⟨a1, a2⟩ := k18 j hj
    refine ⟨a1, ?_⟩
    rw [eo _ _ _ a2 (by decide), a2]
    simp only [plnC, hc 10 (by omega) (by omega), hc 11 (by omega) (by omega)]
  · rw [hp_n _ _ _ _ (by omega)]; exact k19
  · rw [hp_n _ _ _ _ (by omega)]; exact k20
  · rw [hp_n _ _ _ _ (by omega)]; exact k21
theorem c_at (hM : h.1 5 = c5 σ rr) (H : CL σ O er es ep ra sa pa h) (hL : WL σ) {k : Nat} (hk : k < (σ.2 1).length) : run (d + 3) 35 0 [.ref 5, .int (nI k)] [] h = some (.inl (some (.ref (ra.getD k 0))), h) := by
  obtain ⟨r1, r2, r3⟩ := H.rop1 hk
  have l1 := hL.1
  have e1 : inR (nI k) 0 (nI (σ.2 1).length - 1) = true := inR_ok hk (by omega)
  have n1 := H.2.2.2.2.2.2.2.2.2.2.2.1
  have z6 := l_size (d := d + 2) H.2.2.1
  have g6 := l_get (d := d) (k := k) H.2.2.1 (by omega)
  rw [n1] at z6
  obtain ⟨m6, c6, f6, -⟩ := H.2.2.1
  simp (disch := first | omega | (simp only [nlg_r, nlg_i, nlg_n, ok_0, ok_i, ok_r, ok_l]; done) | assumption | (simp only [List.length_set, List.length_append, List.length_cons, List.length_nil]; omega)) only [r_35_0, r_35_1, r_35_2, r_35_3, r_35_6, r_35_9, r_35_10, r_35_11, r_35_14, r_35_17, r_35_18, r_35_21, r_35_22, r_35_25, r_35_28, hM, c5, f6, z6, g6, c_21, e1, c_25t, aft_v, aft_n, aft_t, gf_0, gf_s, pf_e, tg_e, hp_s, hp_n, hp_2, List.set_cons_zero, List.set_cons_succ, b2i_t, b2i_f, Ret_s, nlg_r, nlg_i, nlg_n, ok_0, ok_i, ok_r, ok_l, zi_e, zi_n, zi_t, Nat.reduceEqDiff, Nat.not_le, Nat.reduceLeDiff, if_true, if_false, eq_self, ↓reduceIte, Nat.reduceLT, Nat.le_refl, nle1, nez1, nez2, r3, ropC]
theorem c_atx (hM : h.1 5 = c5 σ rr) (H : CL σ O er es ep ra sa pa h) {r : Int32} (hc : inR r 0 (nI (σ.2 1).length - 1) = false) : run (d + 3) 35 0 [.ref 5, .int r] [] h = some (.inr h.2.1, hx 0 h) := by
  have n1 := H.2.2.2.2.2.2.2.2.2.2.2.1
  have h35 := H.2.1
  have z6 := l_size (d := d + 2) H.2.2.1
  rw [n1] at z6
  obtain ⟨m6, c6, f6, -⟩ := H.2.2.1
  simp (disch := first | omega | (simp only [nlg_r, nlg_i, nlg_n, ok_0, ok_i, ok_r, ok_l]; done) | assumption | (simp only [List.length_set, List.length_append, List.length_cons, List.length_nil]; omega)) only [r_35_0, r_35_1, r_35_2, r_35_3, r_35_6, r_35_9, r_35_10, r_35_11, r_35_14, r_35_17, r_35_18, r_35_21, r_35_22, r_35_25, r_35_28, hM, c5, f6, z6, c_21, hc, c_25f, aft_v, aft_n, aft_t, gf_0, gf_s, pf_e, tg_e, hp_s, hp_n, hp_2, List.set_cons_zero, List.set_cons_succ, b2i_t, b2i_f, Ret_s, nlg_r, nlg_i, nlg_n, ok_0, ok_i, ok_r, ok_l, zi_e, zi_n, zi_t, Nat.reduceEqDiff, Nat.not_le, Nat.reduceLeDiff, if_true, if_false, eq_self, ↓reduceIte, Nat.reduceLT, Nat.le_refl, nle1, nez1, nez2, thx mh35 (show 0 < 3 by omega)]
theorem mh5o : hnd 5 5 (40 + 0) = some (some 12) := by decide +kernel
theorem mh6o : hnd 6 7 (40 + 0) = some (some 15) ∧ hnd 6 7 (40 + 1) = some (some 19) := by decide +kernel
theorem w_about1 (H : CP σ O h) (hL : WL σ) {r w : Int32} (hc : (inR r 0 (nI (σ.2 1).length - 1) && inR w 0 4) = false) : Ret (run (d + 5) 5 0 [.ref 5, .int r, .int w, .ref 34, .null] [] h) (CR h 1 0 σ O) := by
  obtain ⟨hx1, hx2, hN, h35⟩ := H.x 0
  obtain ⟨rr, er, es, ep, ra, sa, pa, H1, H2⟩ := H
  have hM := H1.1
  have e : run (d + 4) 34 0 [.ref 5, .int r, .int w, .null] [] h = some (.inr h.2.1, hx 0 h) := by
    cases e1 : inR r 0 (nI (σ.2 1).length - 1)
    · have ca := c_atx (d := d) hM H2 e1
      simp (disch := first | omega | (simp only [nlg_r, nlg_i, nlg_n, ok_0, ok_i, ok_r, ok_l]; done) | assumption | (simp only [List.length_set, List.length_append, List.length_cons, List.length_nil]; omega)) only [r_34_0, r_34_1, r_34_2, r_34_5, r_34_6, r_34_7, r_34_8, r_34_9, r_34_12, r_34_15, r_34_16_0, r_34_16_1, r_34_16_2, r_34_16_3, r_34_16_d, r_34_48, r_34_49, r_34_52, r_34_53, r_34_56, r_34_57, r_34_60, r_34_61, r_34_64, r_34_65, r_34_68, r_34_69, r_34_72, r_34_73, r_34_76, r_34_79, r_34_80, r_34_83, r_34_84, hM, c5, ca, aft_v, aft_n, aft_t, gf_0, gf_s, pf_e, tg_e, hp_s, hp_n, hp_2, List.set_cons_zero, List.set_cons_succ, b2i_t, b2i_f, Ret_s, nlg_r, nlg_i, nlg_n, ok_0, ok_i, ok_r, ok_l, zi_e, zi_n, zi_t, Nat.reduceEqDiff, Nat.not_le, Nat.reduceLeDiff, if_true, if_false, eq_self, ↓reduceIte, Nat.reduceLT, Nat.le_refl, nle1, nez1, nez2, thx mh34 (show 0 < 3 by omega)]
    · rw [e1, Bool.true_and] at hc
      obtain ⟨k, hk, rfl⟩ := inR_ix e1 (by have := hL.1; omega)
      have ca := c_at (d := d) hM H2 hL hk
      simp (disch := first | omega | (simp only [nlg_r, nlg_i, nlg_n, ok_0, ok_i, ok_r, ok_l]; done) | assumption | (simp only [List.length_set, List.length_append, List.length_cons, List.length_nil]; omega)) only [r_34_0, r_34_1, r_34_2, r_34_5, r_34_6, r_34_7, r_34_8, r_34_9, r_34_12, r_34_15, r_34_16_0, r_34_16_1, r_34_16_2, r_34_16_3, r_34_16_d, r_34_48, r_34_49, r_34_52, r_34_53, r_34_56, r_34_57, r_34_60, r_34_61, r_34_64, r_34_65, r_34_68, r_34_69, r_34_72, r_34_73, r_34_76, r_34_79, r_34_80, r_34_83, r_34_84, hM, c5, ca, c_21, hc, c_25f, aft_v, aft_n, aft_t, gf_0, gf_s, pf_e, tg_e, hp_s, hp_n, hp_2, List.set_cons_zero, List.set_cons_succ, b2i_t, b2i_f, Ret_s, nlg_r, nlg_i, nlg_n, ok_0, ok_i, ok_r, ok_l, zi_e, zi_n, zi_t, Nat.reduceEqDiff, Nat.not_le, Nat.reduceLeDiff, if_true, if_false, eq_self, ↓reduceIte, Nat.reduceLT, Nat.le_refl, nle1, nez1, nez2, thx mh34 (show 0 < 3 by omega)]
  simp (disch := first | omega | (simp only [nlg_r, nlg_i, nlg_n, ok_0, ok_i, ok_r, ok_l]; done) | assumption | (simp only [List.length_set, List.length_append, List.length_cons, List.length_nil]; omega)) only [r_5_0, r_5_1, r_5_2, r_5_3, r_5_4, r_5_5, r_5_8, r_5_9, r_5_12, r_5_14, r_5_15, r_5_16, r_5_17, hM, c5, aft_v, aft_n, aft_t, gf_0, gf_s, pf_e, tg_e, hp_s, hp_n, hp_2, List.set_cons_zero, List.set_cons_succ, b2i_t, b2i_f, Ret_s, nlg_r, nlg_i, nlg_n, ok_0, ok_i, ok_r, ok_l, zi_e, zi_n, zi_t, Nat.reduceEqDiff, Nat.not_le, Nat.reduceLeDiff, if_true, if_false, eq_self, ↓reduceIte, Nat.reduceLT, Nat.le_refl, nle1, nez1, nez2, e, thy mh5o]
  exact ⟨rfl, hx1, hx2, fun z => by cases z⟩
theorem c_67 {a : Nat} {m g : Nat} {x1 x3 : Value} {x4 : Value} (e : h.1 a = (3, [.int (nI m), x1, .int (nI g), x3, x4])) : run d 67 0 [.ref a] [] h = some (.inl (some (.int (nI (m * g)))), h) := by
  simp (disch := first | omega | (simp only [nlg_r, nlg_i, nlg_n, ok_0, ok_i, ok_r, ok_l]; done) | assumption | (simp only [List.length_set, List.length_append, List.length_cons, List.length_nil]; omega)) only [r_67_0, r_67_1, r_67_4, r_67_5, r_67_8, r_67_9, e, aft_v, aft_n, aft_t, gf_0, gf_s, pf_e, tg_e, hp_s, hp_n, hp_2, List.set_cons_zero, List.set_cons_succ, b2i_t, b2i_f, Ret_s, nlg_r, nlg_i, nlg_n, ok_0, ok_i, ok_r, ok_l, zi_e, zi_n, zi_t, Nat.reduceEqDiff, Nat.not_le, Nat.reduceLeDiff, if_true, if_false, eq_self, ↓reduceIte, Nat.reduceLT, Nat.le_refl, nle1, nez1, nez2, ei_r, ei_l, ni_r, ni_l, ti_r, ti_l, ai_r, ai_l, si_r, si_l, mi_r, mi_l, di_r, nI_eq, nI_leI, nI_ltI, nI_add, pk_sub, pk_mul, pk_div, pk_rem, nI_l, lN_i]
theorem w_about (H : CP σ O h) (hL : WL σ) (hV : WV σ) {k w : Nat} (h1 : k < (σ.2 1).length) (h2 : w ≤ 4) : Ret (run (d + 5) 5 0 [.ref 5, .int (nI k), .int (nI w), .ref 34, .null] [] h) (CR h 0 (lN (abt σ k w)) σ O) := by
  obtain ⟨x, ho⟩ := H.o
  have HO := H
  obtain ⟨rr, er, es, ep, ra, sa, pa, H1, H2⟩ := H
  have hM := H1.1
  have ca := c_at (d := d) hM H2 hL h1
  obtain ⟨r1, r2, r3⟩ := H2.rop1 h1
  obtain ⟨v1, v2, v3, v4, v5, -⟩ := hV k
  have r3' := r3
  simp only [ropC] at r3
  have b1 : (σ.2 1).getD k 0 * (σ.2 3).getD k 0 ≤ 200 * 100000 := Nat.mul_le_mul v1 v4
  rcases (show w = 0 ∨ w = 1 ∨ w = 2 ∨ w = 3 ∨ w = 4 by omega) with rfl | rfl | rfl | rfl | rfl
  · have e2 : inR 0 0 4 = true := by decide
    simp (disch := first | omega | (simp only [nlg_r, nlg_i, nlg_n, ok_0, ok_i, ok_r, ok_l]; done) | assumption | (simp only [List.length_set, List.length_append, List.length_cons, List.length_nil]; omega)) only [r_5_0, r_5_1, r_5_2, r_5_3, r_5_4, r_5_5, r_5_8, r_5_9, r_5_12, r_5_14, r_5_15, r_5_16, r_5_17, r_34_0, r_34_1, r_34_2, r_34_5, r_34_6, r_34_7, r_34_8, r_34_9, r_34_12, r_34_15, r_34_16_0, r_34_16_1, r_34_16_2, r_34_16_3, r_34_16_d, r_34_48, r_34_49, r_34_52, r_34_53, r_34_56, r_34_57, r_34_60, r_34_61, r_34_64, r_34_65, r_34_68, r_34_69, r_34_72, r_34_73, r_34_76, r_34_79, r_34_80, r_34_83, r_34_84, hM, c5, ca, c_21, e2, c_25t, aft_v, aft_n, aft_t, gf_0, gf_s, pf_e, tg_e, hp_s, hp_n, hp_2, List.set_cons_zero, List.set_cons_succ, b2i_t, b2i_f, Ret_s, nlg_r, nlg_i, nlg_n, ok_0, ok_i, ok_r, ok_l, zi_e, zi_n, zi_t, Nat.reduceEqDiff, Nat.not_le, Nat.reduceLeDiff, if_true, if_false, eq_self, ↓reduceIte, Nat.reduceLT, Nat.le_refl, nle1, nez1, nez2, nI_0, r3, nI_l, ho, as_o]
    exact ⟨rfl, HO.out _, (FrC.refl h).put (by omega), fun _ => by rw [hp_s]; rfl⟩
  · have e2 : inR 1 0 4 = true := by decide
    simp (disch := first | omega | (simp only [nlg_r, nlg_i, nlg_n, ok_0, ok_i, ok_r, ok_l]; done) | assumption | (simp only [List.length_set, List.length_append, List.length_cons, List.length_nil]; omega)) only [r_5_0, r_5_1, r_5_2, r_5_3, r_5_4, r_5_5, r_5_8, r_5_9, r_5_12, r_5_14, r_5_15, r_5_16, r_5_17, r_34_0, r_34_1, r_34_2, r_34_5, r_34_6, r_34_7, r_34_8, r_34_9, r_34_12, r_34_15, r_34_16_0, r_34_16_1, r_34_16_2, r_34_16_3, r_34_16_d, r_34_48, r_34_49, r_34_52, r_34_53, r_34_56, r_34_57, r_34_60, r_34_61, r_34_64, r_34_65, r_34_68, r_34_69, r_34_72, r_34_73, r_34_76, r_34_79, r_34_80, r_34_83, r_34_84, hM, c5, ca, c_21, e2, c_25t, aft_v, aft_n, aft_t, gf_0, gf_s, pf_e, tg_e, hp_s, hp_n, hp_2, List.set_cons_zero, List.set_cons_succ, b2i_t, b2i_f, Ret_s, nlg_r, nlg_i, nlg_n, ok_0, ok_i, ok_r, ok_l, zi_e, zi_n, zi_t, Nat.reduceEqDiff, Nat.not_le, Nat.reduceLeDiff, if_true, if_false, eq_self, ↓reduceIte, Nat.reduceLT, Nat.le_refl, nle1, nez1, nez2, show nI 1 = 1 from rfl, r3, nI_l, ho, as_o]
    exact ⟨rfl, HO.out _, (FrC.refl h).put (by omega), fun _ => by rw [hp_s]; rfl⟩
  · have e2 : inR 2 0 4 = true := by decide
    have c7 := c_67 (d := d + 3) r3
    simp (disch := first | omega | (simp only [nlg_r, nlg_i, nlg_n, ok_0, ok_i, ok_r, ok_l]; done) | assumption | (simp only [List.length_set, List.length_append, List.length_cons, List.length_nil]; omega)) only [r_5_0, r_5_1, r_5_2, r_5_3, r_5_4, r_5_5, r_5_8, r_5_9, r_5_12, r_5_14, r_5_15, r_5_16, r_5_17, r_34_0, r_34_1, r_34_2, r_34_5, r_34_6, r_34_7, r_34_8, r_34_9, r_34_12, r_34_15, r_34_16_0, r_34_16_1, r_34_16_2, r_34_16_3, r_34_16_d, r_34_48, r_34_49, r_34_52, r_34_53, r_34_56, r_34_57, r_34_60, r_34_61, r_34_64, r_34_65, r_34_68, r_34_69, r_34_72, r_34_73, r_34_76, r_34_79, r_34_80, r_34_83, r_34_84, hM, c5, ca, c_21, e2, c_25t, aft_v, aft_n, aft_t, gf_0, gf_s, pf_e, tg_e, hp_s, hp_n, hp_2, List.set_cons_zero, List.set_cons_succ, b2i_t, b2i_f, Ret_s, nlg_r, nlg_i, nlg_n, ok_0, ok_i, ok_r, ok_l, zi_e, zi_n, zi_t, Nat.reduceEqDiff, Nat.not_le, Nat.reduceLeDiff, if_true, if_false, eq_self, ↓reduceIte, Nat.reduceLT, Nat.le_refl, nle1, nez1, nez2, show nI 2 = 2 from rfl, r3, c7, nI_l, ho, as_o]
    exact ⟨rfl, HO.out _, (FrC.refl h).put (by omega), fun _ => by rw [hp_s]; rfl⟩
  · have e2 : inR 3 0 4 = true := by decide
    simp (disch := first | omega | (simp only [nlg_r, nlg_i, nlg_n, ok_0, ok_i, ok_r, ok_l]; done) | assumption | (simp only [List.length_set, List.length_append, List.length_cons, List.length_nil]; omega)) only [r_5_0, r_5_1, r_5_2, r_5_3, r_5_4, r_5_5, r_5_8, r_5_9, r_5_12, r_5_14, r_5_15, r_5_16, r_5_17, r_34_0, r_34_1, r_34_2, r_34_5, r_34_6, r_34_7, r_34_8, r_34_9, r_34_12, r_34_15, r_34_16_0, r_34_16_1, r_34_16_2, r_34_16_3, r_34_16_d, r_34_48, r_34_49, r_34_52, r_34_53, r_34_56, r_34_57, r_34_60, r_34_61, r_34_64, r_34_65, r_34_68, r_34_69, r_34_72, r_34_73, r_34_76, r_34_79, r_34_80, r_34_83, r_34_84, hM, c5, ca, c_21, e2, c_25t, aft_v, aft_n, aft_t, gf_0, gf_s, pf_e, tg_e, hp_s, hp_n, hp_2, List.set_cons_zero, List.set_cons_succ, b2i_t, b2i_f, Ret_s, nlg_r, nlg_i, nlg_n, ok_0, ok_i, ok_r, ok_l, zi_e, zi_n, zi_t, Nat.reduceEqDiff, Nat.not_le, Nat.reduceLeDiff, if_true, if_false, eq_self, ↓reduceIte, Nat.reduceLT, Nat.le_refl, nle1, nez1, nez2, show nI 3 = 3 from rfl, r3, nI_l, ho, as_o]
    exact ⟨rfl, HO.out _, (FrC.refl h).put (by omega), fun _ => by rw [hp_s]; rfl⟩
  · have e2 : inR (nI 4) 0 4 = true := by decide
    have e5 : (nI 4).toInt < 0 ∨ 3 < (nI 4).toInt := by decide
    simp (disch := first | omega | (simp only [nlg_r, nlg_i, nlg_n, ok_0, ok_i, ok_r, ok_l]; done) | assumption | (simp only [List.length_set, List.length_append, List.length_cons, List.length_nil]; omega)) only [r_5_0, r_5_1, r_5_2, r_5_3, r_5_4, r_5_5, r_5_8, r_5_9, r_5_12, r_5_14, r_5_15, r_5_16, r_5_17, r_34_0, r_34_1, r_34_2, r_34_5, r_34_6, r_34_7, r_34_8, r_34_9, r_34_12, r_34_15, r_34_16_0, r_34_16_1, r_34_16_2, r_34_16_3, r_34_16_d, r_34_48, r_34_49, r_34_52, r_34_53, r_34_56, r_34_57, r_34_60, r_34_61, r_34_64, r_34_65, r_34_68, r_34_69, r_34_72, r_34_73, r_34_76, r_34_79, r_34_80, r_34_83, r_34_84, hM, c5, ca, c_21, e2, e5, c_25t, aft_v, aft_n, aft_t, gf_0, gf_s, pf_e, tg_e, hp_s, hp_n, hp_2, List.set_cons_zero, List.set_cons_succ, b2i_t, b2i_f, Ret_s, nlg_r, nlg_i, nlg_n, ok_0, ok_i, ok_r, ok_l, zi_e, zi_n, zi_t, Nat.reduceEqDiff, Nat.not_le, Nat.reduceLeDiff, if_true, if_false, eq_self, ↓reduceIte, Nat.reduceLT, Nat.le_refl, nle1, nez1, nez2, r3, nI_l, ho, as_o]
    exact ⟨rfl, HO.out _, (FrC.refl h).put (by omega), fun _ => by rw [hp_s]; rfl⟩
theorem w_thin1 (H : CP σ O h) {r a b : Int32} (hc : inR r 0 (nI (σ.2 1).length - 1) = false) : Ret (run (d + 5) 6 0 [.ref 5, .int r, .int a, .int b, .ref 34, .null] [] h) (CR h 1 0 σ O) := by
  obtain ⟨hx1, hx2, hN, h35⟩ := H.x 0
  obtain ⟨rr, er, es, ep, ra, sa, pa, H1, H2⟩ := H
  have hM := H1.1
  have ca := c_atx (d := d) hM H2 hc
  have e : run (d + 4) 36 0 [.ref 5, .int r, .int a, .int b, .null] [] h = some (.inr h.2.1, hx 0 h) := by
    simp (disch := first | omega | (simp only [nlg_r, nlg_i, nlg_n, ok_0, ok_i, ok_r, ok_l]; done) | assumption | (simp only [List.length_set, List.length_append, List.length_cons, List.length_nil]; omega)) only [r_36_0, r_36_1, r_36_2, r_36_5, r_36_7, r_36_8, r_36_9, r_36_12, r_36_15, r_36_18, r_36_19, r_36_20, r_36_21, r_36_24, r_36_27, r_36_28, r_36_31, r_36_32, r_36_35, r_36_37, r_36_39, r_36_42, r_36_43, r_36_44, r_36_45, r_36_46, r_36_47, r_36_48, r_36_49, r_36_50, r_36_53, r_36_55, r_36_58, hM, c5, ca, aft_v, aft_n, aft_t, gf_0, gf_s, pf_e, tg_e, hp_s, hp_n, hp_2, List.set_cons_zero, List.set_cons_succ, b2i_t, b2i_f, Ret_s, nlg_r, nlg_i, nlg_n, ok_0, ok_i, ok_r, ok_l, zi_e, zi_n, zi_t, Nat.reduceEqDiff, Nat.not_le, Nat.reduceLeDiff, if_true, if_false, eq_self, ↓reduceIte, Nat.reduceLT, Nat.le_refl, nle1, nez1, nez2, thx mh36 (show 0 < 3 by omega)]
  simp (disch := first | omega | (simp only [nlg_r, nlg_i, nlg_n, ok_0, ok_i, ok_r, ok_l]; done) | assumption | (simp only [List.length_set, List.length_append, List.length_cons, List.length_nil]; omega)) only [r_6_0, r_6_2, r_6_3, r_6_4, r_6_5, r_6_6, r_6_7, r_6_10, r_6_11, r_6_12, r_6_15, r_6_17, r_6_18, r_6_19, r_6_21, r_6_22, r_6_23, r_6_24, hM, c5, aft_v, aft_n, aft_t, gf_0, gf_s, pf_e, tg_e, hp_s, hp_n, hp_2, List.set_cons_zero, List.set_cons_succ, b2i_t, b2i_f, Ret_s, nlg_r, nlg_i, nlg_n, ok_0, ok_i, ok_r, ok_l, zi_e, zi_n, zi_t, Nat.reduceEqDiff, Nat.not_le, Nat.reduceLeDiff, if_true, if_false, eq_self, ↓reduceIte, Nat.reduceLT, Nat.le_refl, nle1, nez1, nez2, e, thy mh6o.1]
  exact ⟨rfl, hx1, hx2, fun z => by cases z⟩
theorem w_thin2 (H : CP σ O h) (hL : WL σ) {r a b : Int32} (h1 : inR r 0 (nI (σ.2 1).length - 1) = true) (hc : (inR b 1 1000 && inR a 0 b) = false) : Ret (run (d + 5) 6 0 [.ref 5, .int r, .int a, .int b, .ref 34, .null] [] h) (CR h 2 0 σ O) := by
  obtain ⟨hx1, hx2, hN, h35⟩ := H.x 1
  obtain ⟨rr, er, es, ep, ra, sa, pa, H1, H2⟩ := H
  have hM := H1.1
  obtain ⟨k, hk, rfl⟩ := inR_ix h1 (by have := hL.1; omega)
  have ca := c_at (d := d) hM H2 hL hk
  have e : run (d + 4) 36 0 [.ref 5, .int (nI k), .int a, .int b, .null] [] h = some (.inr h.2.1, hx 1 h) := by
    cases e1 : inR b 1 1000 <;> cases e2 : inR a 0 b <;> simp only [e1, e2, Bool.and_self, Bool.and_false, Bool.false_and, reduceCtorEq] at hc
    all_goals simp (disch := first | omega | (simp only [nlg_r, nlg_i, nlg_n, ok_0, ok_i, ok_r, ok_l]; done) | assumption | (simp only [List.length_set, List.length_append, List.length_cons, List.length_nil]; omega)) only [r_36_0, r_36_1, r_36_2, r_36_5, r_36_7, r_36_8, r_36_9, r_36_12, r_36_15, r_36_18, r_36_19, r_36_20, r_36_21, r_36_24, r_36_27, r_36_28, r_36_31, r_36_32, r_36_35, r_36_37, r_36_39, r_36_42, r_36_43, r_36_44, r_36_45, r_36_46, r_36_47, r_36_48, r_36_49, r_36_50, r_36_53, r_36_55, r_36_58, hM, c5, ca, c_21, e1, e2, c_26f, aft_v, aft_n, aft_t, gf_0, gf_s, pf_e, tg_e, hp_s, hp_n, hp_2, List.set_cons_zero, List.set_cons_succ, b2i_t, b2i_f, Ret_s, nlg_r, nlg_i, nlg_n, ok_0, ok_i, ok_r, ok_l, zi_e, zi_n, zi_t, Nat.reduceEqDiff, Nat.not_le, Nat.reduceLeDiff, if_true, if_false, eq_self, ↓reduceIte, Nat.reduceLT, Nat.le_refl, nle1, nez1, nez2, thx mh36 (show 1 < 3 by omega)]
  simp (disch := first | omega | (simp only [nlg_r, nlg_i, nlg_n, ok_0, ok_i, ok_r, ok_l]; done) | assumption | (simp only [List.length_set, List.length_append, List.length_cons, List.length_nil]; omega)) only [r_6_0, r_6_2, r_6_3, r_6_4, r_6_5, r_6_6, r_6_7, r_6_10, r_6_11, r_6_12, r_6_15, r_6_17, r_6_18, r_6_19, r_6_21, r_6_22, r_6_23, r_6_24, hM, c5, aft_v, aft_n, aft_t, gf_0, gf_s, pf_e, tg_e, hp_s, hp_n, hp_2, List.set_cons_zero, List.set_cons_succ, b2i_t, b2i_f, Ret_s, nlg_r, nlg_i, nlg_n, ok_0, ok_i, ok_r, ok_l, zi_e, zi_n, zi_t, Nat.reduceEqDiff, Nat.not_le, Nat.reduceLeDiff, if_true, if_false, eq_self, ↓reduceIte, Nat.reduceLT, Nat.le_refl, nle1, nez1, nez2, e, thy mh6o.2]
  exact ⟨rfl, hx1, hx2, fun z => by cases z⟩
end CH
