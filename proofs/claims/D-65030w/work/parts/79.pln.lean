/-! PLAIN LEAN, 40: plans in the component -/
section CU
variable {σ σ' : AS} {O : List Nat} {d er es ep : Nat} {ra sa pa : List Nat} {h h' : MH}
theorem c_53 {b : Nat} {m g : Int32} (hb : 5 ≤ b) (e : h.1 b = (5, [.int 0, .int 0])) : run d 53 0 [.ref b, .int m, .int g] [] h = some (.inl none, hput (hput h b (5, [.int m, .int 0])) b (5, [.int m, .int g])) := by
  simp (disch := first | omega | (simp only [nlg_r, nlg_i, nlg_n, ok_0, ok_i, ok_r, ok_l]; done) | assumption | (simp only [List.length_set, List.length_append, List.length_cons, List.length_nil]; omega)) only [r_53_0, r_53_1, r_53_4, r_53_5, r_53_6, r_53_9, r_53_10, r_53_11, r_53_14, e, aft_v, aft_n, aft_t, gf_0, gf_s, pf_e, tg_e, hp_s, hp_n, hp_2, List.set_cons_zero, List.set_cons_succ, b2i_t, b2i_f, Ret_s, nlg_r, nlg_i, nlg_n, ok_0, ok_i, ok_r, ok_l, zi_e, zi_n, zi_t, Nat.reduceEqDiff, Nat.not_le, Nat.reduceLeDiff, if_true, if_false, eq_self, ↓reduceIte, Nat.reduceLT, Nat.le_refl, nle1, nez1, nez2]
/-- a plan is added -/
theorem CL.pln (H : CL σ O er es ep ra sa pa h) {m g ep' : Nat} (hL : WL σ) (hN : HN h') (hz : h.2.1 + 1 ≤ h'.2.1) (e : ∀ b, b ≠ 8 → (b = ep → ep < 5) → b < h.2.1 → h'.1 b = h.1 b) (e1 : h'.1 h.2.1 = (5, [.int (nI m), .int (nI g)])) (hA : LA h' 8 ep' (pa ++ [h.2.1])) (he : ep' = ep ∨ ep' = h.2.1 + 1) (h5 : 5 ≤ ep') :
    CL (uc (uc σ 10 (σ.2 10 ++ [m])) 11 (σ.2 11 ++ [g])) O er es ep' ra sa (pa ++ [h.2.1]) h' := by
  obtain ⟨l1, l2, l3, l4, l5, l6, l7, l8, l9, l10, l11, -⟩ := hL
  obtain ⟨k1, k2, k3, k4, k5, k6, k7, k8, k9, k10, k11, k12, k13, k14, k15, k16, k17, k18, k19, k20, k21⟩ := H
  have t3 := k3.lt k1
  have t4 := k4.lt k1
  have t5 := k5.lt k1
  have eo : ∀ (b t : Nat) (l : List Value), h.1 b = (t, l) → t ≠ 24 → t ≠ 7 → t ≠ 99 → h'.1 b = h.1 b := fun b t l hb n1 n2 n3 => by
    refine e b (fun z => ?_) (fun z => ?_) (k1.lt hb n3)
    · obtain ⟨m', c', q1, -⟩ := k5; rw [z] at hb; exact absurd (Prod.mk.inj (hb.symm.trans q1)).1 n2
    · obtain ⟨m', c', q1, q2, q3, -⟩ := k5; rw [z] at hb; exact absurd (Prod.mk.inj (hb.symm.trans q3)).1 n1
  refine ⟨hN, by omega, k3.keep (e _ (by omega) (by omega) (by omega)) (e _ (by omega) (by omega) (by omega)), k4.keep (e _ (by omega) (by omega) (by omega)) (e _ (by omega) (by omega) (by omega)), hA, k6, k7, by omega, k9, by omega, by omega, k12, k13, ?_, k15, fun k hk => ?_, fun k hk => ?_, fun k hk => ?_, ?_, ?_, ?_⟩
  · simp [uc, k14]
  · obtain ⟨a1, a2⟩ := k16 k hk
    refine ⟨a1, ?_⟩
    rw [eo _ _ _ a2 (by decide) (by decide) (by decide), a2]
    simp [ropC, uc]
  · obtain ⟨a1, a2⟩ := k17 k hk
    refine ⟨a1, ?_⟩
    rw [eo _ _ _ a2 (by decide) (by decide) (by decide), a2]
    simp [smpC, sA, sD, sC, sT, uc]
  · simp only [List.length_append, List.length_cons, List.length_nil] at hk
    by_cases q : k < pa.length
    · obtain ⟨a1, a2⟩ := k18 k q
      rw [gD_app q]
      refine ⟨a1, ?_⟩
      rw [eo _ _ _ a2 (by decide) (by decide) (by decide), a2]
      simp only [plnC, uc_2, Nat.reduceEqDiff, if_true, if_false]
      rw [gD_app (by omega), gD_app (by omega)]
    · have q2 : k = pa.length := by omega
      subst q2
      rw [gD_last]
      refine ⟨k2, ?_⟩
      rw [e1]
      simp only [plnC, uc_2, Nat.reduceEqDiff, if_true, if_false]
      rw [k14, gD_last, ← l11, gD_last]
  · rw [e _ (by omega) (by omega) (by omega)]; exact k19
  · rw [e _ (by omega) (by omega) (by omega)]; exact k20
  · rw [e _ (by omega) (by omega) (by omega)]; exact k21
theorem mh12o : hnd 12 5 (40 + 1) = some (some 13) ∧ hnd 12 5 (40 + 2) = some (some 17) := by decide +kernel
theorem w_plan1 (H : CP σ O h) {n m : Int32} (hc : (inR n 1 10 && inR m 0 n) = false) : Ret (run (d + 4) 12 0 [.ref 5, .int n, .int m, .ref 34, .null] [] h) (CR h 1 0 σ O) := by
  obtain ⟨hx1, hx2, hN, h35⟩ := H.x 1
  obtain ⟨rr, hM⟩ := H.c5
  have e : run (d + 3) 43 0 [.ref 5, .int n, .int m] [] h = some (.inr h.2.1, hx 1 h) := by
    cases e1 : inR n 1 10 <;> cases e2 : inR m 0 n <;> simp only [e1, e2, Bool.and_self, Bool.and_false, Bool.false_and, reduceCtorEq] at hc
    all_goals simp (disch := first | omega | (simp only [nlg_r, nlg_i, nlg_n, ok_0, ok_i, ok_r, ok_l]; done) | assumption | (simp only [List.length_set, List.length_append, List.length_cons, List.length_nil]; omega)) only [r_43_0, r_43_1, r_43_2, r_43_4, r_43_7, r_43_10, r_43_11, r_43_12, r_43_13, r_43_16, r_43_19, r_43_20, r_43_23, r_43_24, r_43_27, r_43_28, r_43_31, r_43_34, r_43_36, r_43_39, r_43_40, r_43_43, r_43_44, r_43_47, r_43_48, r_43_51, r_43_54, r_43_55, r_43_56, r_43_57, r_43_60, r_43_63, r_43_64, r_43_65, r_43_68, r_43_71, r_43_72, r_43_73, c_21, e1, e2, c_26f, aft_v, aft_n, aft_t, gf_0, gf_s, pf_e, tg_e, hp_s, hp_n, hp_2, List.set_cons_zero, List.set_cons_succ, b2i_t, b2i_f, Ret_s, nlg_r, nlg_i, nlg_n, ok_0, ok_i, ok_r, ok_l, zi_e, zi_n, zi_t, Nat.reduceEqDiff, Nat.not_le, Nat.reduceLeDiff, if_true, if_false, eq_self, ↓reduceIte, Nat.reduceLT, Nat.le_refl, nle1, nez1, nez2, thx mh43 (show 1 < 3 by omega)]
  simp (disch := first | omega | (simp only [nlg_r, nlg_i, nlg_n, ok_0, ok_i, ok_r, ok_l]; done) | assumption | (simp only [List.length_set, List.length_append, List.length_cons, List.length_nil]; omega)) only [r_12_0, r_12_1, r_12_2, r_12_3, r_12_4, r_12_5, r_12_8, r_12_9, r_12_10, r_12_13, r_12_15, r_12_16, r_12_17, r_12_19, r_12_20, r_12_21, r_12_22, hM, c5, aft_v, aft_n, aft_t, gf_0, gf_s, pf_e, tg_e, hp_s, hp_n, hp_2, List.set_cons_zero, List.set_cons_succ, b2i_t, b2i_f, Ret_s, nlg_r, nlg_i, nlg_n, ok_0, ok_i, ok_r, ok_l, zi_e, zi_n, zi_t, Nat.reduceEqDiff, Nat.not_le, Nat.reduceLeDiff, if_true, if_false, eq_self, ↓reduceIte, Nat.reduceLT, Nat.le_refl, nle1, nez1, nez2, e, thy mh12o.1]
  exact ⟨rfl, hx1, hx2, fun z => by cases z⟩
theorem w_plan2 (H : CP σ O h) {n m : Int32} (h1 : inR n 1 10 = true) (h2 : inR m 0 n = true) (h4 : (σ.2 10).length = 6) : Ret (run (d + 4) 12 0 [.ref 5, .int n, .int m, .ref 34, .null] [] h) (CR h 2 0 σ O) := by
  obtain ⟨hx1, hx2, hN, h35⟩ := H.x 2
  obtain ⟨rr, er, es, ep, ra, sa, pa, H1, H2⟩ := H
  have z8 := l_size (d := d + 2) H2.2.2.2.2.1
  have n3 := H2.2.2.2.2.2.2.2.2.2.2.2.2.2.1
  rw [n3, h4] at z8
  obtain ⟨m6, c6, f8, -⟩ := H2.2.2.2.2.1
  have hM := H1.1
  have q : (6 : Int32) ≤ nI 6 := by decide
  have e : run (d + 3) 43 0 [.ref 5, .int n, .int m] [] h = some (.inr h.2.1, hx 2 h) := by
    simp (disch := first | omega | (simp only [nlg_r, nlg_i, nlg_n, ok_0, ok_i, ok_r, ok_l]; done) | assumption | (simp only [List.length_set, List.length_append, List.length_cons, List.length_nil]; omega)) only [r_43_0, r_43_1, r_43_2, r_43_4, r_43_7, r_43_10, r_43_11, r_43_12, r_43_13, r_43_16, r_43_19, r_43_20, r_43_23, r_43_24, r_43_27, r_43_28, r_43_31, r_43_34, r_43_36, r_43_39, r_43_40, r_43_43, r_43_44, r_43_47, r_43_48, r_43_51, r_43_54, r_43_55, r_43_56, r_43_57, r_43_60, r_43_63, r_43_64, r_43_65, r_43_68, r_43_71, r_43_72, r_43_73, hM, c5, c_21, h1, h2, c_26t, c_27f, aft_v, aft_n, aft_t, gf_0, gf_s, pf_e, tg_e, hp_s, hp_n, hp_2, List.set_cons_zero, List.set_cons_succ, b2i_t, b2i_f, Ret_s, nlg_r, nlg_i, nlg_n, ok_0, ok_i, ok_r, ok_l, zi_e, zi_n, zi_t, Nat.reduceEqDiff, Nat.not_le, Nat.reduceLeDiff, if_true, if_false, eq_self, ↓reduceIte, Nat.reduceLT, Nat.le_refl, nle1, nez1, nez2, f8, z8, q, thx mh43 (show 2 < 3 by omega)]
  simp (disch := first | omega | (simp only [nlg_r, nlg_i, nlg_n, ok_0, ok_i, ok_r, ok_l]; done) | assumption | (simp only [List.length_set, List.length_append, List.length_cons, List.length_nil]; omega)) only [r_12_0, r_12_1, r_12_2, r_12_3, r_12_4, r_12_5, r_12_8, r_12_9, r_12_10, r_12_13, r_12_15, r_12_16, r_12_17, r_12_19, r_12_20, r_12_21, r_12_22, hM, c5, aft_v, aft_n, aft_t, gf_0, gf_s, pf_e, tg_e, hp_s, hp_n, hp_2, List.set_cons_zero, List.set_cons_succ, b2i_t, b2i_f, Ret_s, nlg_r, nlg_i, nlg_n, ok_0, ok_i, ok_r, ok_l, zi_e, zi_n, zi_t, Nat.reduceEqDiff, Nat.not_le, Nat.reduceLeDiff, if_true, if_false, eq_self, ↓reduceIte, Nat.reduceLT, Nat.le_refl, nle1, nez1, nez2, e, thy mh12o.2]
  exact ⟨rfl, hx1, hx2, fun z => by cases z⟩
set_option maxRecDepth 20000 in
theorem w_plan (H : CP σ O h) (hL : WL σ) {m g : Nat} (h1 : 1 ≤ m) (h2 : m ≤ 10) (h3 : g ≤ m) (h5 : (σ.2 10).length < 6) : Ret (run (d + 9) 12 0 [.ref 5, .int (nI m), .int (nI g), .ref 34, .null] [] h) (CR h 0 (nI (σ.2 10).length).toInt64 (uc (uc σ 10 (σ.2 10 ++ [m])) 11 (σ.2 11 ++ [g])) O) := by
  have e2 : inR (nI m) 1 10 = true := inR_nI (lo := 1) (hi := 10) h1 h2 (by omega)
  have e3 : inR (nI g) 0 (nI m) = true := inR_nI (lo := 0) (by omega) h3 (by omega)
  obtain ⟨x, ho⟩ := H.o
  obtain ⟨rr, er, es, ep, ra, sa, pa, ⟨k1, ⟨ap, pl, k2⟩, k3, ⟨v0, v1, v2, v3, k4⟩, k5, k6, k7, k8, k9, o, k10⟩, H2⟩ := H
  have hN := H2.1
  have h35 := H2.2.1
  have n3 := H2.2.2.2.2.2.2.2.2.2.2.2.2.2.1
  have z6 := l_size (d := d + 7) H2.2.2.2.2.1
  rw [n3] at z6
  have t6 := H2.2.2.2.2.1.lt hN
  have ter := H2.2.2.2.2.2.2.2.1
  obtain ⟨g0, hg0⟩ : ∃ g0 : MH, g0 = hnew h (5, [.int 0, .int 0]) := ⟨_, rfl⟩
  obtain ⟨g1, hg1⟩ : ∃ g1 : MH, g1 = hput (hput g0 h.2.1 (5, [.int (nI m), .int 0])) h.2.1 (5, [.int (nI m), .int (nI g)]) := ⟨_, rfl⟩
  have gN : HN g1 := by
    rw [hg1, hg0]
    exact (hN.new.put (by show h.2.1 < h.2.1 + 1; omega)).put (by show h.2.1 < h.2.1 + 1; omega)
  have ge : ∀ b, b ≠ h.2.1 → g1.1 b = h.1 b := fun b hb => by
    rw [hg1, hp_n _ _ _ _ hb, hp_n _ _ _ _ hb, hg0]
    exact hn_n _ _ _ hb
  have gs : g1.1 h.2.1 = (5, [.int (nI m), .int (nI g)]) := by rw [hg1]; exact hp_s _ _ _
  have g6 : LA g1 8 ep pa := H2.2.2.2.2.1.keep (ge _ (by omega)) (ge _ (by omega))
  have gE : EL g1 pa := fun y hy => by
    have := H2.el.2.2 y hy
    rw [okE_eq (ge y (by have := okE_lt hN this; omega))]; exact this
  have c53 := c_53 (d := d + 7) (h := g0) (b := h.2.1) (m := nI m) (g := nI g) (by omega) (by rw [hg0]; exact hn_s _ _)
  rw [← hg1] at c53
  have gy : okE g1 (.ref h.2.1) = true := by
    have q5 : 5 ≤ h.2.1 := by omega
    unfold okE; dsimp only; rw [gs]; simp [q5]
  have gh : g1.2 = (h.2.1 + 1, h.2.2 + 2) := by rw [hg1, hg0]; rfl
  have hpl : pa.length < 60 := by omega
  obtain ⟨o1, h', ea, ho1, pN, p1, p2, p3, p4, er', pA, pe, p5⟩ := l_add (d := d) (y := h.2.1) gN (by rw [gh]; show 5 ≤ h.2.1 + 1; omega) (by omega) gE g6 hpl gy
  subst ho1
  rw [gh] at p1 p2 p3 p4 pe
  dsimp only at p1 p2 p3 p4 pe
  have eo : ∀ b, b ≠ 8 → (b = ep → ep < 5) → b < h.2.1 → h'.1 b = h.1 b := fun b b1 b2 b3 => by rw [p4 b b1 b2 (by omega)]; exact ge b (by omega)
  have hC := H2.pln (h' := h') (m := m) (g := g) hL pN (by omega) eo (by rw [p4 _ (by omega) (by omega) (by omega)]; exact gs) pA pe p5
  have z6' := l_size (d := d + 7) pA
  have hl' : (pa ++ [h.2.1]).length = (σ.2 10).length + 1 := by simp [n3]
  rw [hl'] at z6'
  have r5 : h'.1 5 = c5 σ rr := (eo 5 (by omega) (by omega) (by omega)).trans k1
  have r34 : h'.1 34 = (21, [.long x]) := (eo 34 (by omega) (by omega) (by omega)).trans ho
  obtain ⟨m6, c6, f6, -⟩ := H2.2.2.2.2.1
  obtain ⟨m6', c6', f6', -⟩ := pA
  obtain ⟨m6'', c6'', f6'', -⟩ := g6
  have q : ¬ 6 ≤ (σ.2 10).length := by omega
  rw [hg0] at c53
  have eR : run (d + 8) 43 0 [.ref 5, .int (nI m), .int (nI g)] [] h = some (.inl (some (.int (nI (σ.2 10).length))), h') := by
    simp (disch := first | omega | (simp only [nlg_r, nlg_i, nlg_n, ok_0, ok_i, ok_r, ok_l]; done) | assumption | (simp only [List.length_set, List.length_append, List.length_cons, List.length_nil]; omega)) only [r_43_0, r_43_1, r_43_2, r_43_4, r_43_7, r_43_10, r_43_11, r_43_12, r_43_13, r_43_16, r_43_19, r_43_20, r_43_23, r_43_24, r_43_27, r_43_28, r_43_31, r_43_34, r_43_36, r_43_39, r_43_40, r_43_43, r_43_44, r_43_47, r_43_48, r_43_51, r_43_54, r_43_55, r_43_56, r_43_57, r_43_60, r_43_63, r_43_64, r_43_65, r_43_68, r_43_71, r_43_72, r_43_73, k1, c5, c_21, e2, e3, c_26t, c_27t, aft_v, aft_n, aft_t, gf_0, gf_s, pf_e, tg_e, hp_s, hp_n, hp_2, List.set_cons_zero, List.set_cons_succ, b2i_t, b2i_f, Ret_s, nlg_r, nlg_i, nlg_n, ok_0, ok_i, ok_r, ok_l, zi_e, zi_n, zi_t, Nat.reduceEqDiff, Nat.not_le, Nat.reduceLeDiff, if_true, if_false, eq_self, ↓reduceIte, Nat.reduceLT, Nat.le_refl, nle1, nez1, nez2, f6, z6, ei_r, ei_l, ni_r, ni_l, ti_r, ti_l, ai_r, ai_l, si_r, si_l, mi_r, mi_l, di_r, nI_eq, nI_leI, nI_ltI, nI_add, pk_sub, pk_mul, pk_div, pk_rem, nI_l, lN_i, q, c53]
    simp (disch := first | omega | (simp only [nlg_r, nlg_i, nlg_n, ok_0, ok_i, ok_r, ok_l]; done) | assumption | (simp only [List.length_set, List.length_append, List.length_cons, List.length_nil]; omega)) only [r_43_0, r_43_1, r_43_2, r_43_4, r_43_7, r_43_10, r_43_11, r_43_12, r_43_13, r_43_16, r_43_19, r_43_20, r_43_23, r_43_24, r_43_27, r_43_28, r_43_31, r_43_34, r_43_36, r_43_39, r_43_40, r_43_43, r_43_44, r_43_47, r_43_48, r_43_51, r_43_54, r_43_55, r_43_56, r_43_57, r_43_60, r_43_63, r_43_64, r_43_65, r_43_68, r_43_71, r_43_72, r_43_73, aft_v, aft_n, aft_t, gf_0, gf_s, pf_e, tg_e, hp_s, hp_n, hp_2, List.set_cons_zero, List.set_cons_succ, b2i_t, b2i_f, Ret_s, nlg_r, nlg_i, nlg_n, ok_0, ok_i, ok_r, ok_l, zi_e, zi_n, zi_t, Nat.reduceEqDiff, Nat.not_le, Nat.reduceLeDiff, if_true, if_false, eq_self, ↓reduceIte, Nat.reduceLT, Nat.le_refl, nle1, nez1, nez2, f6'', ea, r5, c5, f6', z6', ei_r, ei_l, ni_r, ni_l, ti_r, ti_l, ai_r, ai_l, si_r, si_l, mi_r, mi_l, di_r, nI_eq, nI_leI, nI_ltI, nI_add, pk_sub, pk_mul, pk_div, pk_rem, nI_l, lN_i, Nat.add_sub_cancel]
  simp (disch := first | omega | (simp only [nlg_r, nlg_i, nlg_n, ok_0, ok_i, ok_r, ok_l]; done) | assumption | (simp only [List.length_set, List.length_append, List.length_cons, List.length_nil]; omega)) only [r_12_0, r_12_1, r_12_2, r_12_3, r_12_4, r_12_5, r_12_8, r_12_9, r_12_10, r_12_13, r_12_15, r_12_16, r_12_17, r_12_19, r_12_20, r_12_21, r_12_22, k1, c5, aft_v, aft_n, aft_t, gf_0, gf_s, pf_e, tg_e, hp_s, hp_n, hp_2, List.set_cons_zero, List.set_cons_succ, b2i_t, b2i_f, Ret_s, nlg_r, nlg_i, nlg_n, ok_0, ok_i, ok_r, ok_l, zi_e, zi_n, zi_t, Nat.reduceEqDiff, Nat.not_le, Nat.reduceLeDiff, if_true, if_false, eq_self, ↓reduceIte, Nat.reduceLT, Nat.le_refl, nle1, nez1, nez2, eR, r34, as_o]
  refine ⟨rfl, ⟨rr, er, es, er', ra, sa, pa ++ [h.2.1], ?_, hC.put (by omega) (fun _ _ _ => rfl)⟩, ?_, fun _ => by rw [hp_s]⟩
  · have krr := hN.lt k5 (by decide)
    have s9 := (eo 9 (by omega) (by omega) (by omega)).trans k2
    have s10 := (eo 10 (by omega) (by omega) (by omega)).trans k3
    have s11 := (eo 11 (by omega) (by omega) (by omega)).trans k4
    have srr := (eo rr (by omega) (fun z => by
      obtain ⟨m', c', q1, q2, q3, -⟩ := H2.2.2.2.2.1
      rw [z, q3] at k5; cases k5) krr).trans k5
    have s13 := (eo 13 (by omega) (by omega) (by omega)).trans k7
    have s14 := (eo 14 (by omega) (by omega) (by omega)).trans k8
    have s15 := (eo 15 (by omega) (by omega) (by omega)).trans k9
    refine ⟨?_, ⟨ap, pl, ?_⟩, ?_, ⟨v0, v1, v2, v3, ?_⟩, ?_, k6, ?_, ?_, ?_, _, hp_s _ _ _⟩ <;> simp (disch := first | omega | (simp only [nlg_r, nlg_i, nlg_n, ok_0, ok_i, ok_r, ok_l]; done) | assumption | (simp only [List.length_set, List.length_append, List.length_cons, List.length_nil]; omega)) only [aft_v, aft_n, aft_t, gf_0, gf_s, pf_e, tg_e, hp_s, hp_n, hp_2, List.set_cons_zero, List.set_cons_succ, b2i_t, b2i_f, Ret_s, nlg_r, nlg_i, nlg_n, ok_0, ok_i, ok_r, ok_l, zi_e, zi_n, zi_t, Nat.reduceEqDiff, Nat.not_le, Nat.reduceLeDiff, if_true, if_false, eq_self, ↓reduceIte, Nat.reduceLT, Nat.le_refl, nle1, nez1, nez2, r5, s9, s10, s11, srr, s13, s14, s15, uc_1, uc_2, c5]
  · refine ⟨fun b hb => ?_, ?_, ?_, ?_⟩
    · rw [hp_n _ _ _ _ (by omega)]; exact eo b (by omega) (by omega) (by omega)
    · show h.2.1 ≤ h'.2.1; omega
    · show h'.2.1 ≤ h.2.1 + 5; omega
    · show h'.2.2 ≤ h.2.2 + 1000; omega
end CU
