/-! PLAIN LEAN, 43: a sample is told to the component -/
theorem gD_ins {xs : List Nat} {k y m : Nat} (hk : k ≤ xs.length) : (insA xs k y).getD m 0 = if m < k then xs.getD m 0 else if m = k then y else xs.getD (m - 1) 0 := by
  simp only [insA, List.getD_eq_getElem?_getD, List.getElem?_append, List.length_take]
  rw [Nat.min_eq_left hk]
  by_cases q : m < k
  · rw [if_pos q, if_pos q, List.getElem?_take, if_pos q]
  · rw [if_neg q, if_neg q]
    by_cases q2 : m = k
    · subst q2; simp
    · rw [if_neg q2]
      obtain ⟨j, rfl⟩ : ∃ j, m = k + 1 + j := ⟨m - k - 1, by omega⟩
      have e1 : k + 1 + j - k = j + 1 := by omega
      have e2 : k + 1 + j - 1 = k + j := by omega
      rw [e1, e2, List.getElem?_cons_succ, List.getElem?_drop]
section CW
variable {σ σ' : AS} {O : List Nat} {d er es ep : Nat} {ra sa pa : List Nat} {h h' : MH}
/-- a sample is added -/
theorem CL.smp (H : CL σ O er es ep ra sa pa h) {a y c t k es' : Nat} (hL : WL σ) (hO : ∀ i ∈ O, i < (σ.2 6).length) (hk : k ≤ O.length) (hN : HN h') (hz : h.2.1 + 1 ≤ h'.2.1) (e : ∀ b, b ≠ 7 → (b = es → es < 5) → b < h.2.1 → h'.1 b = h.1 b) (e1 : h'.1 h.2.1 = (4, [.int (nI a), .int (nI y), .int (nI c), .int (nI t)])) (hA : LA h' 7 es' (insA sa k h.2.1)) (he : es' = es ∨ es' = h.2.1 + 1) (h5 : 5 ≤ es') :
    CL (adS σ a y c t) (insA O k (σ.2 6).length) er es' ep ra (insA sa k h.2.1) pa h' := by
  obtain ⟨k1, k2, k3, k4, k5, k6, k7, k8, k9, k10, k11, k12, k13, k14, k15, k16, k17, k18, k19, k20, k21⟩ := H
  have t3 := k3.lt k1
  have t4 := k4.lt k1
  have t5 := k5.lt k1
  have eo : ∀ (b t : Nat) (l : List Value), h.1 b = (t, l) → t ≠ 24 → t ≠ 7 → t ≠ 99 → h'.1 b = h.1 b := fun b t l hb n1 n2 n3 => by
    refine e b (fun z => ?_) (fun z => ?_) (k1.lt hb n3)
    · obtain ⟨m', c', q1, -⟩ := k4; rw [z] at hb; exact absurd (Prod.mk.inj (hb.symm.trans q1)).1 n2
    · obtain ⟨m', c', q1, q2, q3, -⟩ := k4; rw [z] at hb; exact absurd (Prod.mk.inj (hb.symm.trans q3)).1 n1
  have old : ∀ j, j < sa.length → 35 ≤ sa.getD j 0 ∧ h'.1 (sa.getD j 0) = smpC (adS σ a y c t) (O.getD j 0) := fun j hj => by
    obtain ⟨a1, a2⟩ := k17 j hj
    refine ⟨a1, ?_⟩
    rw [eo _ _ _ a2 (by decide) (by decide) (by decide), a2]
    have hi : O.getD j 0 < (σ.2 6).length := hO _ (by rw [List.getD_eq_getElem?_getD, List.getElem?_eq_getElem (by omega)]; exact List.getElem_mem _)
    obtain ⟨s1, s2, s3, s4⟩ := adS_s (a := a) (y := y) (c := c) (t := t) hL hi
    simp only [smpC, s1, s2, s3, s4]
  refine ⟨hN, by omega, k3.keep (e _ (by omega) (by omega) (by omega)) (e _ (by omega) (by omega) (by omega)), hA, k5.keep (e _ (by omega) (by omega) (by omega)) (e _ (by omega) (by omega) (by omega)), k6, by omega, k8, by omega, k10, by omega, k12, ?_, k14, k15, fun j hj => ?_, fun j hj => ?_, fun j hj => ?_, ?_, ?_, ?_⟩
  · rw [insA_len, insA_len, k13]
  · obtain ⟨a1, a2⟩ := k16 j hj
    refine ⟨a1, ?_⟩
    rw [eo _ _ _ a2 (by decide) (by decide) (by decide), a2]
    simp [ropC, adS, uc]
  · rw [insA_len] at hj
    rw [gD_ins (by omega), gD_ins hk]
    by_cases q : j < k
    · rw [if_pos q, if_pos q]; exact old j (by omega)
    · rw [if_neg q, if_neg q]
      by_cases q2 : j = k
      · rw [if_pos q2, if_pos q2]
        refine ⟨k2, ?_⟩
        obtain ⟨s1, s2, s3, s4⟩ := adS_n (a := a) (y := y) (c := c) (t := t) hL
        rw [e1]
        simp only [smpC, s1, s2, s3, s4]
      · rw [if_neg q2, if_neg q2]; exact old (j - 1) (by omega)
  · obtain ⟨a1, a2⟩ := k18 j hj
    refine ⟨a1, ?_⟩
    rw [eo _ _ _ a2 (by decide) (by decide) (by decide), a2]
    simp [plnC, adS, uc]
  · rw [e _ (by omega) (by omega) (by omega)]; exact k19
  · rw [e _ (by omega) (by omega) (by omega)]; exact k20
  · rw [e _ (by omega) (by omega) (by omega)]; exact k21
theorem mh8o : (hnd 8 9 (40 + 0) = some (some 17) ∧ hnd 8 9 (40 + 1) = some (some 21)) ∧ hnd 8 9 (40 + 2) = some (some 25) := by decide +kernel
theorem w_sample1 (H : CP σ O h) {a y c t : Int32} (hc : inR a 0 3 = false) : Ret (run (d + 4) 8 0 [.ref 5, .int a, .int y, .int c, .int t, .ref 34, .null] [] h) (CR h 1 0 σ O) := by
  obtain ⟨hx1, hx2, hN, h35⟩ := H.x 0
  obtain ⟨rr, hM⟩ := H.c5
  have e : run (d + 3) 39 0 [.ref 5, .int a, .int y, .int c, .int t, .null, .null] [] h = some (.inr h.2.1, hx 0 h) := by
    simp (disch := first | omega | (simp only [nlg_r, nlg_i, nlg_n, ok_0, ok_i, ok_r, ok_l]; done) | assumption | (simp only [List.length_set, List.length_append, List.length_cons, List.length_nil]; omega)) only [r_39_0, r_39_1, r_39_4, r_39_7, r_39_8, r_39_9, r_39_12, r_39_15, r_39_18, r_39_19, r_39_20, r_39_22, r_39_25, r_39_28, r_39_30, r_39_31, r_39_34, r_39_37, r_39_40, r_39_41, r_39_44, r_39_45, r_39_48, r_39_49, r_39_52, r_39_55, r_39_57, r_39_60, r_39_61, r_39_64, r_39_65, r_39_68, c_24, hc, c_25f, aft_v, aft_n, aft_t, gf_0, gf_s, pf_e, tg_e, hp_s, hp_n, hp_2, List.set_cons_zero, List.set_cons_succ, b2i_t, b2i_f, Ret_s, nlg_r, nlg_i, nlg_n, ok_0, ok_i, ok_r, ok_l, zi_e, zi_n, zi_t, Nat.reduceEqDiff, Nat.not_le, Nat.reduceLeDiff, if_true, if_false, eq_self, ↓reduceIte, Nat.reduceLT, Nat.le_refl, nle1, nez1, nez2, thx mh39 (show 0 < 3 by omega)]
  simp (disch := first | omega | (simp only [nlg_r, nlg_i, nlg_n, ok_0, ok_i, ok_r, ok_l]; done) | assumption | (simp only [List.length_set, List.length_append, List.length_cons, List.length_nil]; omega)) only [r_8_0, r_8_2, r_8_3, r_8_4, r_8_5, r_8_6, r_8_7, r_8_9, r_8_12, r_8_13, r_8_14, r_8_17, r_8_19, r_8_20, r_8_21, r_8_23, r_8_24, r_8_25, r_8_27, r_8_28, r_8_29, r_8_30, hM, c5, aft_v, aft_n, aft_t, gf_0, gf_s, pf_e, tg_e, hp_s, hp_n, hp_2, List.set_cons_zero, List.set_cons_succ, b2i_t, b2i_f, Ret_s, nlg_r, nlg_i, nlg_n, ok_0, ok_i, ok_r, ok_l, zi_e, zi_n, zi_t, Nat.reduceEqDiff, Nat.not_le, Nat.reduceLeDiff, if_true, if_false, eq_self, ↓reduceIte, Nat.reduceLT, Nat.le_refl, nle1, nez1, nez2, e, thy mh8o.1.1]
  exact ⟨rfl, hx1, hx2, fun z => by cases z⟩
theorem w_sample2 (H : CP σ O h) {a y c t : Int32} (h1 : inR a 0 3 = true) (hc : (inR y 0 400 && inR c 0 100000 && inR t y 400) = false) : Ret (run (d + 4) 8 0 [.ref 5, .int a, .int y, .int c, .int t, .ref 34, .null] [] h) (CR h 2 0 σ O) := by
  obtain ⟨hx1, hx2, hN, h35⟩ := H.x 1
  obtain ⟨rr, hM⟩ := H.c5
  have e : run (d + 3) 39 0 [.ref 5, .int a, .int y, .int c, .int t, .null, .null] [] h = some (.inr h.2.1, hx 1 h) := by
    cases e1 : inR y 0 400 <;> cases e2 : inR c 0 100000 <;> cases e3 : inR t y 400 <;> simp only [e1, e2, e3, Bool.and_self, Bool.and_false, Bool.false_and, Bool.and_true, Bool.true_and, reduceCtorEq] at hc
    all_goals simp (disch := first | omega | (simp only [nlg_r, nlg_i, nlg_n, ok_0, ok_i, ok_r, ok_l]; done) | assumption | (simp only [List.length_set, List.length_append, List.length_cons, List.length_nil]; omega)) only [r_39_0, r_39_1, r_39_4, r_39_7, r_39_8, r_39_9, r_39_12, r_39_15, r_39_18, r_39_19, r_39_20, r_39_22, r_39_25, r_39_28, r_39_30, r_39_31, r_39_34, r_39_37, r_39_40, r_39_41, r_39_44, r_39_45, r_39_48, r_39_49, r_39_52, r_39_55, r_39_57, r_39_60, r_39_61, r_39_64, r_39_65, r_39_68, c_21, c_24, h1, e1, e2, e3, c_25t, c_26f, aft_v, aft_n, aft_t, gf_0, gf_s, pf_e, tg_e, hp_s, hp_n, hp_2, List.set_cons_zero, List.set_cons_succ, b2i_t, b2i_f, Ret_s, nlg_r, nlg_i, nlg_n, ok_0, ok_i, ok_r, ok_l, zi_e, zi_n, zi_t, Nat.reduceEqDiff, Nat.not_le, Nat.reduceLeDiff, if_true, if_false, eq_self, ↓reduceIte, Nat.reduceLT, Nat.le_refl, nle1, nez1, nez2, thx mh39 (show 1 < 3 by omega)]
  simp (disch := first | omega | (simp only [nlg_r, nlg_i, nlg_n, ok_0, ok_i, ok_r, ok_l]; done) | assumption | (simp only [List.length_set, List.length_append, List.length_cons, List.length_nil]; omega)) only [r_8_0, r_8_2, r_8_3, r_8_4, r_8_5, r_8_6, r_8_7, r_8_9, r_8_12, r_8_13, r_8_14, r_8_17, r_8_19, r_8_20, r_8_21, r_8_23, r_8_24, r_8_25, r_8_27, r_8_28, r_8_29, r_8_30, hM, c5, aft_v, aft_n, aft_t, gf_0, gf_s, pf_e, tg_e, hp_s, hp_n, hp_2, List.set_cons_zero, List.set_cons_succ, b2i_t, b2i_f, Ret_s, nlg_r, nlg_i, nlg_n, ok_0, ok_i, ok_r, ok_l, zi_e, zi_n, zi_t, Nat.reduceEqDiff, Nat.not_le, Nat.reduceLeDiff, if_true, if_false, eq_self, ↓reduceIte, Nat.reduceLT, Nat.le_refl, nle1, nez1, nez2, e, thy mh8o.1.2]
  exact ⟨rfl, hx1, hx2, fun z => by cases z⟩
theorem w_sample3 (H : CP σ O h) {a y c t : Int32} (h1 : inR a 0 3 = true) (hc : (inR y 0 400 && inR c 0 100000 && inR t y 400) = true) (h4 : O.length = 60) : Ret (run (d + 4) 8 0 [.ref 5, .int a, .int y, .int c, .int t, .ref 34, .null] [] h) (CR h 3 0 σ O) := by
  obtain ⟨hx1, hx2, hN, h35⟩ := H.x 2
  obtain ⟨rr, er, es, ep, ra, sa, pa, H1, H2⟩ := H
  have z7 := l_size (d := d + 2) H2.2.2.2.1
  have n2 := H2.2.2.2.2.2.2.2.2.2.2.2.2.1
  rw [n2, h4] at z7
  obtain ⟨m7, c7, f7, -⟩ := H2.2.2.2.1
  have hM := H1.1
  have q : (60 : Int32) ≤ nI 60 := by decide
  simp only [Bool.and_eq_true] at hc
  obtain ⟨⟨e1, e2⟩, e3⟩ := hc
  have e : run (d + 3) 39 0 [.ref 5, .int a, .int y, .int c, .int t, .null, .null] [] h = some (.inr h.2.1, hx 2 h) := by
    simp (disch := first | omega | (simp only [nlg_r, nlg_i, nlg_n, ok_0, ok_i, ok_r, ok_l]; done) | assumption | (simp only [List.length_set, List.length_append, List.length_cons, List.length_nil]; omega)) only [r_39_0, r_39_1, r_39_4, r_39_7, r_39_8, r_39_9, r_39_12, r_39_15, r_39_18, r_39_19, r_39_20, r_39_22, r_39_25, r_39_28, r_39_30, r_39_31, r_39_34, r_39_37, r_39_40, r_39_41, r_39_44, r_39_45, r_39_48, r_39_49, r_39_52, r_39_55, r_39_57, r_39_60, r_39_61, r_39_64, r_39_65, r_39_68, hM, c5, c_21, c_24, h1, e1, e2, e3, c_25t, c_26t, c_27f, aft_v, aft_n, aft_t, gf_0, gf_s, pf_e, tg_e, hp_s, hp_n, hp_2, List.set_cons_zero, List.set_cons_succ, b2i_t, b2i_f, Ret_s, nlg_r, nlg_i, nlg_n, ok_0, ok_i, ok_r, ok_l, zi_e, zi_n, zi_t, Nat.reduceEqDiff, Nat.not_le, Nat.reduceLeDiff, if_true, if_false, eq_self, ↓reduceIte, Nat.reduceLT, Nat.le_refl, nle1, nez1, nez2, f7, z7, q, thx mh39 (show 2 < 3 by omega)]
  simp (disch := first | omega | (simp only [nlg_r, nlg_i, nlg_n, ok_0, ok_i, ok_r, ok_l]; done) | assumption | (simp only [List.length_set, List.length_append, List.length_cons, List.length_nil]; omega)) only [r_8_0, r_8_2, r_8_3, r_8_4, r_8_5, r_8_6, r_8_7, r_8_9, r_8_12, r_8_13, r_8_14, r_8_17, r_8_19, r_8_20, r_8_21, r_8_23, r_8_24, r_8_25, r_8_27, r_8_28, r_8_29, r_8_30, hM, c5, aft_v, aft_n, aft_t, gf_0, gf_s, pf_e, tg_e, hp_s, hp_n, hp_2, List.set_cons_zero, List.set_cons_succ, b2i_t, b2i_f, Ret_s, nlg_r, nlg_i, nlg_n, ok_0, ok_i, ok_r, ok_l, zi_e, zi_n, zi_t, Nat.reduceEqDiff, Nat.not_le, Nat.reduceLeDiff, if_true, if_false, eq_self, ↓reduceIte, Nat.reduceLT, Nat.le_refl, nle1, nez1, nez2, e, thy mh8o.2]
  exact ⟨rfl, hx1, hx2, fun z => by cases z⟩
set_option maxRecDepth 20000 in
theorem w_sample (H : CP σ O h) (hL : WL σ) (hV : WV σ) (hO : ∀ i ∈ O, i < (σ.2 6).length) (hn : O.length = (σ.2 6).length) {a y c t : Nat} (h1 : a ≤ 3) (h2 : y ≤ 400) (h3 : c ≤ 100000) (h4 : y ≤ t) (h5 : t ≤ 400) (h6 : (σ.2 6).length < 60) : Ret (run (d + 9) 8 0 [.ref 5, .int (nI a), .int (nI y), .int (nI c), .int (nI t), .ref 34, .null] [] h) (CR h 0 (nI ((σ.2 6).length + 1)).toInt64 (adS σ a y c t) (insA O (posS σ y t O O.length) (σ.2 6).length)) := by
  have e1 : inR (nI a) 0 3 = true := inR_nI (lo := 0) (hi := 3) (by omega) h1 (by omega)
  have e2 : inR (nI y) 0 400 = true := inR_nI (lo := 0) (hi := 400) (by omega) h2 (by omega)
  have e3 : inR (nI c) 0 100000 = true := inR_nI (lo := 0) (hi := 100000) (by omega) h3 (by omega)
  have e4 : inR (nI t) (nI y) 400 = true := inR_nI (lo := y) (hi := 400) h4 h5 (by omega)
  obtain ⟨x, ho⟩ := H.o
  obtain ⟨rr, er, es, ep, ra, sa, pa, ⟨k1, ⟨ap, pl, k2⟩, k3, ⟨v0, v1, v2, v3, k4⟩, k5, k6, k7, k8, k9, o, k10⟩, H2⟩ := H
  have hN := H2.1
  have h35 := H2.2.1
  have n2 := H2.2.2.2.2.2.2.2.2.2.2.2.2.1
  have z6 := l_size (d := d + 7) H2.2.2.2.1
  rw [n2] at z6
  have t6 := H2.2.2.2.1.lt hN
  have ter := H2.2.2.2.2.2.2.1
  have k17 := H2.2.2.2.2.2.2.2.2.2.2.2.2.2.2.2.2.1
  obtain ⟨g0, hg0⟩ : ∃ g0 : MH, g0 = hnew h (4, [.int 0, .int 0, .int 0, .int 0]) := ⟨_, rfl⟩
  obtain ⟨g1, hg1⟩ : ∃ g1 : MH, g1 = hput (hput (hput (hput g0 h.2.1 (4, [.int (nI a), .int 0, .int 0, .int 0])) h.2.1 (4, [.int (nI a), .int (nI y), .int 0, .int 0])) h.2.1 (4, [.int (nI a), .int (nI y), .int (nI c), .int 0])) h.2.1 (4, [.int (nI a), .int (nI y), .int (nI c), .int (nI t)]) := ⟨_, rfl⟩
  have gN : HN g1 := by
    rw [hg1, hg0]
    exact (((hN.new.put (by show h.2.1 < h.2.1 + 1; omega)).put (by show h.2.1 < h.2.1 + 1; omega)).put (by show h.2.1 < h.2.1 + 1; omega)).put (by show h.2.1 < h.2.1 + 1; omega)
  have ge : ∀ b, b ≠ h.2.1 → g1.1 b = h.1 b := fun b hb => by
    rw [hg1, hp_n _ _ _ _ hb, hp_n _ _ _ _ hb, hp_n _ _ _ _ hb, hp_n _ _ _ _ hb, hg0]
    exact hn_n _ _ _ hb
  have gs : g1.1 h.2.1 = (4, [.int (nI a), .int (nI y), .int (nI c), .int (nI t)]) := by rw [hg1]; exact hp_s _ _ _
  have g6 : LA g1 7 es sa := H2.2.2.2.1.keep (ge _ (by omega)) (ge _ (by omega))
  have gE : EL g1 sa := fun y hy => by
    have := H2.el.2.1 y hy
    rw [okE_eq (ge y (by have := okE_lt hN this; omega))]; exact this
  have c69 := c_69 (d := d + 7) (h := g0) (b := h.2.1) (a := nI a) (y := nI y) (c := nI c) (t := nI t) (by omega) (by rw [hg0]; exact hn_s _ _)
  rw [← hg1] at c69
  have gy : okE g1 (.ref h.2.1) = true := by
    have q5 : 5 ≤ h.2.1 := by omega
    unfold okE; dsimp only; rw [gs]; simp [q5]
  have gh : g1.2 = (h.2.1 + 1, h.2.2 + 4) := by rw [hg1, hg0]; rfl
  have g5 : g1.1 5 = c5 σ rr := (ge 5 (by omega)).trans k1
  have gz := l_size (d := d + 7) g6
  rw [n2] at gz
  have hp := posS_le (σ := σ) (O := O) (y := y) (t := t) O.length
  have lp := c_39l (d := d + 5) (h := g1) (O := O) (x0 := .int (nI a)) (x1 := .null) (x2 := .int (nI c)) (x3 := .null) (x4 := .null) (a0 := nI a) (a2 := nI c) g5 gs g6 n2 (fun j hj => by
    obtain ⟨a1, a2⟩ := k17 j hj
    have := hN.lt (show h.1 (sa.getD j 0) = (4, _) from a2) (by decide)
    exact ⟨a1, by rw [ge _ (by omega)]; exact a2⟩) hV h2 h5 (by omega) O.length (Nat.le_refl _)
  obtain ⟨o1, h', ea, ho1, pN, p1, p2, p3, p4, er', pA, pe, p5⟩ := l_ins (d := d) (y := h.2.1) (k := posS σ y t O O.length) gN (by rw [gh]; show 5 ≤ h.2.1 + 1; omega) (by omega) gE g6 (by omega) (by omega) gy
  subst ho1
  rw [gh] at p1 p2 p3 p4 pe
  dsimp only at p1 p2 p3 p4 pe
  have eo : ∀ b, b ≠ 7 → (b = es → es < 5) → b < h.2.1 → h'.1 b = h.1 b := fun b b1 b2 b3 => by rw [p4 b b1 b2 (by omega)]; exact ge b (by omega)
  have hC := H2.smp (h' := h') (a := a) (y := y) (c := c) (t := t) hL hO hp pN (by omega) eo (by rw [p4 _ (by omega) (by omega) (by omega)]; exact gs) pA pe p5
  have z6' := l_size (d := d + 7) pA
  rw [insA_len, n2, hn] at z6'
  have r5 : h'.1 5 = c5 σ rr := (eo 5 (by omega) (by omega) (by omega)).trans k1
  have r34 : h'.1 34 = (21, [.long x]) := (eo 34 (by omega) (by omega) (by omega)).trans ho
  obtain ⟨m6, c6, f6, -⟩ := H2.2.2.2.1
  obtain ⟨m6', c6', f6', -⟩ := pA
  obtain ⟨m6'', c6'', f6'', -⟩ := g6
  have q : ¬ 60 ≤ O.length := by omega
  rw [hg0] at c69
  have eR : run (d + 8) 39 0 [.ref 5, .int (nI a), .int (nI y), .int (nI c), .int (nI t), .null, .null] [] h = some (.inl (some (.int (nI ((σ.2 6).length + 1)))), h') := by
    have eA : run (d + 8) 39 0 [.ref 5, .int (nI a), .int (nI y), .int (nI c), .int (nI t), .null, .null] [] h = run (d + 8) 39 91 [.ref 5, .int (nI a), .int (nI y), .int (nI c), .int (nI t), .ref h.2.1, .int (nI O.length)] [] g1 := by
      simp (disch := first | omega | (simp only [nlg_r, nlg_i, nlg_n, ok_0, ok_i, ok_r, ok_l]; done) | assumption | (simp only [List.length_set, List.length_append, List.length_cons, List.length_nil]; omega)) only [r_39_0, r_39_1, r_39_4, r_39_7, r_39_8, r_39_9, r_39_12, r_39_15, r_39_18, r_39_19, r_39_20, r_39_22, r_39_25, r_39_28, r_39_30, r_39_31, r_39_34, r_39_37, r_39_40, r_39_41, r_39_44, r_39_45, r_39_48, r_39_49, r_39_52, r_39_55, r_39_57, r_39_60, r_39_61, r_39_64, r_39_65, r_39_68, r_39_71, r_39_72, r_39_73, r_39_74, r_39_75, r_39_77, k1, c5, c_21, c_24, e1, e2, e3, e4, c_25t, c_26t, c_27t, aft_v, aft_n, aft_t, gf_0, gf_s, pf_e, tg_e, hp_s, hp_n, hp_2, List.set_cons_zero, List.set_cons_succ, b2i_t, b2i_f, Ret_s, nlg_r, nlg_i, nlg_n, ok_0, ok_i, ok_r, ok_l, zi_e, zi_n, zi_t, Nat.reduceEqDiff, Nat.not_le, Nat.reduceLeDiff, if_true, if_false, eq_self, ↓reduceIte, Nat.reduceLT, Nat.le_refl, nle1, nez1, nez2, f6, z6, ei_r, ei_l, ni_r, ni_l, ti_r, ti_l, ai_r, ai_l, si_r, si_l, mi_r, mi_l, di_r, nI_eq, nI_leI, nI_ltI, nI_add, pk_sub, pk_mul, pk_div, pk_rem, nI_l, lN_i, q, c69]
      simp (disch := first | omega | (simp only [nlg_r, nlg_i, nlg_n, ok_0, ok_i, ok_r, ok_l]; done) | assumption | (simp only [List.length_set, List.length_append, List.length_cons, List.length_nil]; omega)) only [r_39_80, r_39_82, r_39_83, r_39_86, r_39_89, g5, c5, aft_v, aft_n, aft_t, gf_0, gf_s, pf_e, tg_e, hp_s, hp_n, hp_2, List.set_cons_zero, List.set_cons_succ, b2i_t, b2i_f, Ret_s, nlg_r, nlg_i, nlg_n, ok_0, ok_i, ok_r, ok_l, zi_e, zi_n, zi_t, Nat.reduceEqDiff, Nat.not_le, Nat.reduceLeDiff, if_true, if_false, eq_self, ↓reduceIte, Nat.reduceLT, Nat.le_refl, nle1, nez1, nez2, f6'', gz]
    rw [eA, lp]
    simp (disch := first | omega | (simp only [nlg_r, nlg_i, nlg_n, ok_0, ok_i, ok_r, ok_l]; done) | assumption | (simp only [List.length_set, List.length_append, List.length_cons, List.length_nil]; omega)) only [r_39_124, r_39_125, r_39_128, r_39_130, r_39_132, r_39_135, r_39_136, r_39_139, r_39_142, g5, c5, aft_v, aft_n, aft_t, gf_0, gf_s, pf_e, tg_e, hp_s, hp_n, hp_2, List.set_cons_zero, List.set_cons_succ, b2i_t, b2i_f, Ret_s, nlg_r, nlg_i, nlg_n, ok_0, ok_i, ok_r, ok_l, zi_e, zi_n, zi_t, Nat.reduceEqDiff, Nat.not_le, Nat.reduceLeDiff, if_true, if_false, eq_self, ↓reduceIte, Nat.reduceLT, Nat.le_refl, nle1, nez1, nez2, f6'', ea, r5, f6', z6']
  simp (disch := first | omega | (simp only [nlg_r, nlg_i, nlg_n, ok_0, ok_i, ok_r, ok_l]; done) | assumption | (simp only [List.length_set, List.length_append, List.length_cons, List.length_nil]; omega)) only [r_8_0, r_8_2, r_8_3, r_8_4, r_8_5, r_8_6, r_8_7, r_8_9, r_8_12, r_8_13, r_8_14, r_8_17, r_8_19, r_8_20, r_8_21, r_8_23, r_8_24, r_8_25, r_8_27, r_8_28, r_8_29, r_8_30, k1, c5, aft_v, aft_n, aft_t, gf_0, gf_s, pf_e, tg_e, hp_s, hp_n, hp_2, List.set_cons_zero, List.set_cons_succ, b2i_t, b2i_f, Ret_s, nlg_r, nlg_i, nlg_n, ok_0, ok_i, ok_r, ok_l, zi_e, zi_n, zi_t, Nat.reduceEqDiff, Nat.not_le, Nat.reduceLeDiff, if_true, if_false, eq_self, ↓reduceIte, Nat.reduceLT, Nat.le_refl, nle1, nez1, nez2, eR, r34, as_o]
  refine ⟨rfl, ⟨rr, er, er', ep, ra, insA sa (posS σ y t O O.length) h.2.1, pa, ?_, hC.put (by omega) (fun _ _ _ => rfl)⟩, ?_, fun _ => by rw [hp_s]⟩
  · have krr := hN.lt k5 (by decide)
    have s9 := (eo 9 (by omega) (by omega) (by omega)).trans k2
    have s10 := (eo 10 (by omega) (by omega) (by omega)).trans k3
    have s11 := (eo 11 (by omega) (by omega) (by omega)).trans k4
    have srr := (eo rr (by omega) (fun z => by
      obtain ⟨m', c', q1, q2, q3, -⟩ := H2.2.2.2.1
      rw [z, q3] at k5; cases k5) krr).trans k5
    have s13 := (eo 13 (by omega) (by omega) (by omega)).trans k7
    have s14 := (eo 14 (by omega) (by omega) (by omega)).trans k8
    have s15 := (eo 15 (by omega) (by omega) (by omega)).trans k9
    refine ⟨?_, ⟨ap, pl, ?_⟩, ?_, ⟨v0, v1, v2, v3, ?_⟩, ?_, k6, ?_, ?_, ?_, _, hp_s _ _ _⟩ <;> simp (disch := first | omega | (simp only [nlg_r, nlg_i, nlg_n, ok_0, ok_i, ok_r, ok_l]; done) | assumption | (simp only [List.length_set, List.length_append, List.length_cons, List.length_nil]; omega)) only [aft_v, aft_n, aft_t, gf_0, gf_s, pf_e, tg_e, hp_s, hp_n, hp_2, List.set_cons_zero, List.set_cons_succ, b2i_t, b2i_f, Ret_s, nlg_r, nlg_i, nlg_n, ok_0, ok_i, ok_r, ok_l, zi_e, zi_n, zi_t, Nat.reduceEqDiff, Nat.not_le, Nat.reduceLeDiff, if_true, if_false, eq_self, ↓reduceIte, Nat.reduceLT, Nat.le_refl, nle1, nez1, nez2, r5, s9, s10, s11, srr, s13, s14, s15, adS, uc_1, uc_2, c5]
  · refine ⟨fun b hb => ?_, ?_, ?_, ?_⟩
    · rw [hp_n _ _ _ _ (by omega)]; exact eo b (by omega) (by omega) (by omega)
    · show h.2.1 ≤ h'.2.1; omega
    · show h'.2.1 ≤ h.2.1 + 5; omega
    · show h'.2.2 ≤ h.2.2 + 1000; omega
end CW
