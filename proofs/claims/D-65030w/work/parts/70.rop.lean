/-! PLAIN LEAN, 31: ropes in the component -/
theorem gD_app {l : List Nat} {x k : Nat} (h : k < l.length) : (l ++ [x]).getD k 0 = l.getD k 0 := by simp [List.getD_eq_getElem?_getD, List.getElem?_append, h]
theorem gD_last {l : List Nat} {x : Nat} : (l ++ [x]).getD l.length 0 = x := by simp [List.getD_eq_getElem?_getD]
section CG
variable {σ σ' : AS} {O : List Nat} {d er es ep : Nat} {ra sa pa : List Nat} {h h' : MH}
theorem c_64 {b : Nat} {m g a : Int32} (hb : 5 ≤ b) (e : h.1 b = (3, [.int 0, .int 0, .int 0, .int 0, .long 0])) : run d 64 0 [.ref b, .int m, .int g, .int a] [] h = some (.inl none, hput (hput (hput h b (3, [.int m, .int 0, .int 0, .int 0, .long 0])) b (3, [.int m, .int 0, .int g, .int 0, .long 0])) b (3, [.int m, .int a, .int g, .int 0, .long 0])) := by
  simp (disch := first | omega | (simp only [nlg_r, nlg_i, nlg_n, ok_0, ok_i, ok_r, ok_l]; done) | assumption | (simp only [List.length_set, List.length_append, List.length_cons, List.length_nil]; omega)) only [r_64_0, r_64_1, r_64_4, r_64_5, r_64_6, r_64_9, r_64_10, r_64_11, r_64_14, r_64_15, r_64_16, r_64_19, e, aft_v, aft_n, aft_t, gf_0, gf_s, pf_e, tg_e, hp_s, hp_n, hp_2, List.set_cons_zero, List.set_cons_succ, b2i_t, b2i_f, Ret_s, nlg_r, nlg_i, nlg_n, ok_0, ok_i, ok_r, ok_l, zi_e, zi_n, zi_t, Nat.reduceEqDiff, Nat.not_le, Nat.reduceLeDiff, if_true, if_false, eq_self, ↓reduceIte, Nat.reduceLT, Nat.le_refl, nle1, nez1, nez2]
theorem CL.el (H : CL σ O er es ep ra sa pa h) : EL h ra ∧ EL h sa ∧ EL h pa := by
  obtain ⟨k1, k2, k3, k4, k5, k6, k7, k8, k9, k10, k11, k12, k13, k14, k15, k16, k17, k18, -⟩ := H
  refine ⟨fun x hx => ?_, fun x hx => ?_, fun x hx => ?_⟩
  · obtain ⟨k, hk, rfl⟩ := List.getElem_of_mem hx
    obtain ⟨a1, a2⟩ := k16 k hk
    have this : ra.getD k 0 = ra[k] := by simp [List.getD_eq_getElem?_getD, hk]
    have a3 : 5 ≤ ra.getD k 0 := by omega
    rw [this] at a2 a3
    simp [okE, a2, ropC, a3]
  · obtain ⟨k, hk, rfl⟩ := List.getElem_of_mem hx
    obtain ⟨a1, a2⟩ := k17 k hk
    have this : sa.getD k 0 = sa[k] := by simp [List.getD_eq_getElem?_getD, hk]
    have a3 : 5 ≤ sa.getD k 0 := by omega
    rw [this] at a2 a3
    simp [okE, a2, smpC, a3]
  · obtain ⟨k, hk, rfl⟩ := List.getElem_of_mem hx
    obtain ⟨a1, a2⟩ := k18 k hk
    have this : pa.getD k 0 = pa[k] := by simp [List.getD_eq_getElem?_getD, hk]
    have a3 : 5 ≤ pa.getD k 0 := by omega
    rw [this] at a2 a3
    simp [okE, a2, plnC, a3]
/-- a rope is added -/
theorem CL.rope (H : CL σ O er es ep ra sa pa h) {m g a er' : Nat} (hL : WL σ) (hN : HN h') (hz : h.2.1 + 1 ≤ h'.2.1) (e : ∀ b, b ≠ 6 → (b = er → er < 5) → b < h.2.1 → h'.1 b = h.1 b) (e1 : h'.1 h.2.1 = (3, [.int (nI m), .int (nI a), .int (nI g), .int 0, .long 0])) (hA : LA h' 6 er' (ra ++ [h.2.1])) (he : er' = er ∨ er' = h.2.1 + 1) (h5 : 5 ≤ er') :
    CL (uc (uc (uc (uc (uc σ 1 (σ.2 1 ++ [m])) 2 (σ.2 2 ++ [a])) 3 (σ.2 3 ++ [g])) 4 (σ.2 4 ++ [0])) 5 (σ.2 5 ++ [0])) O er' es ep (ra ++ [h.2.1]) sa pa h' := by
  obtain ⟨l1, l2, l3, l4, l5, -⟩ := hL
  obtain ⟨k1, k2, k3, k4, k5, k6, k7, k8, k9, k10, k11, k12, k13, k14, k15, k16, k17, k18, k19, k20, k21⟩ := H
  have t3 := k3.lt k1
  have t4 := k4.lt k1
  have t5 := k5.lt k1
  have eo : ∀ (b t : Nat) (l : List Value), h.1 b = (t, l) → t ≠ 24 → t ≠ 7 → t ≠ 99 → h'.1 b = h.1 b := fun b t l hb n1 n2 n3 => by
    refine e b (fun z => ?_) (fun z => ?_) (k1.lt hb n3)
    · obtain ⟨m', c', q1, -⟩ := k3; rw [z] at hb; exact absurd (Prod.mk.inj (hb.symm.trans q1)).1 n2
    · obtain ⟨m', c', q1, q2, q3, -⟩ := k3; rw [z] at hb; exact absurd (Prod.mk.inj (hb.symm.trans q3)).1 n1
  refine ⟨hN, by omega, hA, k4.keep (e _ (by omega) (by omega) (by omega)) (e _ (by omega) (by omega) (by omega)), k5.keep (e _ (by omega) (by omega) (by omega)) (e _ (by omega) (by omega) (by omega)), by omega, k7, k8, by omega, by omega, k11, ?_, k13, k14, ?_, fun k hk => ?_, fun k hk => ?_, fun k hk => ?_, ?_, ?_, ?_⟩
  · simp [uc, k12]
  · rw [List.nodup_append]
    refine ⟨k15, by simp, fun x hx y hy => ?_⟩
    obtain ⟨k, hk, rfl⟩ := List.getElem_of_mem hx
    obtain ⟨a1, a2⟩ := k16 k hk
    have e2 : ra.getD k 0 = ra[k] := by simp [List.getD_eq_getElem?_getD, hk]
    rw [e2] at a2
    have := k1.lt (show h.1 ra[k] = (3, _) from a2) (by decide)
    simp at hy
    omega
  · simp only [List.length_append, List.length_cons, List.length_nil] at hk
    by_cases q : k < ra.length
    · obtain ⟨a1, a2⟩ := k16 k q
      rw [gD_app q]
      refine ⟨a1, ?_⟩
      rw [eo _ _ _ a2 (by decide) (by decide) (by decide), a2]
      simp only [ropC, uc_2, Nat.reduceEqDiff, if_true, if_false]
      rw [gD_app (by omega), gD_app (by omega), gD_app (by omega), gD_app (by omega), gD_app (by omega)]
    · have q2 : k = ra.length := by omega
      subst q2
      rw [gD_last]
      refine ⟨k2, ?_⟩
      rw [e1]
      simp only [ropC, uc_2, Nat.reduceEqDiff, if_true, if_false]
      rw [k12, gD_last, ← l2, gD_last, l2, ← l3, gD_last, l3, ← l4, gD_last, l4, ← l5, gD_last]
      rfl
  · obtain ⟨a1, a2⟩ := k17 k hk
    refine ⟨a1, ?_⟩
    rw [eo _ _ _ a2 (by decide) (by decide) (by decide), a2]
    simp [smpC, sA, sD, sC, sT, uc]
  · obtain ⟨a1, a2⟩ := k18 k hk
    refine ⟨a1, ?_⟩
    rw [eo _ _ _ a2 (by decide) (by decide) (by decide), a2]
    simp [plnC, uc]
  · rw [e _ (by omega) (by omega) (by omega)]; exact k19
  · rw [e _ (by omega) (by omega) (by omega)]; exact k20
  · rw [e _ (by omega) (by omega) (by omega)]; exact k21
theorem mh1o : (hnd 1 7 (40 + 0) = some (some 15) ∧ hnd 1 7 (40 + 1) = some (some 19)) ∧ hnd 1 7 (40 + 2) = some (some 23) := by decide +kernel
theorem w_rope1 (H : CP σ O h) {m g a : Int32} (hc : inR a 0 3 = false) : Ret (run (d + 4) 1 0 [.ref 5, .int m, .int g, .int a, .ref 34, .null] [] h) (CR h 1 0 σ O) := by
  obtain ⟨hx1, hx2, hN, h35⟩ := H.x 0
  obtain ⟨rr, hM⟩ := H.c5
  have e : run (d + 3) 23 0 [.ref 5, .int m, .int g, .int a] [] h = some (.inr h.2.1, hx 0 h) := by
    simp (disch := first | omega | (simp only [nlg_r, nlg_i, nlg_n, ok_0, ok_i, ok_r, ok_l]; done) | assumption | (simp only [List.length_set, List.length_append, List.length_cons, List.length_nil]; omega)) only [r_23_0, r_23_1, r_23_4, r_23_7, r_23_8, r_23_9, r_23_12, r_23_15, r_23_18, r_23_19, r_23_20, r_23_23, r_23_26, r_23_29, r_23_30, r_23_33, r_23_34, r_23_37, r_23_38, r_23_41, r_23_44, r_23_46, r_23_49, r_23_50, r_23_53, r_23_54, r_23_57, r_23_58, r_23_61, r_23_64, r_23_65, r_23_66, r_23_67, r_23_68, r_23_71, r_23_74, r_23_75, r_23_76, r_23_79, r_23_82, r_23_83, r_23_84, c_24, hc, c_25f, aft_v, aft_n, aft_t, gf_0, gf_s, pf_e, tg_e, hp_s, hp_n, hp_2, List.set_cons_zero, List.set_cons_succ, b2i_t, b2i_f, Ret_s, nlg_r, nlg_i, nlg_n, ok_0, ok_i, ok_r, ok_l, zi_e, zi_n, zi_t, Nat.reduceEqDiff, Nat.not_le, Nat.reduceLeDiff, if_true, if_false, eq_self, ↓reduceIte, Nat.reduceLT, Nat.le_refl, nle1, nez1, nez2, thx mh23 (show 0 < 3 by omega)]
  simp (disch := first | omega | (simp only [nlg_r, nlg_i, nlg_n, ok_0, ok_i, ok_r, ok_l]; done) | assumption | (simp only [List.length_set, List.length_append, List.length_cons, List.length_nil]; omega)) only [r_1_0, r_1_2, r_1_3, r_1_4, r_1_5, r_1_6, r_1_7, r_1_10, r_1_11, r_1_12, r_1_15, r_1_17, r_1_18, r_1_19, r_1_21, r_1_22, r_1_23, r_1_25, r_1_26, r_1_27, r_1_28, hM, c5, aft_v, aft_n, aft_t, gf_0, gf_s, pf_e, tg_e, hp_s, hp_n, hp_2, List.set_cons_zero, List.set_cons_succ, b2i_t, b2i_f, Ret_s, nlg_r, nlg_i, nlg_n, ok_0, ok_i, ok_r, ok_l, zi_e, zi_n, zi_t, Nat.reduceEqDiff, Nat.not_le, Nat.reduceLeDiff, if_true, if_false, eq_self, ↓reduceIte, Nat.reduceLT, Nat.le_refl, nle1, nez1, nez2, e, thy mh1o.1.1]
  exact ⟨rfl, hx1, hx2, fun z => by cases z⟩
theorem w_rope2 (H : CP σ O h) {m g a : Int32} (h1 : inR a 0 3 = true) (hc : (inR m 1 200 && inR g 0 20000) = false) : Ret (run (d + 4) 1 0 [.ref 5, .int m, .int g, .int a, .ref 34, .null] [] h) (CR h 2 0 σ O) := by
  obtain ⟨hx1, hx2, hN, h35⟩ := H.x 1
  obtain ⟨rr, hM⟩ := H.c5
  have e : run (d + 3) 23 0 [.ref 5, .int m, .int g, .int a] [] h = some (.inr h.2.1, hx 1 h) := by
    cases e1 : inR m 1 200 <;> cases e2 : inR g 0 20000 <;> simp only [e1, e2, Bool.and_self, Bool.and_false, Bool.false_and, reduceCtorEq] at hc
    all_goals simp (disch := first | omega | (simp only [nlg_r, nlg_i, nlg_n, ok_0, ok_i, ok_r, ok_l]; done) | assumption | (simp only [List.length_set, List.length_append, List.length_cons, List.length_nil]; omega)) only [r_23_0, r_23_1, r_23_4, r_23_7, r_23_8, r_23_9, r_23_12, r_23_15, r_23_18, r_23_19, r_23_20, r_23_23, r_23_26, r_23_29, r_23_30, r_23_33, r_23_34, r_23_37, r_23_38, r_23_41, r_23_44, r_23_46, r_23_49, r_23_50, r_23_53, r_23_54, r_23_57, r_23_58, r_23_61, r_23_64, r_23_65, r_23_66, r_23_67, r_23_68, r_23_71, r_23_74, r_23_75, r_23_76, r_23_79, r_23_82, r_23_83, r_23_84, c_21, c_24, h1, e1, e2, c_25t, c_26f, aft_v, aft_n, aft_t, gf_0, gf_s, pf_e, tg_e, hp_s, hp_n, hp_2, List.set_cons_zero, List.set_cons_succ, b2i_t, b2i_f, Ret_s, nlg_r, nlg_i, nlg_n, ok_0, ok_i, ok_r, ok_l, zi_e, zi_n, zi_t, Nat.reduceEqDiff, Nat.not_le, Nat.reduceLeDiff, if_true, if_false, eq_self, ↓reduceIte, Nat.reduceLT, Nat.le_refl, nle1, nez1, nez2, thx mh23 (show 1 < 3 by omega)]
  simp (disch := first | omega | (simp only [nlg_r, nlg_i, nlg_n, ok_0, ok_i, ok_r, ok_l]; done) | assumption | (simp only [List.length_set, List.length_append, List.length_cons, List.length_nil]; omega)) only [r_1_0, r_1_2, r_1_3, r_1_4, r_1_5, r_1_6, r_1_7, r_1_10, r_1_11, r_1_12, r_1_15, r_1_17, r_1_18, r_1_19, r_1_21, r_1_22, r_1_23, r_1_25, r_1_26, r_1_27, r_1_28, hM, c5, aft_v, aft_n, aft_t, gf_0, gf_s, pf_e, tg_e, hp_s, hp_n, hp_2, List.set_cons_zero, List.set_cons_succ, b2i_t, b2i_f, Ret_s, nlg_r, nlg_i, nlg_n, ok_0, ok_i, ok_r, ok_l, zi_e, zi_n, zi_t, Nat.reduceEqDiff, Nat.not_le, Nat.reduceLeDiff, if_true, if_false, eq_self, ↓reduceIte, Nat.reduceLT, Nat.le_refl, nle1, nez1, nez2, e, thy mh1o.1.2]
  exact ⟨rfl, hx1, hx2, fun z => by cases z⟩
theorem w_rope3 (H : CP σ O h) {m g a : Int32} (h1 : inR a 0 3 = true) (h2 : inR m 1 200 = true) (h3 : inR g 0 20000 = true) (h4 : (σ.2 1).length = 8) : Ret (run (d + 4) 1 0 [.ref 5, .int m, .int g, .int a, .ref 34, .null] [] h) (CR h 3 0 σ O) := by
  obtain ⟨hx1, hx2, hN, h35⟩ := H.x 2
  obtain ⟨rr, er, es, ep, ra, sa, pa, H1, H2⟩ := H
  have z6 := l_size (d := d + 2) H2.2.2.1
  have n1 := H2.2.2.2.2.2.2.2.2.2.2.2.1
  rw [n1, h4] at z6
  obtain ⟨m6, c6, f6, -⟩ := H2.2.2.1
  have hM := H1.1
  have q : (8 : Int32) ≤ nI 8 := by decide
  have e : run (d + 3) 23 0 [.ref 5, .int m, .int g, .int a] [] h = some (.inr h.2.1, hx 2 h) := by
    simp (disch := first | omega | (simp only [nlg_r, nlg_i, nlg_n, ok_0, ok_i, ok_r, ok_l]; done) | assumption | (simp only [List.length_set, List.length_append, List.length_cons, List.length_nil]; omega)) only [r_23_0, r_23_1, r_23_4, r_23_7, r_23_8, r_23_9, r_23_12, r_23_15, r_23_18, r_23_19, r_23_20, r_23_23, r_23_26, r_23_29, r_23_30, r_23_33, r_23_34, r_23_37, r_23_38, r_23_41, r_23_44, r_23_46, r_23_49, r_23_50, r_23_53, r_23_54, r_23_57, r_23_58, r_23_61, r_23_64, r_23_65, r_23_66, r_23_67, r_23_68, r_23_71, r_23_74, r_23_75, r_23_76, r_23_79, r_23_82, r_23_83, r_23_84, hM, c5, c_21, c_24, h1, h2, h3, c_25t, c_26t, c_27f, aft_v, aft_n, aft_t, gf_0, gf_s, pf_e, tg_e, hp_s, hp_n, hp_2, List.set_cons_zero, List.set_cons_succ, b2i_t, b2i_f, Ret_s, nlg_r, nlg_i, nlg_n, ok_0, ok_i, ok_r, ok_l, zi_e, zi_n, zi_t, Nat.reduceEqDiff, Nat.not_le, Nat.reduceLeDiff, if_true, if_false, eq_self, ↓reduceIte, Nat.reduceLT, Nat.le_refl, nle1, nez1, nez2, f6, z6, q, thx mh23 (show 2 < 3 by omega)]
  simp (disch := first | omega | (simp only [nlg_r, nlg_i, nlg_n, ok_0, ok_i, ok_r, ok_l]; done) | assumption | (simp only [List.length_set, List.length_append, List.length_cons, List.length_nil]; omega)) only [r_1_0, r_1_2, r_1_3, r_1_4, r_1_5, r_1_6, r_1_7, r_1_10, r_1_11, r_1_12, r_1_15, r_1_17, r_1_18, r_1_19, r_1_21, r_1_22, r_1_23, r_1_25, r_1_26, r_1_27, r_1_28, hM, c5, aft_v, aft_n, aft_t, gf_0, gf_s, pf_e, tg_e, hp_s, hp_n, hp_2, List.set_cons_zero, List.set_cons_succ, b2i_t, b2i_f, Ret_s, nlg_r, nlg_i, nlg_n, ok_0, ok_i, ok_r, ok_l, zi_e, zi_n, zi_t, Nat.reduceEqDiff, Nat.not_le, Nat.reduceLeDiff, if_true, if_false, eq_self, ↓reduceIte, Nat.reduceLT, Nat.le_refl, nle1, nez1, nez2, e, thy mh1o.2]
  exact ⟨rfl, hx1, hx2, fun z => by cases z⟩
set_option maxRecDepth 20000 in
theorem w_rope (H : CP σ O h) (hL : WL σ) {m g a : Nat} (h1 : 1 ≤ m) (h2 : m ≤ 200) (h3 : g ≤ 20000) (h4 : a ≤ 3) (h5 : (σ.2 1).length < 8) : Ret (run (d + 9) 1 0 [.ref 5, .int (nI m), .int (nI g), .int (nI a), .ref 34, .null] [] h) (CR h 0 (nI (σ.2 1).length).toInt64 (uc (uc (uc (uc (uc σ 1 (σ.2 1 ++ [m])) 2 (σ.2 2 ++ [a])) 3 (σ.2 3 ++ [g])) 4 (σ.2 4 ++ [0])) 5 (σ.2 5 ++ [0])) O) := by
  have e1 : inR (nI a) 0 3 = true := inR_nI (lo := 0) (hi := 3) (by omega) h4 (by omega)
  have e2 : inR (nI m) 1 200 = true := inR_nI (lo := 1) (hi := 200) h1 h2 (by omega)
  have e3 : inR (nI g) 0 20000 = true := inR_nI (lo := 0) (hi := 20000) (by omega) h3 (by omega)
  obtain ⟨x, ho⟩ := H.o
  obtain ⟨rr, er, es, ep, ra, sa, pa, ⟨k1, ⟨ap, pl, k2⟩, k3, ⟨v0, v1, v2, v3, k4⟩, k5, k6, k7, k8, k9, o, k10⟩, H2⟩ := H
  have hN := H2.1
  have h35 := H2.2.1
  have n1 := H2.2.2.2.2.2.2.2.2.2.2.2.1
  have z6 := l_size (d := d + 7) H2.2.2.1
  rw [n1] at z6
  have t6 := H2.2.2.1.lt hN
  have ter := H2.2.2.2.2.2.1
  -- the new rope
  obtain ⟨g0, hg0⟩ : ∃ g0 : MH, g0 = hnew h (3, [.int 0, .int 0, .int 0, .int 0, .long 0]) := ⟨_, rfl⟩
  obtain ⟨g1, hg1⟩ : ∃ g1 : MH, g1 = hput (hput (hput g0 h.2.1 (3, [.int (nI m), .int 0, .int 0, .int 0, .long 0])) h.2.1 (3, [.int (nI m), .int 0, .int (nI g), .int 0, .long 0])) h.2.1 (3, [.int (nI m), .int (nI a), .int (nI g), .int 0, .long 0]) := ⟨_, rfl⟩
  have gN : HN g1 := by
    rw [hg1, hg0]
    exact ((hN.new.put (by show h.2.1 < h.2.1 + 1; omega)).put (by show h.2.1 < h.2.1 + 1; omega)).put (by show h.2.1 < h.2.1 + 1; omega)
  have ge : ∀ b, b ≠ h.2.1 → g1.1 b = h.1 b := fun b hb => by
    rw [hg1, hp_n _ _ _ _ hb, hp_n _ _ _ _ hb, hp_n _ _ _ _ hb, hg0]
    exact hn_n _ _ _ hb
  have gs : g1.1 h.2.1 = (3, [.int (nI m), .int (nI a), .int (nI g),   .int 0, .long 0]) := by rw [hg1]; exact hp_s _ _ _
  have g6 : LA g1 6 er ra := H2.2.2.1.keep (ge _ (by omega)) (ge _ (by omega))
  have gE : EL g1 ra := fun y hy => by
    have := H2.el.1 y hy
    rw [okE_eq (ge y (by have := okE_lt hN this; omega))]; exact this
  have c64 := c_64 (d := d + 7) (h := g0) (b := h.2.1) (m := nI m) (g := nI g) (a := nI a) (by omega) (by rw [hg0]; exact hn_s _ _)
  rw [← hg1] at c64
  have gy : okE g1 (.ref h.2.1) = true := by
    have q5 : 5 ≤ h.2.1 := by omega
    unfold okE; dsimp only; rw [gs]; simp [q5]
  have gh : g1.2 = (h.2.1 + 1, h.2.2 + 5) := by rw [hg1, hg0]; rfl
  obtain ⟨o1, h', ea, ho1, pN, p1, p2, p3, p4, er', pA, pe, p5⟩ := l_add (d := d) (y := h.2.1) gN (by rw [gh]; show 5 ≤ h.2.1 + 1; omega) (by omega) gE g6 (by omega) gy
  subst ho1
  rw [gh] at p1 p2 p3 p4 pe
  dsimp only at p1 p2 p3 p4 pe
  have eo : ∀ b, b ≠ 6 → (b = er → er < 5) → b < h.2.1 → h'.1 b = h.1 b := fun b b1 b2 b3 => by rw [p4 b b1 b2 (by omega)]; exact ge b (by omega)
  have hC := H2.rope (h' := h') (m := m) (g := g) (a := a) hL pN (by omega) eo (by rw [p4 _ (by omega) (by omega) (by omega)]; exact gs) pA pe p5
  have z6' := l_size (d := d + 7) pA
  have hl' : (ra ++ [h.2.1]).length = (σ.2 1).length + 1 := by simp [n1]
  rw [hl'] at z6'
  have r5 : h'.1 5 = c5 σ rr := (eo 5 (by omega) (by omega) (by omega)).trans k1
  have r34 : h'.1 34 = (21, [.long x]) := (eo 34 (by omega) (by omega) (by omega)).trans ho
  obtain ⟨m6, c6, f6, -⟩ := H2.2.2.1
  obtain ⟨m6', c6', f6', -⟩ := pA
  obtain ⟨m6'', c6'', f6'', -⟩ := g6
  have q : ¬ 8 ≤ (σ.2 1).length := by omega
  rw [hg0] at c64
  have eR : run (d + 8) 23 0 [.ref 5, .int (nI m), .int (nI g), .int (nI a)] [] h = some (.inl (some (.int (nI (σ.2 1).length))), h') := by
    simp (disch := first | omega | (simp only [nlg_r, nlg_i, nlg_n, ok_0, ok_i, ok_r, ok_l]; done) | assumption | (simp only [List.length_set, List.length_append, List.length_cons, List.length_nil]; omega)) only [r_23_0, r_23_1, r_23_4, r_23_7, r_23_8, r_23_9, r_23_12, r_23_15, r_23_18, r_23_19, r_23_20, r_23_23, r_23_26, r_23_29, r_23_30, r_23_33, r_23_34, r_23_37, r_23_38, r_23_41, r_23_44, r_23_46, r_23_49, r_23_50, r_23_53, r_23_54, r_23_57, r_23_58, r_23_61, r_23_64, r_23_65, r_23_66, r_23_67, r_23_68, r_23_71, r_23_74, r_23_75, r_23_76, r_23_79, r_23_82, r_23_83, r_23_84, k1, c5, c_21, c_24, e1, e2, e3, c_25t, c_26t, c_27t, aft_v, aft_n, aft_t, gf_0, gf_s, pf_e, tg_e, hp_s, hp_n, hp_2, List.set_cons_zero, List.set_cons_succ, b2i_t, b2i_f, Ret_s, nlg_r, nlg_i, nlg_n, ok_0, ok_i, ok_r, ok_l, zi_e, zi_n, zi_t, Nat.reduceEqDiff, Nat.not_le, Nat.reduceLeDiff, if_true, if_false, eq_self, ↓reduceIte, Nat.reduceLT, Nat.le_refl, nle1, nez1, nez2, f6, z6, ei_r, ei_l, ni_r, ni_l, ti_r, ti_l, ai_r, ai_l, si_r, si_l, mi_r, mi_l, di_r, nI_eq, nI_leI, nI_ltI, nI_add, pk_sub, pk_mul, pk_div, pk_rem, nI_l, lN_i, q, c64]
    simp (disch := first | omega | (simp only [nlg_r, nlg_i, nlg_n, ok_0, ok_i, ok_r, ok_l]; done) | assumption | (simp only [List.length_set, List.length_append, List.length_cons, List.length_nil]; omega)) only [r_23_0, r_23_1, r_23_4, r_23_7, r_23_8, r_23_9, r_23_12, r_23_15, r_23_18, r_23_19, r_23_20, r_23_23, r_23_26, r_23_29, r_23_30, r_23_33, r_23_34, r_23_37, r_23_38, r_23_41, r_23_44, r_23_46, r_23_49, r_23_50, r_23_53, r_23_54, r_23_57, r_23_58, r_23_61, r_23_64, r_23_65, r_23_66, r_23_67, r_23_68, r_23_71, r_23_74, r_23_75, r_23_76, r_23_79, r_23_82, r_23_83, r_23_84, aft_v, aft_n, aft_t, gf_0, gf_s, pf_e, tg_e, hp_s, hp_n, hp_2, List.set_cons_zero, List.set_cons_succ, b2i_t, b2i_f, Ret_s, nlg_r, nlg_i, nlg_n, ok_0, ok_i, ok_r, ok_l, zi_e, zi_n, zi_t, Nat.reduceEqDiff, Nat.not_le, Nat.reduceLeDiff, if_true, if_false, eq_self, ↓reduceIte, Nat.reduceLT, Nat.le_refl, nle1, nez1, nez2, f6'', ea, r5, c5, f6', z6', ei_r, ei_l, ni_r, ni_l, ti_r, ti_l, ai_r, ai_l, si_r, si_l, mi_r, mi_l, di_r, nI_eq, nI_leI, nI_ltI, nI_add, pk_sub, pk_mul, pk_div, pk_rem, nI_l, lN_i, Nat.add_sub_cancel]
  simp (disch := first | omega | (simp only [nlg_r, nlg_i, nlg_n, ok_0, ok_i, ok_r, ok_l]; done) | assumption | (simp only [List.length_set, List.length_append, List.length_cons, List.length_nil]; omega)) only [r_1_0, r_1_2, r_1_3, r_1_4, r_1_5, r_1_6, r_1_7, r_1_10, r_1_11, r_1_12, r_1_15, r_1_17, r_1_18, r_1_19, r_1_21, r_1_22, r_1_23, r_1_25, r_1_26, r_1_27, r_1_28, k1, c5, aft_v, aft_n, aft_t, gf_0, gf_s, pf_e, tg_e, hp_s, hp_n, hp_2, List.set_cons_zero, List.set_cons_succ, b2i_t, b2i_f, Ret_s, nlg_r, nlg_i, nlg_n, ok_0, ok_i, ok_r, ok_l, zi_e, zi_n, zi_t, Nat.reduceEqDiff, Nat.not_le, Nat.reduceLeDiff, if_true, if_false, eq_self, ↓reduceIte, Nat.reduceLT, Nat.le_refl, nle1, nez1, nez2, eR, r34, as_o]
  refine ⟨rfl, ⟨rr, er', es, ep, ra ++ [h.2.1], sa, pa, ?_, hC.put (by omega) (fun _ _ _ => rfl)⟩, ?_, fun _ => by rw [hp_s]⟩
  · have krr := hN.lt k5 (by decide)
    have e5' : ∀ b, b ≠ 6 → (b = er → er < 5) → b < h.2.1 → h'.1 b = h.1 b := eo
    have s9 := (eo 9 (by omega) (by omega) (by omega)).trans k2
    have s10 := (eo 10 (by omega) (by omega) (by omega)).trans k3
    have s11 := (eo 11 (by omega) (by omega) (by omega)).trans k4
    have srr := (eo rr (by omega) (fun z => by
      obtain ⟨m', c', q1, q2, q3, -⟩ := H2.2.2.1
      rw [z, q3] at k5; cases k5) krr).trans k5
    have s13 := (eo 13 (by omega) (by omega) (by omega)).trans k7
    have s14 := (eo 14 (by omega) (by omega) (by omega)).trans k8
    have s15 := (eo 15 (by omega) (by omega) (by omega)).trans k9
    refine ⟨?_, ⟨ap, pl, ?_⟩, ?_, ⟨v0, v1, v2, v3, ?_⟩, ?_, k6, ?_, ?_, ?_, _, hp_s _ _ _⟩ <;> simp (disch := first | omega | (simp only [nlg_r, nlg_i, nlg_n, ok_0, ok_i, ok_r, ok_l]; done) | assumption | (simp only [List.length_set, List.length_append, List.length_cons, List.length_nil]; omega)) only [aft_v, aft_n, aft_t, gf_0, gf_s, pf_e, tg_e, hp_s, hp_n, hp_2, List.set_cons_zero, List.set_cons_succ, b2i_t, b2i_f, Ret_s, nlg_r, nlg_i, nlg_n, ok_0, ok_i, ok_r, ok_l, zi_e, zi_n, zi_t, Nat.reduceEqDiff, Nat.not_le, Nat.reduceLeDiff, if_true, if_false, eq_self, ↓reduceIte, Nat.reduceLT, Nat.le_refl, nle1, nez1, nez2, r5, s9, s10, s11, srr, s13, s14, s15, uc_1, uc_2, c5]
  · refine ⟨fun b hb => ?_, ?_, ?_, ?_⟩
    · rw [hp_n _ _ _ _ (by omega)]; exact eo b (by omega) (by omega) (by omega)
    · show h.2.1 ≤ h'.2.1; omega
    · show h'.2.1 ≤ h.2.1 + 5; omega
    · show h'.2.2 ≤ h.2.2 + 1000; omega
end CG
