/-! PLAIN LEAN, 29: the component's operations on fixed cells -/
theorem mh18 : mhan 18 = [] := by decide +kernel
theorem mh20 : mhan 20 = [] := by decide +kernel
theorem mh22 : mhan 22 = [] := by decide +kernel
theorem mh23 : mhan 23 = [] := by decide +kernel
theorem mh24 : mhan 24 = [] := by decide +kernel
theorem mh28 : mhan 28 = [] := by decide +kernel
theorem mh29 : mhan 29 = [] := by decide +kernel
theorem mh30 : mhan 30 = [] := by decide +kernel
theorem mh31 : mhan 31 = [] := by decide +kernel
theorem mh32 : mhan 32 = [] := by decide +kernel
theorem mh33 : mhan 33 = [] := by decide +kernel
theorem mh34 : mhan 34 = [] := by decide +kernel
theorem mh35 : mhan 35 = [] := by decide +kernel
theorem mh36 : mhan 36 = [] := by decide +kernel
theorem mh37 : mhan 37 = [] := by decide +kernel
theorem mh38 : mhan 38 = [] := by decide +kernel
theorem mh39 : mhan 39 = [] := by decide +kernel
theorem mh40 : mhan 40 = [] := by decide +kernel
theorem mh41 : mhan 41 = [] := by decide +kernel
theorem mh42 : mhan 42 = [] := by decide +kernel
theorem mh43 : mhan 43 = [] := by decide +kernel
theorem mh44 : mhan 44 = [] := by decide +kernel
theorem mh45 : mhan 45 = [] := by decide +kernel
theorem mh46 : mhan 46 = [] := by decide +kernel
theorem mh47 : mhan 47 = [] := by decide +kernel
theorem mh60 : mhan 60 = [] := by decide +kernel
theorem mh61 : mhan 61 = [] := by decide +kernel
theorem mh62 : mhan 62 = [] := by decide +kernel
theorem mh63 : mhan 63 = [] := by decide +kernel
theorem thx {d i pc k : Nat} {L : List Value} {h : MH} (hm : mhan i = []) (hk : k < 3) : thrK d i pc L h.2.1 (hx k h) = some (.inr h.2.1, hx k h) := thr_out hm (hx_t k h hk)
theorem thy {d i pc k q : Nat} {L : List Value} {h : MH} (hg : hnd i pc (40 + k) = some (some q)) : thrK d i pc L h.2.1 (hx k h) = run d i q L [.ref h.2.1] (hx k h) := thr_in (hx_g k h) hg
section CD
variable {σ σ' : AS} {O : List Nat} {d : Nat} {h : MH}
/-- a fixed cell is put -/
theorem CL.put {er es ep : Nat} {ra sa pa : List Nat} (H : CL σ O er es ep ra sa pa h) {a : Nat} {o : MO} (ha : a = 5 ∨ (9 ≤ a ∧ a ≤ 34)) (hc : ∀ j, 1 ≤ j → j ≤ 11 → σ'.2 j = σ.2 j) : CL σ' O er es ep ra sa pa (hput h a o) :=
  H.keep (H.1.put (by have := H.2.1; omega)) (Nat.le_refl _) (fun b hb _ => hp_n _ _ _ _ (by omega)) hc
theorem FrC.put {h1 : MH} (H : FrC h h1) {a : Nat} {o : MO} (ha : a ≠ 0 ∧ ¬ (16 ≤ a ∧ a ≤ 33)) : FrC h (hput h1 a o) := ⟨fun b hb => by rw [hp_n _ _ _ _ (by omega)]; exact H.1 b hb, H.2.1, H.2.2.1, H.2.2.2⟩
theorem FrC.refl (h : MH) : FrC h h := ⟨fun _ _ => rfl, Nat.le_refl _, Nat.le_add_right _ _, Nat.le_add_right _ _⟩
theorem c_29 {a k v : Nat} {l : List Nat} (ha : 5 ≤ a) (hk : k < l.length) (hl : l.length < 2 ^ 31) (e : h.1 a = (20, iA l)) : run d 29 0 [.ref a, .int (nI k), .int (nI v), .null] [] h = some (.inl (some (.int (nI (l.getD k 0)))), hput h a (20, iA (l.set k v))) := by
  simp (disch := first | omega | (simp only [nlg_r, nlg_i, nlg_n, ok_0, ok_i, ok_r, ok_l]; done) | assumption | (simp only [List.length_set, List.length_append, List.length_cons, List.length_nil]; omega)) only [r_29_0, r_29_1, r_29_2, r_29_3, r_29_4, r_29_5, r_29_6, r_29_7, r_29_8, r_29_9, e, al_i, as_i, aft_v, aft_n, aft_t, gf_0, gf_s, pf_e, tg_e, hp_s, hp_n, hp_2, List.set_cons_zero, List.set_cons_succ, b2i_t, b2i_f, Ret_s, nlg_r, nlg_i, nlg_n, ok_0, ok_i, ok_r, ok_l, zi_e, zi_n, zi_t, Nat.reduceEqDiff, Nat.not_le, Nat.reduceLeDiff, if_true, if_false, eq_self, ↓reduceIte, Nat.reduceLT, Nat.le_refl, nle1, nez1, nez2]
/-- out gets an answer -/
theorem CF.out {rr : Nat} (H : CF σ rr h) (r : Int64) : CF σ rr (hput h 34 (21, [.long r])) := by
  obtain ⟨k1, ⟨ap, pl, k2⟩, k3, ⟨v0, v1, v2, v3, k4⟩, k5, k6, k7, k8, k9, o, k10⟩ := H
  refine ⟨?_, ⟨ap, pl, ?_⟩, ?_, ⟨v0, v1, v2, v3, ?_⟩, ?_, k6, ?_, ?_, ?_, r, ?_⟩ <;> simp (disch := first | omega | (simp only [nlg_r, nlg_i, nlg_n, ok_0, ok_i, ok_r, ok_l]; done) | assumption | (simp only [List.length_set, List.length_append, List.length_cons, List.length_nil]; omega)) only [aft_v, aft_n, aft_t, gf_0, gf_s, pf_e, tg_e, hp_s, hp_n, hp_2, List.set_cons_zero, List.set_cons_succ, b2i_t, b2i_f, Ret_s, nlg_r, nlg_i, nlg_n, ok_0, ok_i, ok_r, ok_l, zi_e, zi_n, zi_t, Nat.reduceEqDiff, Nat.not_le, Nat.reduceLeDiff, if_true, if_false, eq_self, ↓reduceIte, Nat.reduceLT, Nat.le_refl, nle1, nez1, nez2, k1, k2, k3, k4, k5, k7, k8, k9]
theorem CP.out (H : CP σ O h) (r : Int64) : CP σ O (hput h 34 (21, [.long r])) := by
  obtain ⟨rr, er, es, ep, ra, sa, pa, H1, H2⟩ := H
  exact ⟨rr, er, es, ep, ra, sa, pa, H1.out r, H2.put (by omega) (fun _ _ _ => rfl)⟩
theorem as_o {x r : Int64} {K : MO → Option MR} : asK 34 (21, [.long x]) 21 0 (.long r) K = K (21, [.long r]) := rfl
theorem CP.o (H : CP σ O h) : ∃ x, h.1 34 = (21, [.long x]) := by
  obtain ⟨rr, er, es, ep, ra, sa, pa, H1, H2⟩ := H
  exact H1.2.2.2.2.2.2.2.2.2
theorem CP.c5 (H : CP σ O h) : ∃ rr, h.1 5 = c5 σ rr := by
  obtain ⟨rr, er, es, ep, ra, sa, pa, H1, H2⟩ := H
  exact ⟨rr, H1.1⟩
theorem CP.n (H : CP σ O h) : HN h ∧ 35 ≤ h.2.1 := by
  obtain ⟨rr, er, es, ep, ra, sa, pa, H1, H2⟩ := H
  exact ⟨H2.1, H2.2.1⟩
theorem w_bears1 (H : CP σ O h) {k v : Int32} (hc : (inR k 1 400 && inR v 0 200) = false) : Ret (run (d + 3) 2 0 [.ref 5, .int k, .int v, .ref 34, .null] [] h) (CR h 1 0 σ O) := by
  obtain ⟨hx1, hx2, hN, h35⟩ := H.x 1
  obtain ⟨rr, hM⟩ := H.c5
  have t1 : hnd 2 5 (40 + 1) = some (some 13) := by decide +kernel
  have e : run (d + 2) 28 0 [.ref 5, .int k, .int v] [] h = some (.inr h.2.1, hx 1 h) := by
    cases e1 : inR k 1 400 <;> cases e2 : inR v 0 200 <;> simp only [e1, e2, Bool.and_self, Bool.and_false, Bool.false_and, reduceCtorEq] at hc
    all_goals simp (disch := first | omega | (simp only [nlg_r, nlg_i, nlg_n, ok_0, ok_i, ok_r, ok_l]; done) | assumption | (simp only [List.length_set, List.length_append, List.length_cons, List.length_nil]; omega)) only [r_28_0, r_28_1, r_28_2, r_28_5, r_28_8, r_28_11, r_28_12, r_28_13, r_28_16, r_28_19, r_28_22, r_28_23, r_28_26, r_28_27, r_28_30, r_28_31, r_28_34, r_28_35, r_28_36, r_28_39, c_21, e1, e2, c_26f, aft_v, aft_n, aft_t, gf_0, gf_s, pf_e, tg_e, hp_s, hp_n, hp_2, List.set_cons_zero, List.set_cons_succ, b2i_t, b2i_f, Ret_s, nlg_r, nlg_i, nlg_n, ok_0, ok_i, ok_r, ok_l, zi_e, zi_n, zi_t, Nat.reduceEqDiff, Nat.not_le, Nat.reduceLeDiff, if_true, if_false, eq_self, ↓reduceIte, Nat.reduceLT, Nat.le_refl, nle1, nez1, nez2, thx mh28 (show 1 < 3 by omega)]
  simp (disch := first | omega | (simp only [nlg_r, nlg_i, nlg_n, ok_0, ok_i, ok_r, ok_l]; done) | assumption | (simp only [List.length_set, List.length_append, List.length_cons, List.length_nil]; omega)) only [r_2_0, r_2_1, r_2_2, r_2_3, r_2_4, r_2_5, r_2_8, r_2_9, r_2_10, r_2_13, r_2_15, r_2_16, r_2_17, r_2_18, hM, c5, aft_v, aft_n, aft_t, gf_0, gf_s, pf_e, tg_e, hp_s, hp_n, hp_2, List.set_cons_zero, List.set_cons_succ, b2i_t, b2i_f, Ret_s, nlg_r, nlg_i, nlg_n, ok_0, ok_i, ok_r, ok_l, zi_e, zi_n, zi_t, Nat.reduceEqDiff, Nat.not_le, Nat.reduceLeDiff, if_true, if_false, eq_self, ↓reduceIte, Nat.reduceLT, Nat.le_refl, nle1, nez1, nez2, e, thy t1]
  exact ⟨rfl, hx1, hx2, fun z => by cases z⟩
theorem w_bears (H : CP σ O h) (hL : WL σ) {k v : Nat} (h1 : 1 ≤ k) (h2 : k ≤ 400) (h3 : v ≤ 200) : Ret (run (d + 3) 2 0 [.ref 5, .int (nI k), .int (nI v), .ref 34, .null] [] h) (CR h 0 (nI ((σ.2 15).getD k 0)).toInt64 (uc σ 15 ((σ.2 15).set k v)) O) := by
  obtain ⟨x, ho⟩ := H.o
  have hl := hL.2.2.2.2.2.2.2.2.2.2.2.2.2.2.1
  have e1 : inR (nI k) 1 400 = true := inR_nI (lo := 1) (hi := 400) h1 h2 (by omega)
  have e2 : inR (nI v) 0 200 = true := inR_nI (lo := 0) (hi := 200) (by omega) h3 (by omega)
  obtain ⟨rr, er, es, ep, ra, sa, pa, ⟨k1, ⟨ap, pl, k2⟩, k3, ⟨v0, v1, v2, v3, k4⟩, k5, k6, k7, k8, k9, o, k10⟩, H2⟩ := H
  have c9 := c_29 (d := d + 1) (h := h) (a := 14) (k := k) (v := v) (by omega) (by omega) (by omega) k8
  simp (disch := first | omega | (simp only [nlg_r, nlg_i, nlg_n, ok_0, ok_i, ok_r, ok_l]; done) | assumption | (simp only [List.length_set, List.length_append, List.length_cons, List.length_nil]; omega)) only [r_2_0, r_2_1, r_2_2, r_2_3, r_2_4, r_2_5, r_2_8, r_2_9, r_2_10, r_2_13, r_2_15, r_2_16, r_2_17, r_2_18, r_28_0, r_28_1, r_28_2, r_28_5, r_28_8, r_28_11, r_28_12, r_28_13, r_28_16, r_28_19, r_28_22, r_28_23, r_28_26, r_28_27, r_28_30, r_28_31, r_28_34, r_28_35, r_28_36, r_28_39, k1, c5, c_21, e1, e2, c_26t, c9, ho, as_o, aft_v, aft_n, aft_t, gf_0, gf_s, pf_e, tg_e, hp_s, hp_n, hp_2, List.set_cons_zero, List.set_cons_succ, b2i_t, b2i_f, Ret_s, nlg_r, nlg_i, nlg_n, ok_0, ok_i, ok_r, ok_l, zi_e, zi_n, zi_t, Nat.reduceEqDiff, Nat.not_le, Nat.reduceLeDiff, if_true, if_false, eq_self, ↓reduceIte, Nat.reduceLT, Nat.le_refl, nle1, nez1, nez2]
  refine ⟨rfl, ⟨rr, er, es, ep, ra, sa, pa, ?_, (H2.put (by omega) (fun j h1 h2 => by simp [uc]; omega)).put (by omega) (fun _ _ _ => rfl)⟩, ((FrC.refl h).put (by omega)).put (by omega), fun _ => by rw [hp_s]⟩
  refine ⟨?_, ⟨ap, pl, ?_⟩, ?_, ⟨v0, v1, v2, v3, ?_⟩, ?_, k6, ?_, ?_, ?_, _, hp_s _ _ _⟩ <;> simp (disch := first | omega | (simp only [nlg_r, nlg_i, nlg_n, ok_0, ok_i, ok_r, ok_l]; done) | assumption | (simp only [List.length_set, List.length_append, List.length_cons, List.length_nil]; omega)) only [aft_v, aft_n, aft_t, gf_0, gf_s, pf_e, tg_e, hp_s, hp_n, hp_2, List.set_cons_zero, List.set_cons_succ, b2i_t, b2i_f, Ret_s, nlg_r, nlg_i, nlg_n, ok_0, ok_i, ok_r, ok_l, zi_e, zi_n, zi_t, Nat.reduceEqDiff, Nat.not_le, Nat.reduceLeDiff, if_true, if_false, eq_self, ↓reduceIte, Nat.reduceLT, Nat.le_refl, nle1, nez1, nez2, k1, k2, k3, k4, k5, k7, k8, k9, uc_1, uc_2, c5]
end CD
