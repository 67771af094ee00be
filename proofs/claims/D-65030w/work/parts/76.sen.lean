/-! PLAIN LEAN, 37: what samples make of an area, in the component -/
def S11 (h h' : MH) : Prop := (∀ b, b ≠ 11 → h'.1 b = h.1 b) ∧ h'.2 = h.2
theorem S11.eq {h h' : MH} (H : S11 h h') : h' = hput h 11 (h'.1 11) := by
  refine Prod.ext (funext fun b => ?_) H.2
  by_cases q : b = 11
  · subst q; rw [hp_s]
  · rw [hp_n _ _ _ _ q]; exact H.1 b q
theorem S11.trans {h h1 h2 : MH} (H : S11 h h1) (H' : S11 h1 h2) : S11 h h2 := ⟨fun b hb => (H'.1 b hb).trans (H.1 b hb), H'.2.trans H.2⟩
theorem S11.fr {h h' : MH} (H : S11 h h') : FrC h h' := FrC2 H.2 (fun a ha => H.1 a (by omega))
section CN
variable {σ σ' : AS} {O : List Nat} {d rr er es ep : Nat} {ra sa pa : List Nat} {h h' : MH}
theorem CL.s11 (H : CL σ O er es ep ra sa pa h) (S : S11 h h') : CL σ O er es ep ra sa pa h' := by
  rw [S.eq]; exact H.put (by omega) (fun _ _ _ => rfl)
theorem CF.s11 (H : CF σ rr h) (S : S11 h h') {v0 v1 v2 v3 : Value} (e : h'.1 11 = (2, [v0, v1, v2, v3])) : CF σ rr h' := by
  obtain ⟨k1, ⟨ap, pl, k2⟩, k3, k4, k5, k6, k7, k8, k9, o, k10⟩ := H
  exact ⟨(S.1 _ (by omega)).trans k1, ⟨ap, pl, (S.1 _ (by omega)).trans k2⟩, (S.1 _ (by omega)).trans k3, ⟨v0, v1, v2, v3, e⟩, (S.1 _ (by omega)).trans k5, k6, (S.1 _ (by omega)).trans k7, (S.1 _ (by omega)).trans k8, (S.1 _ (by omega)).trans k9, o, (S.1 _ (by omega)).trans k10⟩
set_option maxRecDepth 20000 in
theorem c_38s {c : CS} {a y t j : Nat} (H1 : CF σ rr h) (H2 : CL σ O er es ep ra sa pa h) (hE : h.1 11 = clC rr c) (hL : WL σ) (hV : WV σ) (hI : CI c) (hg : c.2.1 ≤ 100000) (hO : O.length ≤ 60) (ha : a ≤ 1000) (hy : y ≤ 1000) (ht : t ≤ 1000) (hj : j < O.length) {z : Value} :
    ∃ h' z', run (d + 3) 38 18 [.ref 5, .int (nI a), .int (nI y), .int (nI t), .ref 11, .int (nI j), z] [] h = run (d + 3) 38 18 [.ref 5, .int (nI a), .int (nI y), .int (nI t), .ref 11, .int (nI (j + 1)), z'] [] h' ∧ h'.1 11 = clC rr (if mat3 σ a y t (O.getD j 0) = true then sstq σ (O.getD j 0) c else c) ∧ S11 h h' := by
  have hM := H1.1
  have n2 := H2.2.2.2.2.2.2.2.2.2.2.2.2.1
  have z7 := l_size (d := d + 2) H2.2.2.2.1
  have g7 := l_get (d := d) (k := j) H2.2.2.2.1 (by omega)
  rw [n2] at z7
  obtain ⟨s1, s2⟩ := H2.2.2.2.2.2.2.2.2.2.2.2.2.2.2.2.2.1 j (by omega)
  obtain ⟨m7, c7, f7, -⟩ := H2.2.2.2.1
  obtain ⟨q, hq⟩ : ∃ q, O.getD j 0 = q := ⟨_, rfl⟩
  rw [hq] at s2 ⊢
  have vq := hV q
  have b6 : sA σ q < 4 := vq.2.2.2.2.2.1
  have b7 : sD σ q ≤ 400 := vq.2.2.2.2.2.2.1
  have b9 : sT σ q ≤ 400 := vq.2.2.2.2.2.2.2.2.1
  have s2' := s2
  simp only [smpC] at s2'
  have q0 : ¬ O.length ≤ j := by omega
  have rf : S11 h h := ⟨fun _ _ => rfl, rfl⟩
  by_cases q1 : sA σ q = a
  · by_cases q2 : y < sD σ q
    · have e : mat3 σ a y t q = false := by simp [mat3, Nat.not_le.mpr q2]
      rw [e]
      refine ⟨h, .ref (sa.getD j 0), ?_, hE, rf⟩
      conv => lhs; rw [r_38_18]
      simp (disch := first | omega | (simp only [nlg_r, nlg_i, nlg_n, ok_0, ok_i, ok_r, ok_l]; done) | assumption | (simp only [List.length_set, List.length_append, List.length_cons, List.length_nil]; omega)) only [r_38_20, r_38_21, r_38_24, r_38_27, r_38_30, r_38_31, r_38_34, r_38_36, r_38_39, r_38_42, r_38_44, r_38_46, r_38_49, r_38_50, r_38_53, r_38_55, r_38_58, r_38_59, r_38_62, r_38_64, r_38_67, r_38_68, r_38_71, r_38_73, r_38_75, r_38_78, r_38_81, hM, c5, f7, z7, g7, s2', aft_v, aft_n, aft_t, gf_0, gf_s, pf_e, tg_e, hp_s, hp_n, hp_2, List.set_cons_zero, List.set_cons_succ, b2i_t, b2i_f, Ret_s, nlg_r, nlg_i, nlg_n, ok_0, ok_i, ok_r, ok_l, zi_e, zi_n, zi_t, Nat.reduceEqDiff, Nat.not_le, Nat.reduceLeDiff, if_true, if_false, eq_self, ↓reduceIte, Nat.reduceLT, Nat.le_refl, nle1, nez1, nez2, ei_r, ei_l, ni_r, ni_l, ti_r, ti_l, ai_r, ai_l, si_r, si_l, mi_r, mi_l, di_r, nI_eq, nI_leI, nI_ltI, nI_add, pk_sub, pk_mul, pk_div, pk_rem, nI_l, lN_i, q0, q1, q2]
    · by_cases q3 : t < sT σ q
      · have e : mat3 σ a y t q = false := by simp [mat3, Nat.not_le.mpr q3]
        rw [e]
        refine ⟨h, .ref (sa.getD j 0), ?_, hE, rf⟩
        conv => lhs; rw [r_38_18]
        simp (disch := first | omega | (simp only [nlg_r, nlg_i, nlg_n, ok_0, ok_i, ok_r, ok_l]; done) | assumption | (simp only [List.length_set, List.length_append, List.length_cons, List.length_nil]; omega)) only [r_38_20, r_38_21, r_38_24, r_38_27, r_38_30, r_38_31, r_38_34, r_38_36, r_38_39, r_38_42, r_38_44, r_38_46, r_38_49, r_38_50, r_38_53, r_38_55, r_38_58, r_38_59, r_38_62, r_38_64, r_38_67, r_38_68, r_38_71, r_38_73, r_38_75, r_38_78, r_38_81, hM, c5, f7, z7, g7, s2', aft_v, aft_n, aft_t, gf_0, gf_s, pf_e, tg_e, hp_s, hp_n, hp_2, List.set_cons_zero, List.set_cons_succ, b2i_t, b2i_f, Ret_s, nlg_r, nlg_i, nlg_n, ok_0, ok_i, ok_r, ok_l, zi_e, zi_n, zi_t, Nat.reduceEqDiff, Nat.not_le, Nat.reduceLeDiff, if_true, if_false, eq_self, ↓reduceIte, Nat.reduceLT, Nat.le_refl, nle1, nez1, nez2, ei_r, ei_l, ni_r, ni_l, ti_r, ti_l, ai_r, ai_l, si_r, si_l, mi_r, mi_l, di_r, nI_eq, nI_leI, nI_ltI, nI_add, pk_sub, pk_mul, pk_div, pk_rem, nI_l, lN_i, q0, q1, q2, q3]
      · have e : mat3 σ a y t q = true := by simp [mat3, Nat.not_lt.mp q3, Nat.not_lt.mp q2, q1]
        rw [e]
        have k5 := H1.2.2.2.2.1
        have k6 := H1.2.2.2.2.2.1
        obtain ⟨h', ex, e1, e2, e3⟩ := c_see (d := d + 1) hE s2 s1 k5 k6 hL hV hI hg
        have hE' := hE
        simp only [clC] at hE'
        refine ⟨h', .ref (sa.getD j 0), ?_, e1, e2, e3⟩
        conv => lhs; rw [r_38_18]
        simp (disch := first | omega | (simp only [nlg_r, nlg_i, nlg_n, ok_0, ok_i, ok_r, ok_l]; done) | assumption | (simp only [List.length_set, List.length_append, List.length_cons, List.length_nil]; omega)) only [r_38_20, r_38_21, r_38_24, r_38_27, r_38_30, r_38_31, r_38_34, r_38_36, r_38_39, r_38_42, r_38_44, r_38_46, r_38_49, r_38_50, r_38_53, r_38_55, r_38_58, r_38_59, r_38_62, r_38_64, r_38_67, r_38_68, r_38_71, r_38_73, r_38_75, r_38_78, r_38_81, hM, c5, f7, z7, g7, s2', aft_v, aft_n, aft_t, gf_0, gf_s, pf_e, tg_e, hp_s, hp_n, hp_2, List.set_cons_zero, List.set_cons_succ, b2i_t, b2i_f, Ret_s, nlg_r, nlg_i, nlg_n, ok_0, ok_i, ok_r, ok_l, zi_e, zi_n, zi_t, Nat.reduceEqDiff, Nat.not_le, Nat.reduceLeDiff, if_true, if_false, eq_self, ↓reduceIte, Nat.reduceLT, Nat.le_refl, nle1, nez1, nez2, ei_r, ei_l, ni_r, ni_l, ti_r, ti_l, ai_r, ai_l, si_r, si_l, mi_r, mi_l, di_r, nI_eq, nI_leI, nI_ltI, nI_add, pk_sub, pk_mul, pk_div, pk_rem, nI_l, lN_i, q0, q1, q2, q3, hE', ex]
  · have e : mat3 σ a y t q = false := by simp [mat3, q1]
    rw [e]
    refine ⟨h, .ref (sa.getD j 0), ?_, hE, rf⟩
    conv => lhs; rw [r_38_18]
    simp (disch := first | omega | (simp only [nlg_r, nlg_i, nlg_n, ok_0, ok_i, ok_r, ok_l]; done) | assumption | (simp only [List.length_set, List.length_append, List.length_cons, List.length_nil]; omega)) only [r_38_20, r_38_21, r_38_24, r_38_27, r_38_30, r_38_31, r_38_34, r_38_36, r_38_39, r_38_42, r_38_44, r_38_46, r_38_49, r_38_50, r_38_53, r_38_55, r_38_58, r_38_59, r_38_62, r_38_64, r_38_67, r_38_68, r_38_71, r_38_73, r_38_75, r_38_78, r_38_81, hM, c5, f7, z7, g7, s2', aft_v, aft_n, aft_t, gf_0, gf_s, pf_e, tg_e, hp_s, hp_n, hp_2, List.set_cons_zero, List.set_cons_succ, b2i_t, b2i_f, Ret_s, nlg_r, nlg_i, nlg_n, ok_0, ok_i, ok_r, ok_l, zi_e, zi_n, zi_t, Nat.reduceEqDiff, Nat.not_le, Nat.reduceLeDiff, if_true, if_false, eq_self, ↓reduceIte, Nat.reduceLT, Nat.le_refl, nle1, nez1, nez2, ei_r, ei_l, ni_r, ni_l, ti_r, ti_l, ai_r, ai_l, si_r, si_l, mi_r, mi_l, di_r, nI_eq, nI_leI, nI_ltI, nI_add, pk_sub, pk_mul, pk_div, pk_rem, nI_l, lN_i, q0, q1]
theorem c_38l {a y t : Nat} (hL : WL σ) (hV : WV σ) (hW : ru σ 3 ≤ 99) (hO : O.length ≤ 60) (ha : a ≤ 1000) (hy : y ≤ 1000) (ht : t ≤ 1000) : ∀ (r : List Nat) (j : Nat) (c : CS) (h : MH) (z : Value), O.drop j = r → j ≤ O.length → CI c → c.2.1 + r.length ≤ 100000 → CF σ rr h → CL σ O er es ep ra sa pa h → h.1 11 = clC rr c →
    ∃ h' z', run (d + 3) 38 18 [.ref 5, .int (nI a), .int (nI y), .int (nI t), .ref 11, .int (nI j), z] [] h = run (d + 3) 38 18 [.ref 5, .int (nI a), .int (nI y), .int (nI t), .ref 11, .int (nI O.length), z'] [] h' ∧ h'.1 11 = clC rr (lks σ (r.filter (mat3 σ a y t)) c) ∧ S11 h h' := by
  intro r
  induction r with
  | nil =>
    intro j c h z hd hj hI hg H1 H2 hE
    have hj : j = O.length := by have := List.drop_eq_nil_iff.mp hd; omega
    subst hj
    exact ⟨h, z, rfl, hE, fun _ _ => rfl, rfl⟩
  | cons q r ih =>
    intro j c h z hd hj hI hg H1 H2 hE
    have hj2 : j < O.length := by
      have e := congrArg List.length hd
      simp only [List.length_drop, List.length_cons] at e
      omega
    have hq : O.getD j 0 = q ∧ O.drop (j + 1) = r := by
      rw [List.drop_eq_getElem_cons hj2] at hd
      obtain ⟨e1, e2⟩ := List.cons.inj hd
      exact ⟨by rw [← e1]; simp [List.getD_eq_getElem?_getD, hj2], e2⟩
    simp only [List.length_cons] at hg
    obtain ⟨h1, z1, e1, f1, g1⟩ := c_38s (d := d) (a := a) (y := y) (t := t) (j := j) H1 H2 hE hL hV hI (by omega) hO ha hy ht hj2 (z := z)
    rw [hq.1] at f1
    have vq : sD σ q ≤ 400 := (hV q).2.2.2.2.2.2.1
    by_cases m : mat3 σ a y t q = true
    · rw [if_pos m] at f1
      have sI := sst_I (C := ru σ 0) (L := ru σ 1) (G := ru σ 2) (W := ru σ 3) (y := sD σ q) (n := sC σ q) hI vq hW
      obtain ⟨h', z', e2, f2, g2⟩ := ih (j + 1) (sstq σ q c) h1 z1 hq.2 (by omega) sI.1 (by have := sI.2; simp only [sstq]; omega) (H1.s11 g1 f1) (H2.s11 g1) f1
      refine ⟨h', z', by rw [e1, e2], ?_, g1.trans g2⟩
      rw [f2, List.filter_cons_of_pos m]; rfl
    · rw [if_neg m] at f1
      obtain ⟨h', z', e2, f2, g2⟩ := ih (j + 1) c h1 z1 hq.2 (by omega) hI (by omega) (H1.s11 g1 f1) (H2.s11 g1) f1
      refine ⟨h', z', by rw [e1, e2], ?_, g1.trans g2⟩
      rw [f2, List.filter_cons_of_neg m]
set_option maxRecDepth 20000 in
/-- seen -/
theorem c_38 (H1 : CF σ rr h) (H2 : CL σ O er es ep ra sa pa h) (hL : WL σ) (hV : WV σ) (hW : ru σ 3 ≤ 99) (hO : O.length ≤ 60) {a y t : Nat} (ha : a ≤ 1000) (hy : y ≤ 1000) (ht : t ≤ 1000) :
    ∃ h', run (d + 3) 38 0 [.ref 5, .int (nI a), .int (nI y), .int (nI t), .null, .null, .null] [] h = some (.inl (some (.ref 11)), h') ∧ h'.1 11 = clC rr (cls σ O a y t) ∧ S11 h h' := by
  have hM := H1.1
  obtain ⟨v0, v1, v2, v3, k4⟩ := H1.2.2.2.1
  obtain ⟨h1, e1, f1, g1, g2⟩ := c_49 (d := d + 2) (rr := rr) k4
  have G : S11 h h1 := ⟨g1, g2⟩
  obtain ⟨h', z', e2, f2, g3⟩ := c_38l (d := d) hL hV hW hO ha hy ht O 0 (false, 0, none) h1 .null rfl (by omega) CI_0 (by show 0 + _ ≤ _; omega) (H1.s11 G f1) (H2.s11 G) f1
  have H1' := (H1.s11 G f1).s11 g3 f2
  have H2' := (H2.s11 G).s11 g3
  have hM' := H1'.1
  have n2 := H2'.2.2.2.2.2.2.2.2.2.2.2.2.1
  have z7 := l_size (d := d + 2) H2'.2.2.2.1
  rw [n2] at z7
  obtain ⟨m7, c7, f7, -⟩ := H2'.2.2.2.1
  refine ⟨h', ?_, f2, G.trans g3⟩
  have e0 : run (d + 3) 38 0 [.ref 5, .int (nI a), .int (nI y), .int (nI t), .null, .null, .null] [] h = run (d + 3) 38 18 [.ref 5, .int (nI a), .int (nI y), .int (nI t), .ref 11, .int (nI 0), .null] [] h1 := by
    simp (disch := first | omega | (simp only [nlg_r, nlg_i, nlg_n, ok_0, ok_i, ok_r, ok_l]; done) | assumption | (simp only [List.length_set, List.length_append, List.length_cons, List.length_nil]; omega)) only [r_38_0, r_38_1, r_38_4, r_38_6, r_38_8, r_38_9, r_38_12, r_38_15, r_38_16, hM, c5, k4, e1, aft_v, aft_n, aft_t, gf_0, gf_s, pf_e, tg_e, hp_s, hp_n, hp_2, List.set_cons_zero, List.set_cons_succ, b2i_t, b2i_f, Ret_s, nlg_r, nlg_i, nlg_n, ok_0, ok_i, ok_r, ok_l, zi_e, zi_n, zi_t, Nat.reduceEqDiff, Nat.not_le, Nat.reduceLeDiff, if_true, if_false, eq_self, ↓reduceIte, Nat.reduceLT, Nat.le_refl, nle1, nez1, nez2]
    rfl
  rw [e0, e2]
  simp (disch := first | omega | (simp only [nlg_r, nlg_i, nlg_n, ok_0, ok_i, ok_r, ok_l]; done) | assumption | (simp only [List.length_set, List.length_append, List.length_cons, List.length_nil]; omega)) only [r_38_0, r_38_1, r_38_4, r_38_6, r_38_8, r_38_9, r_38_12, r_38_15, r_38_16, r_38_18, r_38_20, r_38_21, r_38_24, r_38_27, r_38_30, r_38_31, r_38_34, r_38_36, r_38_39, r_38_42, r_38_44, r_38_46, r_38_49, r_38_50, r_38_53, r_38_55, r_38_58, r_38_59, r_38_62, r_38_64, r_38_67, r_38_68, r_38_71, r_38_73, r_38_75, r_38_78, r_38_81, r_38_84, r_38_86, hM', c5, f7, z7, aft_v, aft_n, aft_t, gf_0, gf_s, pf_e, tg_e, hp_s, hp_n, hp_2, List.set_cons_zero, List.set_cons_succ, b2i_t, b2i_f, Ret_s, nlg_r, nlg_i, nlg_n, ok_0, ok_i, ok_r, ok_l, zi_e, zi_n, zi_t, Nat.reduceEqDiff, Nat.not_le, Nat.reduceLeDiff, if_true, if_false, eq_self, ↓reduceIte, Nat.reduceLT, Nat.le_refl, nle1, nez1, nez2, ei_r, ei_l, ni_r, ni_l, ti_r, ti_l, ai_r, ai_l, si_r, si_l, mi_r, mi_l, di_r, nI_eq, nI_leI, nI_ltI, nI_add, pk_sub, pk_mul, pk_div, pk_rem, nI_l, lN_i]
end CN
