/-! PLAIN LEAN, 35: run in the component -/
theorem stn_grw {τ : AS} {n j b s : Nat} (hj : j ≠ n) : stn (grw τ n b) j s = grw (stn τ j s) n b := by
  have e1 : (grw τ n b).2 1 = τ.2 1 := grw_c _ _ _ (by decide) (by decide) (by decide) (by decide)
  have e3 : ((grw τ n b).2 3).getD j 0 = (τ.2 3).getD j 0 := gD_ne hj
  unfold stn
  rw [e1, e3]
  split
  · refine Prod.ext rfl (funext fun i => ?_)
    simp only [grw, uc_2, Nat.reduceEqDiff, if_true, if_false]
    rw [gD_ne (Ne.symm hj), List.set_comm _ _ hj]
    by_cases i3 : i = 3
    · subst i3; rfl
    · simp only [if_neg i3]
  · rfl
theorem stnN_grw {τ : AS} {n b s : Nat} : ∀ m, m ≤ n → stnN (grw τ n b) s m = grw (stnN τ s m) n b
  | 0, _ => rfl
  | m + 1, hm => by rw [stnN, stnN, stnN_grw m (by omega), stn_grw (by omega)]
theorem gsN_eq {σ : AS} {b s : Nat} : ∀ n, stnN (grwN σ b n) s n = gsN σ b s n
  | 0 => rfl
  | n + 1 => by rw [grwN, stnN, gsN, stnN_grw n (Nat.le_refl _), gsN_eq n]
theorem dayC_T (σ : AS) : dayC σ = dayT σ := by unfold dayC dayT; rw [gsN_eq]
section CK
variable {σ σ' : AS} {O : List Nat} {d : Nat} {h h' : MH}
theorem gsN_k (b s : Nat) : ∀ n, (gsN σ b s n).1 = σ.1 ∧ (∀ j, j ≠ 3 → j ≠ 4 → j ≠ 5 → j ≠ 14 → (gsN σ b s n).2 j = σ.2 j)
  | 0 => ⟨rfl, fun _ _ _ _ _ => rfl⟩
  | n + 1 => ⟨by rw [gsN, stn_1, grw_1]; exact (gsN_k b s n).1, fun j a c e f => by rw [gsN, stn_c _ _ _ a, grw_c _ _ _ a c e f]; exact (gsN_k b s n).2 j a c e f⟩
theorem gsN_Q {B : Nat} (h : WQ B σ) (b s : Nat) : ∀ n, n ≤ (σ.2 1).length → WQ B (gsN σ b s n)
  | 0, _ => h
  | n + 1, hn => by
    have e := (gsN_k (σ := σ) b s n).2 1 (by decide) (by decide) (by decide) (by decide)
    exact stn_Q (grw_Q (gsN_Q h b s n (by omega)) (by rw [e]; omega)) (by rw [grw_len, e]; omega)
theorem c_ropes {B : Nat} (hB : B ≤ 1000000000) (hQ : WQ B σ) : ∀ (m j : Nat) (h : MH) (z : Value), j + m = (σ.2 1).length → CP (gsN σ ((σ.2 15).getD (σ.1 0) 0) ((σ.2 16).getD (σ.1 0) 0) j) O h →
    ∃ h' z', run (d + 4) 32 16 [.ref 5, .int (nI j), z] [] h = run (d + 4) 32 16 [.ref 5, .int (nI (σ.2 1).length), z'] [] h' ∧ CP (gsN σ ((σ.2 15).getD (σ.1 0) 0) ((σ.2 16).getD (σ.1 0) 0) (σ.2 1).length) O h' ∧ h'.2 = h.2 ∧ ∀ a, a = 0 ∨ (16 ≤ a ∧ a ≤ 33) → h'.1 a = h.1 a := by
  intro m
  induction m with
  | zero =>
    intro j h z hj H
    have hj : j = (σ.2 1).length := by omega
    subst hj
    exact ⟨h, z, rfl, H, rfl, fun _ _ => rfl⟩
  | succ m ih =>
    intro j h z hj H
    have k1 := gsN_k (σ := σ) ((σ.2 15).getD (σ.1 0) 0) ((σ.2 16).getD (σ.1 0) 0) j
    have kq := gsN_Q hQ ((σ.2 15).getD (σ.1 0) 0) ((σ.2 16).getD (σ.1 0) 0) j (by omega)
    obtain ⟨h1, z1, e1, H1, f1, g1⟩ := c_rday (d := d) (k := j) hB H kq (by rw [k1.2 1 (by decide) (by decide) (by decide) (by decide)]; omega) (z := z)
    rw [k1.1, k1.2 15 (by decide) (by decide) (by decide) (by decide), k1.2 16 (by decide) (by decide) (by decide) (by decide)] at H1
    obtain ⟨h', z', e2, H2, f2, g2⟩ := ih (j + 1) h1 z1 (by omega) H1
    exact ⟨h', z', by rw [e1, e2], H2, by rw [f2, f1], fun a ha => by rw [g2 a ha, g1 a ha]⟩
set_option maxRecDepth 20000 in
theorem c_32 {B : Nat} (hB : B ≤ 1000000000) (H : CP σ O h) (hQ : WQ B σ) (ht : σ.1 0 < 400) : ∃ h', run (d + 4) 32 0 [.ref 5, .null, .null] [] h = some (.inl none, h') ∧ CP (dayT σ) O h' ∧ h'.2 = h.2 ∧ ∀ a, a = 0 ∨ (16 ≤ a ∧ a ≤ 33) → h'.1 a = h.1 a := by
  rw [← dayC_T]
  obtain ⟨rr, er, es, ep, ra, sa, pa, H1, H2⟩ := H
  have hM := H1.1
  have F1 := H1.td (σ.1 0 + 1)
  have L1 : CL (us σ 0 (σ.1 0 + 1)) O er es ep ra sa pa (hput h 5 (c5 (us σ 0 (σ.1 0 + 1)) rr)) := H2.put (by omega) (fun _ _ _ => rfl)
  have fQ := flo_Q hQ ht
  have q33 := c_33 (d := d + 3) (σ := us σ 0 (σ.1 0 + 1)) F1.1 (by exact hQ.1) (by exact ⟨by simp [us]; omega, hQ.2.2.1.2⟩) F1.2.2.2.2.2.2.1 hB (fun k => Nat.le_trans (gD_sum _ _) hQ.2.2.2)
  have F2 := F1.pk (flw (σ.1 1) (σ.1 2) (σ.2 14))
  have L2 : CL (flo σ) O er es ep ra sa pa (hput (hput h 5 (c5 (us σ 0 (σ.1 0 + 1)) rr)) 13 (21, lA (flw (σ.1 1) (σ.1 2) (σ.2 14)))) := L1.put (by omega) (fun j q1 q2 => by unfold flo; rw [uc_2, if_neg (by omega)])
  obtain ⟨h', z', e2, P2, f2, g2⟩ := c_ropes (d := d) (σ := flo σ) (O := O) hB fQ (σ.2 1).length 0 _ .null (by rw [Nat.zero_add]; rfl) ⟨rr, er, es, ep, ra, sa, pa, F2, L2⟩
  have e0 : run (d + 4) 32 0 [.ref 5, .null, .null] [] h = run (d + 4) 32 16 [.ref 5, .int (nI 0), .null] [] (hput (hput h 5 (c5 (us σ 0 (σ.1 0 + 1)) rr)) 13 (21, lA (flw (σ.1 1) (σ.1 2) (σ.2 14)))) := by
    have s1 := hQ.2.2.1.1
    simp only [c5, us_1, us_2, Nat.reduceEqDiff, eq_self, if_true, if_false, ↓reduceIte] at q33
    simp (disch := first | omega | (simp only [nlg_r, nlg_i, nlg_n, ok_0, ok_i, ok_r, ok_l]; done) | assumption | (simp only [List.length_set, List.length_append, List.length_cons, List.length_nil]; omega)) only [r_32_0, r_32_1, r_32_2, r_32_5, r_32_6, r_32_7, r_32_10, r_32_11, r_32_14, r_32_15, hM, c5, aft_v, aft_n, aft_t, gf_0, gf_s, pf_e, tg_e, hp_s, hp_n, hp_2, List.set_cons_zero, List.set_cons_succ, b2i_t, b2i_f, Ret_s, nlg_r, nlg_i, nlg_n, ok_0, ok_i, ok_r, ok_l, zi_e, zi_n, zi_t, Nat.reduceEqDiff, Nat.not_le, Nat.reduceLeDiff, if_true, if_false, eq_self, ↓reduceIte, Nat.reduceLT, Nat.le_refl, nle1, nez1, nez2, ei_r, ei_l, ni_r, ni_l, ti_r, ti_l, ai_r, ai_l, si_r, si_l, mi_r, mi_l, di_r, nI_eq, nI_leI, nI_ltI, nI_add, pk_sub, pk_mul, pk_div, pk_rem, nI_l, lN_i, us_1, us_2, q33]
    rfl
  have e9 : ∀ (n : Nat) (z : Value), CP (dayC σ) O h' → n = (σ.2 1).length → run (d + 4) 32 16 [.ref 5, .int (nI n), z] [] h' = some (.inl none, h') := fun n z P hn => by
    obtain ⟨rr, er, es, ep, ra, sa, pa, H1, H2⟩ := P
    have n1 := H2.2.2.2.2.2.2.2.2.2.2.2.1
    have hl : ((dayC σ).2 1).length = n := by unfold dayC; rw [(gsN_k _ _ _).2 1 (by decide) (by decide) (by decide) (by decide), hn]; rfl
    have z6 := l_size (d := d + 3) H2.2.2.1
    rw [n1, hl] at z6
    obtain ⟨m6, c6, f6, -⟩ := H2.2.2.1
    have hM := H1.1
    have hlt := hQ.1.1
    rw [← hn] at hlt
    simp (disch := first | omega | (simp only [nlg_r, nlg_i, nlg_n, ok_0, ok_i, ok_r, ok_l]; done) | assumption | (simp only [List.length_set, List.length_append, List.length_cons, List.length_nil]; omega)) only [r_32_0, r_32_1, r_32_2, r_32_5, r_32_6, r_32_7, r_32_10, r_32_11, r_32_14, r_32_15, r_32_16, r_32_17, r_32_18, r_32_21, r_32_24, r_32_27, r_32_28, r_32_31, r_32_32, r_32_35, r_32_38, r_32_39, r_32_40, r_32_43, r_32_44, r_32_47, r_32_48, r_32_49, r_32_50, r_32_51, r_32_54, r_32_55, r_32_58, r_32_59, r_32_60, r_32_63, r_32_64, r_32_67, r_32_68, r_32_71, r_32_72, r_32_73, r_32_74, r_32_75, r_32_78, r_32_79, r_32_82, r_32_83, r_32_86, r_32_89, r_32_92, hM, c5, aft_v, aft_n, aft_t, gf_0, gf_s, pf_e, tg_e, hp_s, hp_n, hp_2, List.set_cons_zero, List.set_cons_succ, b2i_t, b2i_f, Ret_s, nlg_r, nlg_i, nlg_n, ok_0, ok_i, ok_r, ok_l, zi_e, zi_n, zi_t, Nat.reduceEqDiff, Nat.not_le, Nat.reduceLeDiff, if_true, if_false, eq_self, ↓reduceIte, Nat.reduceLT, Nat.le_refl, nle1, nez1, nez2, ei_r, ei_l, ni_r, ni_l, ti_r, ti_l, ai_r, ai_l, si_r, si_l, mi_r, mi_l, di_r, nI_eq, nI_leI, nI_ltI, nI_add, pk_sub, pk_mul, pk_div, pk_rem, nI_l, lN_i, f6, z6]
  refine ⟨h', ?_, P2, ?_, fun a ha => ?_⟩
  · rw [e0, e2]
    exact e9 _ _ P2 rfl
  · rw [f2]; rfl
  · rw [g2 a ha, hp_n _ _ _ _ (by omega), hp_n _ _ _ _ (by omega)]
theorem c_days {B n : Nat} (hB : B ≤ 1000000000) (hQ : WQ B σ) (hn : σ.1 0 + n ≤ 400) : ∀ (m j : Nat) (h : MH), j + m = n → CP (dayN σ j) O h →
    ∃ h', run (d + 5) 31 32 [.ref 5, .int (nI n), .int (nI j)] [] h = run (d + 5) 31 32 [.ref 5, .int (nI n), .int (nI n)] [] h' ∧ CP (dayN σ n) O h' ∧ h'.2 = h.2 ∧ ∀ a, a = 0 ∨ (16 ≤ a ∧ a ≤ 33) → h'.1 a = h.1 a := by
  intro m
  induction m with
  | zero =>
    intro j h hj H
    have hj : j = n := by omega
    subst hj
    exact ⟨h, rfl, H, rfl, fun _ _ => rfl⟩
  | succ m ih =>
    intro j h hj H
    obtain ⟨q1, q2, q3⟩ := dayN_Q hQ j (by omega)
    obtain ⟨h1, e1, H1, f1, g1⟩ := c_32 (d := d) hB H q1 (by omega)
    obtain ⟨h', e2, H2, f2, g2⟩ := ih (j + 1) h1 (by omega) H1
    have hN1 := nI_lt (a := j) (b := n) (by omega) (by omega)
    obtain ⟨rr, hM⟩ := H.c5
    refine ⟨h', ?_, H2, by rw [f2, f1], fun a ha => by rw [g2 a ha, g1 a ha]⟩
    rw [← e2]
    have q : ¬ n ≤ j := by omega
    conv => lhs; rw [r_31_32]
    simp (disch := first | omega | (simp only [nlg_r, nlg_i, nlg_n, ok_0, ok_i, ok_r, ok_l]; done) | assumption | (simp only [List.length_set, List.length_append, List.length_cons, List.length_nil]; omega)) only [r_31_33, r_31_34, r_31_37, r_31_38, r_31_41, r_31_44, hM, c5, aft_v, aft_n, aft_t, gf_0, gf_s, pf_e, tg_e, hp_s, hp_n, hp_2, List.set_cons_zero, List.set_cons_succ, b2i_t, b2i_f, Ret_s, nlg_r, nlg_i, nlg_n, ok_0, ok_i, ok_r, ok_l, zi_e, zi_n, zi_t, Nat.reduceEqDiff, Nat.not_le, Nat.reduceLeDiff, if_true, if_false, eq_self, ↓reduceIte, Nat.reduceLT, Nat.le_refl, nle1, nez1, nez2, ei_r, ei_l, ni_r, ni_l, ti_r, ti_l, ai_r, ai_l, si_r, si_l, mi_r, mi_l, di_r, nI_eq, nI_leI, nI_ltI, nI_add, pk_sub, pk_mul, pk_div, pk_rem, nI_l, lN_i, q, e1]
theorem w_run1 (H : CP σ O h) {n : Int32} (hc : inR n 0 100 = false) : Ret (run (d + 3) 4 0 [.ref 5, .int n, .ref 34, .null] [] h) (CR h 1 0 σ O) := by
  obtain ⟨hx1, hx2, hN, h35⟩ := H.x 1
  obtain ⟨rr, hM⟩ := H.c5
  have t1 : hnd 4 4 (40 + 1) = some (some 12) := by decide +kernel
  have e : run (d + 2) 31 0 [.ref 5, .int n, .null] [] h = some (.inr h.2.1, hx 1 h) := by
    simp (disch := first | omega | (simp only [nlg_r, nlg_i, nlg_n, ok_0, ok_i, ok_r, ok_l]; done) | assumption | (simp only [List.length_set, List.length_append, List.length_cons, List.length_nil]; omega)) only [r_31_0, r_31_1, r_31_2, r_31_4, r_31_7, r_31_10, r_31_11, r_31_14, r_31_15, r_31_16, r_31_19, r_31_22, r_31_23, r_31_26, r_31_27, r_31_30, r_31_31, r_31_32, r_31_33, r_31_34, r_31_37, r_31_38, r_31_41, r_31_44, r_31_47, r_31_48, r_31_51, c_21, hc, c_26f, aft_v, aft_n, aft_t, gf_0, gf_s, pf_e, tg_e, hp_s, hp_n, hp_2, List.set_cons_zero, List.set_cons_succ, b2i_t, b2i_f, Ret_s, nlg_r, nlg_i, nlg_n, ok_0, ok_i, ok_r, ok_l, zi_e, zi_n, zi_t, Nat.reduceEqDiff, Nat.not_le, Nat.reduceLeDiff, if_true, if_false, eq_self, ↓reduceIte, Nat.reduceLT, Nat.le_refl, nle1, nez1, nez2, thx mh31 (show 1 < 3 by omega)]
  simp (disch := first | omega | (simp only [nlg_r, nlg_i, nlg_n, ok_0, ok_i, ok_r, ok_l]; done) | assumption | (simp only [List.length_set, List.length_append, List.length_cons, List.length_nil]; omega)) only [r_4_0, r_4_1, r_4_2, r_4_3, r_4_4, r_4_7, r_4_8, r_4_9, r_4_12, r_4_13, r_4_14, r_4_15, r_4_16, r_4_17, r_4_18, r_4_19, hM, c5, aft_v, aft_n, aft_t, gf_0, gf_s, pf_e, tg_e, hp_s, hp_n, hp_2, List.set_cons_zero, List.set_cons_succ, b2i_t, b2i_f, Ret_s, nlg_r, nlg_i, nlg_n, ok_0, ok_i, ok_r, ok_l, zi_e, zi_n, zi_t, Nat.reduceEqDiff, Nat.not_le, Nat.reduceLeDiff, if_true, if_false, eq_self, ↓reduceIte, Nat.reduceLT, Nat.le_refl, nle1, nez1, nez2, e, thy t1]
  exact ⟨rfl, hx1, hx2, fun z => by cases z⟩
theorem w_run2 (H : CP σ O h) (hS : WS σ) {n : Nat} (hn : n ≤ 100) (hc : ¬ σ.1 0 + n ≤ 400) : Ret (run (d + 3) 4 0 [.ref 5, .int (nI n), .ref 34, .null] [] h) (CR h 2 0 σ O) := by
  obtain ⟨hx1, hx2, hN, h35⟩ := H.x 2
  obtain ⟨rr, hM⟩ := H.c5
  have s1 := hS.1
  have e1 : inR (nI n) 0 100 = true := inR_nI (lo := 0) (hi := 100) (by omega) hn (by omega)
  have t1 : hnd 4 4 (40 + 2) = some (some 15) := by decide +kernel
  have q : 400 < σ.1 0 + n := by omega
  have e : run (d + 2) 31 0 [.ref 5, .int (nI n), .null] [] h = some (.inr h.2.1, hx 2 h) := by
    simp (disch := first | omega | (simp only [nlg_r, nlg_i, nlg_n, ok_0, ok_i, ok_r, ok_l]; done) | assumption | (simp only [List.length_set, List.length_append, List.length_cons, List.length_nil]; omega)) only [r_31_0, r_31_1, r_31_2, r_31_4, r_31_7, r_31_10, r_31_11, r_31_14, r_31_15, r_31_16, r_31_19, r_31_22, r_31_23, r_31_26, r_31_27, r_31_30, r_31_31, r_31_32, r_31_33, r_31_34, r_31_37, r_31_38, r_31_41, r_31_44, r_31_47, r_31_48, r_31_51, hM, c5, c_21, e1, c_26t, c_27f, ei_r, ei_l, ni_r, ni_l, ti_r, ti_l, ai_r, ai_l, si_r, si_l, mi_r, mi_l, di_r, nI_eq, nI_leI, nI_ltI, nI_add, pk_sub, pk_mul, pk_div, pk_rem, nI_l, lN_i, q, aft_v, aft_n, aft_t, gf_0, gf_s, pf_e, tg_e, hp_s, hp_n, hp_2, List.set_cons_zero, List.set_cons_succ, b2i_t, b2i_f, Ret_s, nlg_r, nlg_i, nlg_n, ok_0, ok_i, ok_r, ok_l, zi_e, zi_n, zi_t, Nat.reduceEqDiff, Nat.not_le, Nat.reduceLeDiff, if_true, if_false, eq_self, ↓reduceIte, Nat.reduceLT, Nat.le_refl, nle1, nez1, nez2, thx mh31 (show 2 < 3 by omega)]
  simp (disch := first | omega | (simp only [nlg_r, nlg_i, nlg_n, ok_0, ok_i, ok_r, ok_l]; done) | assumption | (simp only [List.length_set, List.length_append, List.length_cons, List.length_nil]; omega)) only [r_4_0, r_4_1, r_4_2, r_4_3, r_4_4, r_4_7, r_4_8, r_4_9, r_4_12, r_4_13, r_4_14, r_4_15, r_4_16, r_4_17, r_4_18, r_4_19, hM, c5, aft_v, aft_n, aft_t, gf_0, gf_s, pf_e, tg_e, hp_s, hp_n, hp_2, List.set_cons_zero, List.set_cons_succ, b2i_t, b2i_f, Ret_s, nlg_r, nlg_i, nlg_n, ok_0, ok_i, ok_r, ok_l, zi_e, zi_n, zi_t, Nat.reduceEqDiff, Nat.not_le, Nat.reduceLeDiff, if_true, if_false, eq_self, ↓reduceIte, Nat.reduceLT, Nat.le_refl, nle1, nez1, nez2, e, thy t1]
  exact ⟨rfl, hx1, hx2, fun z => by cases z⟩
set_option maxRecDepth 20000 in
theorem w_run {B n : Nat} (hB : B ≤ 1000000000) (H : CP σ O h) (hQ : WQ B σ) (h1 : n ≤ 100) (hn : σ.1 0 + n ≤ 400) : Ret (run (d + 6) 4 0 [.ref 5, .int (nI n), .ref 34, .null] [] h) (CR h 0 (nI (σ.1 0 + n)).toInt64 (dayN σ n) O) := by
  obtain ⟨rr, hM⟩ := H.c5
  have e1 : inR (nI n) 0 100 = true := inR_nI (lo := 0) (hi := 100) (by omega) h1 (by omega)
  obtain ⟨h', e2, H2, f2, g2⟩ := c_days (d := d) hB hQ hn n 0 h (by omega) H
  obtain ⟨q1, q2, q3⟩ := dayN_Q hQ n hn
  obtain ⟨rr', hM'⟩ := H2.c5
  obtain ⟨x, ho⟩ := H2.o
  have q : ¬ 400 < σ.1 0 + n := by omega
  simp only [show nI 0 = 0 from rfl] at e2
  simp only [c5, q2] at hM'
  have e3 : run (d + 5) 31 0 [.ref 5, .int (nI n), .null] [] h = some (.inl (some (.int (nI (σ.1 0 + n)))), h') := by
    have e4 : run (d + 5) 31 0 [.ref 5, .int (nI n), .null] [] h = run (d + 5) 31 32 [.ref 5, .int (nI n), .int 0] [] h := by
      simp (disch := first | omega | (simp only [nlg_r, nlg_i, nlg_n, ok_0, ok_i, ok_r, ok_l]; done) | assumption | (simp only [List.length_set, List.length_append, List.length_cons, List.length_nil]; omega)) only [r_31_0, r_31_1, r_31_2, r_31_4, r_31_7, r_31_10, r_31_11, r_31_14, r_31_15, r_31_16, r_31_19, r_31_22, r_31_23, r_31_26, r_31_27, r_31_30, r_31_31, hM, c5, c_21, e1, c_26t, c_27t, ei_r, ei_l, ni_r, ni_l, ti_r, ti_l, ai_r, ai_l, si_r, si_l, mi_r, mi_l, di_r, nI_eq, nI_leI, nI_ltI, nI_add, pk_sub, pk_mul, pk_div, pk_rem, nI_l, lN_i, q, aft_v, aft_n, aft_t, gf_0, gf_s, pf_e, tg_e, hp_s, hp_n, hp_2, List.set_cons_zero, List.set_cons_succ, b2i_t, b2i_f, Ret_s, nlg_r, nlg_i, nlg_n, ok_0, ok_i, ok_r, ok_l, zi_e, zi_n, zi_t, Nat.reduceEqDiff, Nat.not_le, Nat.reduceLeDiff, if_true, if_false, eq_self, ↓reduceIte, Nat.reduceLT, Nat.le_refl, nle1, nez1, nez2]
    rw [e4, e2, r_31_32]
    simp (disch := first | omega | (simp only [nlg_r, nlg_i, nlg_n, ok_0, ok_i, ok_r, ok_l]; done) | assumption | (simp only [List.length_set, List.length_append, List.length_cons, List.length_nil]; omega)) only [r_31_33, r_31_34, r_31_37, r_31_38, r_31_41, r_31_44, r_31_47, r_31_48, r_31_51, hM', aft_v, aft_n, aft_t, gf_0, gf_s, pf_e, tg_e, hp_s, hp_n, hp_2, List.set_cons_zero, List.set_cons_succ, b2i_t, b2i_f, Ret_s, nlg_r, nlg_i, nlg_n, ok_0, ok_i, ok_r, ok_l, zi_e, zi_n, zi_t, Nat.reduceEqDiff, Nat.not_le, Nat.reduceLeDiff, if_true, if_false, eq_self, ↓reduceIte, Nat.reduceLT, Nat.le_refl, nle1, nez1, nez2, ei_r, ei_l, ni_r, ni_l, ti_r, ti_l, ai_r, ai_l, si_r, si_l, mi_r, mi_l, di_r, nI_eq, nI_leI, nI_ltI, nI_add, pk_sub, pk_mul, pk_div, pk_rem, nI_l, lN_i]
  simp (disch := first | omega | (simp only [nlg_r, nlg_i, nlg_n, ok_0, ok_i, ok_r, ok_l]; done) | assumption | (simp only [List.length_set, List.length_append, List.length_cons, List.length_nil]; omega)) only [r_4_0, r_4_1, r_4_2, r_4_3, r_4_4, r_4_7, r_4_8, r_4_9, r_4_12, r_4_13, r_4_14, r_4_15, r_4_16, r_4_17, r_4_18, r_4_19, hM, c5, aft_v, aft_n, aft_t, gf_0, gf_s, pf_e, tg_e, hp_s, hp_n, hp_2, List.set_cons_zero, List.set_cons_succ, b2i_t, b2i_f, Ret_s, nlg_r, nlg_i, nlg_n, ok_0, ok_i, ok_r, ok_l, zi_e, zi_n, zi_t, Nat.reduceEqDiff, Nat.not_le, Nat.reduceLeDiff, if_true, if_false, eq_self, ↓reduceIte, Nat.reduceLT, Nat.le_refl, nle1, nez1, nez2, e3, ho, as_o]
  exact ⟨rfl, H2.out _, (FrC2 f2 g2).put (by omega), fun _ => by rw [hp_s]⟩
end CK
