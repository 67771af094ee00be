/-! PLAIN LEAN, 34: a day in the component -/
section CJ
variable {σ σ' : AS} {O : List Nat} {d rr er es ep : Nat} {ra sa pa : List Nat} {h h' : MH}
theorem mi3 : (3 : Int32) + (-1) = nI 2 := rfl
theorem m31 : (3 : Int32) - 1 = nI 2 := rfl
theorem mi2 : nI 2 + (-1) = nI 1 := rfl
theorem mi1 : nI 1 + (-1) = nI 0 := rfl
theorem mi0 : nI 0 + (-1) = -1 := rfl
theorem mlt : ((-1 : Int32) < 0) = True := by decide
set_option maxRecDepth 20000 in
theorem c_33 (hM : h.1 5 = c5 σ rr) (hL : WL σ) (hS : WS σ) (k7 : h.1 13 = (21, lA (σ.2 14))) {B : Nat} (hB : B ≤ 1000000000) (hp : ∀ k, (σ.2 14).getD k 0 ≤ B) : run d 33 0 [.ref 5, .null, .null, .null, .null, .null, .null, .null] [] h = some (.inl none, hput h 13 (21, lA (flw (σ.1 1) (σ.1 2) (σ.2 14)))) := by
  obtain ⟨s1, s2, s3, s4, s5⟩ := hS
  obtain ⟨p0, p1, p2, p3, hpe⟩ := len4 hL.2.2.2.2.2.2.2.2.2.2.2.2.2.1
  have b0 := hp 0
  have b1 := hp 1
  have b2 := hp 2
  have b3 := hp 3
  rw [hpe] at b0 b1 b2 b3
  simp only [g4_0, g4_1, g4_2, g4_3] at b0 b1 b2 b3
  have c0 : p0 * σ.1 1 ≤ 1000000000 * 100 := Nat.mul_le_mul (by omega) (by omega)
  have c1 : p1 * σ.1 1 ≤ 1000000000 * 100 := Nat.mul_le_mul (by omega) (by omega)
  have c2 : p2 * σ.1 1 ≤ 1000000000 * 100 := Nat.mul_le_mul (by omega) (by omega)
  have c3 : p3 * σ.1 1 ≤ 1000000000 * 100 := Nat.mul_le_mul (by omega) (by omega)
  have f0 : p0 * σ.1 1 / σ.1 2 ≤ p0 := mdv s2 s3
  have f1 : p1 * σ.1 1 / σ.1 2 ≤ p1 := mdv s2 s3
  have f2 : p2 * σ.1 1 / σ.1 2 ≤ p2 := mdv s2 s3
  have f3 : p3 * σ.1 1 / σ.1 2 ≤ p3 := mdv s2 s3
  have bz : ¬ lN (σ.1 2) = 0 := by rw [el_r (by omega) (by omega)]; omega
  have alg : ∀ x y z : Nat, y ≤ x → lN x + (lN z - lN y) = lN (x - y + z) := fun x y z hxy => by
    rw [← lN_add, ← lN_sub hxy]
    rw [Int64.sub_eq_add_neg, Int64.sub_eq_add_neg, Int64.add_comm (lN z), ← Int64.add_assoc]
  rw [hpe] at k7 ⊢
  simp (disch := first | omega | (simp only [nlg_r, nlg_i, nlg_n, ok_0, ok_i, ok_r, ok_l]; done) | assumption | (simp only [List.length_set, List.length_append, List.length_cons, List.length_nil]; omega)) only [r_33_0, r_33_1, r_33_4, r_33_5, r_33_6, r_33_7, r_33_10, r_33_11, r_33_12, r_33_13, r_33_16, r_33_17, r_33_18, r_33_19, r_33_20, r_33_21, r_33_22, r_33_25, r_33_26, r_33_29, r_33_30, r_33_31, r_33_32, r_33_35, r_33_36, r_33_37, r_33_38, r_33_41, r_33_42, r_33_43, r_33_45, r_33_46, r_33_49, r_33_50, r_33_53, r_33_54, r_33_57, r_33_58, r_33_59, r_33_60, r_33_61, r_33_62, r_33_65, r_33_66, r_33_67, r_33_68, r_33_71, r_33_72, r_33_73, r_33_75, r_33_76, r_33_79, r_33_80, r_33_81, r_33_82, r_33_84, r_33_86, r_33_87, r_33_88, r_33_89, r_33_92, r_33_95, hM, c5, k7, aft_v, aft_n, aft_t, gf_0, gf_s, pf_e, tg_e, hp_s, hp_n, hp_2, List.set_cons_zero, List.set_cons_succ, b2i_t, b2i_f, Ret_s, nlg_r, nlg_i, nlg_n, ok_0, ok_i, ok_r, ok_l, zi_e, zi_n, zi_t, Nat.reduceEqDiff, Nat.not_le, Nat.reduceLeDiff, if_true, if_false, eq_self, ↓reduceIte, Nat.reduceLT, Nat.le_refl, nle1, nez1, nez2, ei_r, ei_l, ni_r, ni_l, ti_r, ti_l, ai_r, ai_l, si_r, si_l, mi_r, mi_l, di_r, nI_eq, nI_leI, nI_ltI, nI_add, pk_sub, pk_mul, pk_div, pk_rem, nI_l, lN_i, al_z, as_z, al_l, as_l, lN_mul, pk_lDiv, alg, m31, mi3, mi2, mi1, mi0, mlt, Nat.reduceSub, List.set_cons_zero, List.set_cons_succ, g4_0, g4_1, g4_2, g4_3, ln4, hp_p, flw]
theorem CF.pk (H : CF σ rr h) (l : List Nat) : CF (uc σ 14 l) rr (hput h 13 (21, lA l)) := by
  obtain ⟨k1, ⟨ap, pl, k2⟩, k3, ⟨v0, v1, v2, v3, k4⟩, k5, k6, k7, k8, k9, o, k10⟩ := H
  refine ⟨?_, ⟨ap, pl, ?_⟩, ?_, ⟨v0, v1, v2, v3, ?_⟩, ?_, k6, ?_, ?_, ?_, o, ?_⟩ <;> simp (disch := first | omega | (simp only [nlg_r, nlg_i, nlg_n, ok_0, ok_i, ok_r, ok_l]; done) | assumption | (simp only [List.length_set, List.length_append, List.length_cons, List.length_nil]; omega)) only [aft_v, aft_n, aft_t, gf_0, gf_s, pf_e, tg_e, hp_s, hp_n, hp_2, List.set_cons_zero, List.set_cons_succ, b2i_t, b2i_f, Ret_s, nlg_r, nlg_i, nlg_n, ok_0, ok_i, ok_r, ok_l, zi_e, zi_n, zi_t, Nat.reduceEqDiff, Nat.not_le, Nat.reduceLeDiff, if_true, if_false, eq_self, ↓reduceIte, Nat.reduceLT, Nat.le_refl, nle1, nez1, nez2, k1, k2, k3, k4, k5, k7, k8, k9, k10, uc_1, uc_2, us_1, us_2, c5]
theorem CF.td (H : CF σ rr h) (t : Nat) : CF (us σ 0 t) rr (hput h 5 (c5 (us σ 0 t) rr)) := by
  obtain ⟨k1, ⟨ap, pl, k2⟩, k3, ⟨v0, v1, v2, v3, k4⟩, k5, k6, k7, k8, k9, o, k10⟩ := H
  refine ⟨?_, ⟨ap, pl, ?_⟩, ?_, ⟨v0, v1, v2, v3, ?_⟩, ?_, k6, ?_, ?_, ?_, o, ?_⟩ <;> simp (disch := first | omega | (simp only [nlg_r, nlg_i, nlg_n, ok_0, ok_i, ok_r, ok_l]; done) | assumption | (simp only [List.length_set, List.length_append, List.length_cons, List.length_nil]; omega)) only [aft_v, aft_n, aft_t, gf_0, gf_s, pf_e, tg_e, hp_s, hp_n, hp_2, List.set_cons_zero, List.set_cons_succ, b2i_t, b2i_f, Ret_s, nlg_r, nlg_i, nlg_n, ok_0, ok_i, ok_r, ok_l, zi_e, zi_n, zi_t, Nat.reduceEqDiff, Nat.not_le, Nat.reduceLeDiff, if_true, if_false, eq_self, ↓reduceIte, Nat.reduceLT, Nat.le_refl, nle1, nez1, nez2, k1, k2, k3, k4, k5, k7, k8, k9, k10, uc_1, uc_2, us_1, us_2, c5]
theorem FrC2 {h1 : MH} (e : h1.2 = h.2) (H : ∀ a, a = 0 ∨ (16 ≤ a ∧ a ≤ 33) → h1.1 a = h.1 a) : FrC h h1 := ⟨H, by rw [e]; exact Nat.le_refl _, by rw [e]; exact Nat.le_add_right _ _, by rw [e]; exact Nat.le_add_right _ _⟩
set_option maxRecDepth 20000 in
/-- a rope's day -/
theorem c_rday {B k : Nat} (hB : B ≤ 1000000000) (H : CP σ O h) (hQ : WQ B σ) (hk : k < (σ.2 1).length) {z : Value} : ∃ h' z', run (d + 4) 32 16 [.ref 5, .int (nI k), z] [] h = run (d + 4) 32 16 [.ref 5, .int (nI (k + 1)), z'] [] h' ∧ CP (stn (grw σ k ((σ.2 15).getD (σ.1 0) 0)) k ((σ.2 16).getD (σ.1 0) 0)) O h' ∧ h'.2 = h.2 ∧ ∀ a, a = 0 ∨ (16 ≤ a ∧ a ≤ 33) → h'.1 a = h.1 a := by
  obtain ⟨rr, er, es, ep, ra, sa, pa, H1, H2⟩ := H
  have hQ' := hQ
  obtain ⟨hL, hV, hS, hP⟩ := hQ
  have hM := H1.1
  obtain ⟨r1, r2, r3⟩ := H2.rop1 hk
  obtain ⟨v1, v2, v3, v4, v5, -⟩ := hV k
  have v2 := v2 hk
  have u15 := (hV (σ.1 0)).2.2.2.2.2.2.2.2.2.2.2.2.2.1
  have u16 := (hV (σ.1 0)).2.2.2.2.2.2.2.2.2.2.2.2.2.2
  have n1 := H2.2.2.2.2.2.2.2.2.2.2.2.1
  have z6 := l_size (d := d + 3) H2.2.2.1
  have g6 := l_get (d := d + 1) (k := k) H2.2.2.1 (by omega)
  rw [n1] at z6
  obtain ⟨m6, c6, f6, -⟩ := H2.2.2.1
  have k13 := H1.2.2.2.2.2.2.1
  have k14 := H1.2.2.2.2.2.2.2.1
  have k15 := H1.2.2.2.2.2.2.2.2.1
  have s1 := hS.1
  have l1 := hL.1
  have l3 := hL.2.2.1
  have l4 := hL.2.2.2.1
  have l5 := hL.2.2.2.2.1
  have l14 := hL.2.2.2.2.2.2.2.2.2.2.2.2.2.1
  have l15 := hL.2.2.2.2.2.2.2.2.2.2.2.2.2.2.1
  have l16 := hL.2.2.2.2.2.2.2.2.2.2.2.2.2.2.2
  have bp : (σ.2 14).getD ((σ.2 2).getD k 0) 0 ≤ B := Nat.le_trans (gD_sum _ _) hP
  obtain ⟨τ, hτ⟩ : ∃ τ : AS, τ = grw σ k ((σ.2 15).getD (σ.1 0) 0) := ⟨_, rfl⟩
  have hτQ := grw_Q hQ' (b := (σ.2 15).getD (σ.1 0) 0) hk
  rw [← hτ] at hτQ
  rw [← hτ]
  have gX := gby_le ((σ.2 3).getD k 0) ((σ.2 15).getD (σ.1 0) 0) ((σ.2 4).getD k 0) ((σ.2 14).getD ((σ.2 2).getD k 0) 0) ((σ.2 1).getD k 0)
  have bX : gby ((σ.2 3).getD k 0) ((σ.2 15).getD (σ.1 0) 0) ((σ.2 4).getD k 0) ((σ.2 14).getD ((σ.2 2).getD k 0) 0) ((σ.2 1).getD k 0) * (σ.2 1).getD k 0 ≤ (σ.2 14).getD ((σ.2 2).getD k 0) 0 := Nat.le_trans (Nat.mul_le_mul_right _ gX.2) (Nat.div_mul_le_self _ _)
  have eR : ropC τ k = (3, [.int (nI ((σ.2 1).getD k 0)), .int (nI ((σ.2 2).getD k 0)), .int (nI ((σ.2 3).getD k 0 + gby ((σ.2 3).getD k 0) ((σ.2 15).getD (σ.1 0) 0) ((σ.2 4).getD k 0) ((σ.2 14).getD ((σ.2 2).getD k 0) 0) ((σ.2 1).getD k 0))), .int (nI (grs ((σ.2 3).getD k 0) ((σ.2 15).getD (σ.1 0) 0) ((σ.2 4).getD k 0) ((σ.2 14).getD ((σ.2 2).getD k 0) 0) ((σ.2 1).getD k 0))), .long (lN ((σ.2 5).getD k 0 + gby ((σ.2 3).getD k 0) ((σ.2 15).getD (σ.1 0) 0) ((σ.2 4).getD k 0) ((σ.2 14).getD ((σ.2 2).getD k 0) 0) ((σ.2 1).getD k 0) * (σ.2 1).getD k 0))]) := by
    rw [hτ]
    simp only [ropC, grw, uc_2, Nat.reduceEqDiff, if_true, if_false]
    rw [gsame (by omega), gsame (by omega), gsame (by omega)]
  have eP : τ.2 14 = (σ.2 14).set ((σ.2 2).getD k 0) ((σ.2 14).getD ((σ.2 2).getD k 0) 0 - gby ((σ.2 3).getD k 0) ((σ.2 15).getD (σ.1 0) 0) ((σ.2 4).getD k 0) ((σ.2 14).getD ((σ.2 2).getD k 0) 0) ((σ.2 1).getD k 0) * (σ.2 1).getD k 0) := by rw [hτ]; rfl
  have hrj : ∀ j, j ≠ k → ropC τ j = ropC σ j := fun j hj => by
    rw [hτ]
    simp only [ropC, grw, uc_2, Nat.reduceEqDiff, if_true, if_false]
    rw [gD_ne hj, gD_ne hj, gD_ne hj]
  have hcj : ∀ j, 6 ≤ j → j ≤ 11 → τ.2 j = σ.2 j := fun j q1 q2 => by rw [hτ]; exact grw_c _ _ _ (by omega) (by omega) (by omega) (by omega)
  have t1 : τ.1 = σ.1 := by rw [hτ]; rfl
  have tm : τ.2 1 = σ.2 1 := by rw [hτ]; exact grw_c _ _ _ (by decide) (by decide) (by decide) (by decide)
  have tg : (τ.2 3).getD k 0 = (σ.2 3).getD k 0 + gby ((σ.2 3).getD k 0) ((σ.2 15).getD (σ.1 0) 0) ((σ.2 4).getD k 0) ((σ.2 14).getD ((σ.2 2).getD k 0) 0) ((σ.2 1).getD k 0) := by
    rw [hτ]
    simp only [grw, uc_2, Nat.reduceEqDiff, if_true, if_false]
    rw [gsame (by omega)]
  have tl3 : (τ.2 3).length = (σ.2 1).length := by have := hτQ.1.2.2.1; rw [tm] at this; exact this
  -- the cells after growing
  have hC1 := H2.rput (σ' := τ) hk (by rw [tm]) hrj hcj
  have hC2 : CL τ O er es ep ra sa pa (hput (hput h (ra.getD k 0) (ropC τ k)) 13 (21, lA (τ.2 14))) := hC1.put (by omega) (fun _ _ _ => rfl)
  have hF2 : CF τ rr (hput (hput h (ra.getD k 0) (ropC τ k)) 13 (21, lA (τ.2 14))) := by
    have q := (H1.rput (σ' := uc (uc (uc σ 4 (τ.2 4)) 3 (τ.2 3)) 5 (τ.2 5)) (o := ropC τ k) r1 ⟨_, r3⟩ rfl (fun j q1 q2 => by rw [uc_2, uc_2, uc_2, if_neg (by omega), if_neg (by omega), if_neg (by omega)])).pk (τ.2 14)
    have et : uc (uc (uc (uc σ 4 (τ.2 4)) 3 (τ.2 3)) 5 (τ.2 5)) 14 (τ.2 14) = τ := by rw [hτ]; rfl
    rw [et] at q
    exact q
  have c5' := c_65 (d := d + 2) (A := ra.getD k 0) (b := (σ.2 15).getD (σ.1 0) 0) (P := (σ.2 14).getD ((σ.2 2).getD k 0) 0) (by omega) r3 v2 v1 v4 v5 u15 (by omega)
  rw [← eR] at c5'
  have r3'' := r3
  simp only [ropC] at r3''
  have hA2 : (hput (hput h (ra.getD k 0) (ropC τ k)) 13 (21, lA (τ.2 14))).1 (ra.getD k 0) = ropC τ k := by rw [hp_n _ _ _ _ (by omega), hp_s]
  have eR' := eR
  rw [← tg] at eR'
  have hA2' := hA2.trans eR'
  have c6' := c_66 (d := d + 2) (s := (σ.2 16).getD (σ.1 0) 0) (show 5 ≤ ra.getD k 0 by omega) hA2' v2 v1 (by have := (hτQ.2.1 k).2.2.2.1; exact this) u16
  have q : ¬ (σ.2 1).length ≤ k := by omega
  have ne13 : ra.getD k 0 ≠ 13 := by omega
  have ne14 : ra.getD k 0 ≠ 14 := by omega
  have eA : ∃ z', run (d + 4) 32 16 [.ref 5, .int (nI k), z] [] h = run (d + 4) 32 16 [.ref 5, .int (nI (k + 1)), z'] [] (if 0 < (σ.2 16).getD (σ.1 0) 0 ∧ (σ.2 16).getD (σ.1 0) 0 < (σ.2 1).getD k 0 * (τ.2 3).getD k 0 then hput (hput (hput h (ra.getD k 0) (ropC τ k)) 13 (21, lA (τ.2 14))) (ra.getD k 0) (3, [.int (nI ((σ.2 1).getD k 0)), .int (nI ((σ.2 2).getD k 0)), .int (nI ((σ.2 16).getD (σ.1 0) 0 / (σ.2 1).getD k 0)), .int (nI (grs ((σ.2 3).getD k 0) ((σ.2 15).getD (σ.1 0) 0) ((σ.2 4).getD k 0) ((σ.2 14).getD ((σ.2 2).getD k 0) 0) ((σ.2 1).getD k 0))), .long (lN ((σ.2 5).getD k 0 + gby ((σ.2 3).getD k 0) ((σ.2 15).getD (σ.1 0) 0) ((σ.2 4).getD k 0) ((σ.2 14).getD ((σ.2 2).getD k 0) 0) ((σ.2 1).getD k 0) * (σ.2 1).getD k 0))]) else (hput (hput h (ra.getD k 0) (ropC τ k)) 13 (21, lA (τ.2 14)))) := by
    refine ⟨.ref (ra.getD k 0), ?_⟩
    have tg3 : ∀ r, tgK (ropC τ k) 3 r = r := fun r => if_pos rfl
    by_cases hcd : 0 < (σ.2 16).getD (σ.1 0) 0 ∧ (σ.2 16).getD (σ.1 0) 0 < (σ.2 1).getD k 0 * (τ.2 3).getD k 0
    · rw [if_pos hcd, eP] at c6'
      rw [if_pos hcd]
      conv => lhs; rw [r_32_16]
      simp (disch := first | omega | (simp only [nlg_r, nlg_i, nlg_n, ok_0, ok_i, ok_r, ok_l]; done) | assumption | (simp only [List.length_set, List.length_append, List.length_cons, List.length_nil]; omega)) only [r_32_17, r_32_18, r_32_21, r_32_24, r_32_27, r_32_28, r_32_31, r_32_32, r_32_35, r_32_38, r_32_39, r_32_40, r_32_43, r_32_44, r_32_47, r_32_48, r_32_49, r_32_50, r_32_51, r_32_54, r_32_55, r_32_58, r_32_59, r_32_60, r_32_63, r_32_64, r_32_67, r_32_68, r_32_71, r_32_72, r_32_73, r_32_74, r_32_75, r_32_78, r_32_79, r_32_82, r_32_83, r_32_86, r_32_89, hM, c5, f6, z6, g6, q, r3'', al_i, al_l, as_l, k13, k14, k15, c5', c6', tg3, eP, aft_v, aft_n, aft_t, gf_0, gf_s, pf_e, tg_e, hp_s, hp_n, hp_2, List.set_cons_zero, List.set_cons_succ, b2i_t, b2i_f, Ret_s, nlg_r, nlg_i, nlg_n, ok_0, ok_i, ok_r, ok_l, zi_e, zi_n, zi_t, Nat.reduceEqDiff, Nat.not_le, Nat.reduceLeDiff, if_true, if_false, eq_self, ↓reduceIte, Nat.reduceLT, Nat.le_refl, nle1, nez1, nez2, ei_r, ei_l, ni_r, ni_l, ti_r, ti_l, ai_r, ai_l, si_r, si_l, mi_r, mi_l, di_r, nI_eq, nI_leI, nI_ltI, nI_add, pk_sub, pk_mul, pk_div, pk_rem, nI_l, lN_i, lN_sub, s1, l14, l15, l16, v1, v2]
    · rw [if_neg hcd, eP] at c6'
      rw [if_neg hcd]
      conv => lhs; rw [r_32_16]
      simp (disch := first | omega | (simp only [nlg_r, nlg_i, nlg_n, ok_0, ok_i, ok_r, ok_l]; done) | assumption | (simp only [List.length_set, List.length_append, List.length_cons, List.length_nil]; omega)) only [r_32_17, r_32_18, r_32_21, r_32_24, r_32_27, r_32_28, r_32_31, r_32_32, r_32_35, r_32_38, r_32_39, r_32_40, r_32_43, r_32_44, r_32_47, r_32_48, r_32_49, r_32_50, r_32_51, r_32_54, r_32_55, r_32_58, r_32_59, r_32_60, r_32_63, r_32_64, r_32_67, r_32_68, r_32_71, r_32_72, r_32_73, r_32_74, r_32_75, r_32_78, r_32_79, r_32_82, r_32_83, r_32_86, r_32_89, hM, c5, f6, z6, g6, q, r3'', al_i, al_l, as_l, k13, k14, k15, c5', c6', tg3, eP, aft_v, aft_n, aft_t, gf_0, gf_s, pf_e, tg_e, hp_s, hp_n, hp_2, List.set_cons_zero, List.set_cons_succ, b2i_t, b2i_f, Ret_s, nlg_r, nlg_i, nlg_n, ok_0, ok_i, ok_r, ok_l, zi_e, zi_n, zi_t, Nat.reduceEqDiff, Nat.not_le, Nat.reduceLeDiff, if_true, if_false, eq_self, ↓reduceIte, Nat.reduceLT, Nat.le_refl, nle1, nez1, nez2, ei_r, ei_l, ni_r, ni_l, ti_r, ti_l, ai_r, ai_l, si_r, si_l, mi_r, mi_l, di_r, nI_eq, nI_leI, nI_ltI, nI_add, pk_sub, pk_mul, pk_div, pk_rem, nI_l, lN_i, lN_sub, s1, l14, l15, l16, v1, v2]
  obtain ⟨z', eA⟩ := eA
  have fr2 : ∀ a, a = 0 ∨ (16 ≤ a ∧ a ≤ 33) → (hput (hput h (ra.getD k 0) (ropC τ k)) 13 (21, lA (τ.2 14))).1 a = h.1 a := fun a ha => by
    have n1 : a ≠ 13 := by omega
    have n2 : a ≠ ra.getD k 0 := by omega
    rw [hp_n _ _ _ _ n1, hp_n _ _ _ _ n2]
  by_cases hcd : 0 < (σ.2 16).getD (σ.1 0) 0 ∧ (σ.2 16).getD (σ.1 0) 0 < (σ.2 1).getD k 0 * (τ.2 3).getD k 0
  · rw [if_pos hcd] at eA
    obtain ⟨υ, hυ⟩ : ∃ υ : AS, υ = uc τ 3 ((τ.2 3).set k ((σ.2 16).getD (σ.1 0) 0 / (σ.2 1).getD k 0)) := ⟨_, rfl⟩
    have hes : stn τ k ((σ.2 16).getD (σ.1 0) 0) = υ := by
      rw [hυ]
      simp only [stn, tm, if_pos hcd]
    have eU : ropC υ k = (3, [.int (nI ((σ.2 1).getD k 0)), .int (nI ((σ.2 2).getD k 0)), .int (nI ((σ.2 16).getD (σ.1 0) 0 / (σ.2 1).getD k 0)), .int (nI (grs ((σ.2 3).getD k 0) ((σ.2 15).getD (σ.1 0) 0) ((σ.2 4).getD k 0) ((σ.2 14).getD ((σ.2 2).getD k 0) 0) ((σ.2 1).getD k 0))), .long (lN ((σ.2 5).getD k 0 + gby ((σ.2 3).getD k 0) ((σ.2 15).getD (σ.1 0) 0) ((σ.2 4).getD k 0) ((σ.2 14).getD ((σ.2 2).getD k 0) 0) ((σ.2 1).getD k 0) * (σ.2 1).getD k 0))]) := by
      have e1 : ropC υ k = (3, [.int (nI ((τ.2 1).getD k 0)), .int (nI ((τ.2 2).getD k 0)), .int (nI (((τ.2 3).set k ((σ.2 16).getD (σ.1 0) 0 / (σ.2 1).getD k 0)).getD k 0)), .int (nI ((τ.2 4).getD k 0)), .long (lN ((τ.2 5).getD k 0))]) := by rw [hυ]; rfl
      rw [e1, gsame (by omega)]
      have e2 := eR
      simp only [ropC, Prod.mk.injEq, List.cons.injEq, true_and, and_true] at e2
      obtain ⟨y1, y2, y3, y4, y5⟩ := e2
      rw [y1, y2, y4, y5]
    rw [← eU] at eA
    refine ⟨_, z', eA, ?_, rfl, ?_⟩
    · rw [hes]
      refine ⟨rr, er, es, ep, ra, sa, pa, ?_, ?_⟩
      · exact hF2.rput r1 ⟨_, hA2⟩ (by rw [hυ]; rfl) (fun j q1 q2 => by rw [hυ, uc_2, if_neg (by omega)])
      · exact hC2.rput (by rw [tm]; exact hk) (by rw [hυ]; rfl) (fun j hj => by
          rw [hυ]
          simp only [ropC, uc_2, Nat.reduceEqDiff, if_true, if_false]
          rw [gD_ne hj]) (fun j q1 q2 => by rw [hυ, uc_2, if_neg (by omega)])
    · intro a ha
      have n2 : a ≠ ra.getD k 0 := by omega
      rw [hp_n _ _ _ _ n2]
      exact fr2 a ha
  · rw [if_neg hcd] at eA
    refine ⟨_, z', eA, ?_, rfl, fr2⟩
    have es' : stn τ k ((σ.2 16).getD (σ.1 0) 0) = τ := by
      simp only [stn, tm, if_neg hcd]
    rw [es']
    exact ⟨rr, er, es, ep, ra, sa, pa, hF2, hC2⟩
end CJ
