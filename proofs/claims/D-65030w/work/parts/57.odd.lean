/-! PLAIN LEAN, 18: odds in the twin -/
def wys (n : Nat) : Nat → Nat
  | 0 => 1
  | k + 1 => wys n k * (n - k) / (k + 1)
def osum (n x y : Nat) : Nat → Nat
  | 0 => 0
  | k + 1 => osum n x y k + wys n k * x ^ k * y ^ (n - k)
def odd (n m x b pt : Nat) : Nat := if pt = 0 then osum n x (b - x) (m + 1) / Nat.gcd (osum n x (b - x) (m + 1)) (b ^ n) else b ^ n / Nat.gcd (osum n x (b - x) (m + 1)) (b ^ n)
theorem wys_b : ∀ n, n ≤ 10 → ∀ k, k ≤ 10 → wys n k ≤ 252 := by decide
theorem pow_b {x k : Nat} (hx : x ≤ 20) (hk : k ≤ 10) : x ^ k ≤ 20 ^ k := Nat.pow_le_pow_left hx k
theorem term_b {n x y k : Nat} (hn : n ≤ 10) (hx : x ≤ 20) (hy : y ≤ 20) (hk : k ≤ n) : wys n k * x ^ k * y ^ (n - k) ≤ 252 * 20 ^ 10 := by
  have h1 := wys_b n hn k (by omega)
  have h2 : x ^ k * y ^ (n - k) ≤ 20 ^ k * 20 ^ (n - k) := Nat.mul_le_mul (Nat.pow_le_pow_left hx k) (Nat.pow_le_pow_left hy _)
  have h3 : 20 ^ k * 20 ^ (n - k) ≤ 20 ^ 10 := by
    rw [← Nat.pow_add]
    exact Nat.pow_le_pow_right (by omega) (by omega)
  rw [Nat.mul_assoc]
  exact Nat.mul_le_mul h1 (Nat.le_trans h2 h3)
theorem osum_b {n x y : Nat} (hn : n ≤ 10) (hx : x ≤ 20) (hy : y ≤ 20) : ∀ k, k ≤ n + 1 → osum n x y k ≤ k * (252 * 20 ^ 10)
  | 0, _ => by simp [osum]
  | k + 1, hk => by
    have h1 := osum_b hn hx hy k (by omega)
    have h2 := term_b hn hx hy (k := k) (by omega)
    unfold osum
    rw [Nat.succ_mul]
    omega
section TQ
variable {th d : Nat} {σ : AS} {h : MH}
theorem t_pwl {v n : Nat} (hn : n < 1000) : ∀ (m k : Nat), k + m = n → run d 99 5 [.long (lN v), .null, .int (nI n), .long (lN (v ^ k)), .null, .int (nI k)] [] h = some (.inl (some (.long (lN (v ^ n)))), h) := by
  intro m
  induction m with
  | zero =>
    intro k hk
    have hk : k = n := by omega
    subst hk
    simp (disch := first | omega | (simp only [nlg_r, nlg_i, nlg_n, ok_0, ok_i, ok_r, ok_l]; done) | assumption | (simp only [List.length_set, List.length_append, List.length_cons, List.length_nil]; omega)) only [r_99_5, r_99_7, r_99_8, r_99_11, r_99_12, r_99_13, r_99_14, r_99_15, r_99_18, r_99_21, r_99_22, aft_v, aft_n, aft_t, gf_0, gf_s, pf_e, tg_e, hp_s, hp_n, hp_2, List.set_cons_zero, List.set_cons_succ, b2i_t, b2i_f, Ret_s, nlg_r, nlg_i, nlg_n, ok_0, ok_i, ok_r, ok_l, zi_e, zi_n, zi_t, Nat.reduceEqDiff, Nat.not_le, Nat.reduceLeDiff, if_true, if_false, eq_self, ↓reduceIte, Nat.reduceLT, Nat.le_refl, nle1, nez1, nez2, ei_r, ei_l, ni_r, ni_l, ti_r, ti_l, ai_r, ai_l, si_r, si_l, mi_r, mi_l, di_r, nI_eq, nI_leI, nI_ltI, nI_add, pk_sub, pk_mul, pk_div, pk_rem, nI_l, lN_i]
  | succ m ih =>
    intro k hk
    have q : ¬ n ≤ k := by omega
    rw [← ih (k + 1) (by omega), Nat.pow_succ]
    conv => lhs; rw [r_99_5]
    simp (disch := first | omega | (simp only [nlg_r, nlg_i, nlg_n, ok_0, ok_i, ok_r, ok_l]; done) | assumption | (simp only [List.length_set, List.length_append, List.length_cons, List.length_nil]; omega)) only [r_99_7, r_99_8, r_99_11, r_99_12, r_99_13, r_99_14, r_99_15, r_99_18, aft_v, aft_n, aft_t, gf_0, gf_s, pf_e, tg_e, hp_s, hp_n, hp_2, List.set_cons_zero, List.set_cons_succ, b2i_t, b2i_f, Ret_s, nlg_r, nlg_i, nlg_n, ok_0, ok_i, ok_r, ok_l, zi_e, zi_n, zi_t, Nat.reduceEqDiff, Nat.not_le, Nat.reduceLeDiff, if_true, if_false, eq_self, ↓reduceIte, Nat.reduceLT, Nat.le_refl, nle1, nez1, nez2, ei_r, ei_l, ni_r, ni_l, ti_r, ti_l, ai_r, ai_l, si_r, si_l, mi_r, mi_l, di_r, nI_eq, nI_leI, nI_ltI, nI_add, pk_sub, pk_mul, pk_div, pk_rem, nI_l, lN_i, el_r, nl_r, tl_r, dl_r, ml_r, al_r, pk_lEQ, pk_lLE, pk_lLT, lN_add, lN_sub, lN_mul, pk_lDiv, pk_lRem, q]
theorem c_99 {v n : Nat} (hn : n < 1000) : run d 99 0 [.long (lN v), .null, .int (nI n), .null, .null, .null] [] h = some (.inl (some (.long (lN (v ^ n)))), h) := by
  rw [← t_pwl (d := d) (h := h) (v := v) hn n 0 (by omega)]
  simp (disch := first | omega | (simp only [nlg_r, nlg_i, nlg_n, ok_0, ok_i, ok_r, ok_l]; done) | assumption | (simp only [List.length_set, List.length_append, List.length_cons, List.length_nil]; omega)) only [r_99_0, r_99_1, r_99_2, r_99_3, aft_v, aft_n, aft_t, gf_0, gf_s, pf_e, tg_e, hp_s, hp_n, hp_2, List.set_cons_zero, List.set_cons_succ, b2i_t, b2i_f, Ret_s, nlg_r, nlg_i, nlg_n, ok_0, ok_i, ok_r, ok_l, zi_e, zi_n, zi_t, Nat.reduceEqDiff, Nat.not_le, Nat.reduceLeDiff, if_true, if_false, eq_self, ↓reduceIte, Nat.reduceLT, Nat.le_refl, nle1, nez1, nez2, Nat.pow_zero, show nI 0 = 0 from rfl, show lN 1 = 1 from rfl]
set_option maxRecDepth 20000 in
theorem t_ol (T : TW th σ h) (hL : WL σ) (hV : WV σ) {p x b pt : Nat} (hp : p < (σ.2 10).length) (hb : b ≤ 20) (hx : x ≤ b) : ∀ (m k : Nat), k + m = (σ.2 11).getD p 0 + 1 → ∃ W,
    run (d + 1) 98 82 [.ref 16, .int (nI p), .int (nI x), .int (nI b), .int (nI pt), .int (nI ((σ.2 10).getD p 0)), .long (lN (osum ((σ.2 10).getD p 0) x (b - x) k)), .null, .long (lN (wys ((σ.2 10).getD p 0) k)), .null, .int (nI k), .null, .null, .null, .null, .null, .null, .null] [] h =
    run (d + 1) 98 144 [.ref 16, .int (nI p), .int (nI x), .int (nI b), .int (nI pt), .int (nI ((σ.2 10).getD p 0)), .long (lN (osum ((σ.2 10).getD p 0) x (b - x) ((σ.2 11).getD p 0 + 1))), .null, .long W, .null, .int (nI ((σ.2 11).getD p 0 + 1)), .null, .null, .null, .null, .null, .null, .null] [] h := by
  have v10 := (hV p).2.2.2.2.2.2.2.2.2.1
  have v11 := (hV p).2.2.2.2.2.2.2.2.2.2.1
  obtain ⟨at_, wr, ic, op, mo, hmo, hM, a17, a18, a19, a20, a21, a22, a23, a24, a25, a26, a27, a28, a29, a30, a31, a32, a33⟩ := T
  obtain ⟨l1, l2, l3, l4, l5, l6, l7, l8, l9, l10, l11, l12, l13, l14, l15, l16⟩ := hL
  have p11 := pad_len (n := 6) (l := σ.2 11) (by omega)
  have g11 : (pad 6 (σ.2 11)).getD p 0 = (σ.2 11).getD p 0 := pad_get (by omega)
  generalize (σ.2 10).getD p 0 = n at *
  generalize (σ.2 11).getD p 0 = M at *
  intro m
  induction m with
  | zero =>
    intro k hk
    have hk : k = M + 1 := by omega
    subst hk
    have q : M < M + 1 := by omega
    refine ⟨lN (wys n (M + 1)), ?_⟩
    simp (disch := first | omega | (simp only [nlg_r, nlg_i, nlg_n, ok_0, ok_i, ok_r, ok_l]; done) | assumption | (simp only [List.length_set, List.length_append, List.length_cons, List.length_nil]; omega)) only [r_98_82, r_98_84, r_98_85, r_98_88, r_98_89, r_98_90, hM, mdl, aft_v, aft_n, aft_t, gf_0, gf_s, pf_e, tg_e, hp_s, hp_n, hp_2, List.set_cons_zero, List.set_cons_succ, b2i_t, b2i_f, Ret_s, nlg_r, nlg_i, nlg_n, ok_0, ok_i, ok_r, ok_l, zi_e, zi_n, zi_t, Nat.reduceEqDiff, Nat.not_le, Nat.reduceLeDiff, if_true, if_false, eq_self, ↓reduceIte, Nat.reduceLT, Nat.le_refl, nle1, nez1, nez2, ei_r, ei_l, ni_r, ni_l, ti_r, ti_l, ai_r, ai_l, si_r, si_l, mi_r, mi_l, di_r, nI_eq, nI_leI, nI_ltI, nI_add, pk_sub, pk_mul, pk_div, pk_rem, nI_l, lN_i, a33, al_i, g11, q]
  | succ m ih =>
    intro k hk
    obtain ⟨W, e⟩ := ih (k + 1) (by omega)
    refine ⟨W, ?_⟩
    have q : ¬ M < k := by omega
    have bw := wys_b n (by omega) k (by omega)
    have bd : wys n k * (n - k) ≤ 252 * 10 := Nat.mul_le_mul bw (by omega)
    have hz : ¬ lN (k + 1) = 0 := by rw [el_r (by omega) (by omega)]; omega
    rw [← e, osum, wys]
    conv => lhs; rw [r_98_82]
    simp (disch := first | omega | (simp only [nlg_r, nlg_i, nlg_n, ok_0, ok_i, ok_r, ok_l]; done) | assumption | (simp only [List.length_set, List.length_append, List.length_cons, List.length_nil]; omega)) only [r_98_84, r_98_85, r_98_88, r_98_89, r_98_90, r_98_93, r_98_95, r_98_97, r_98_98, r_98_99, r_98_101, r_98_104, r_98_105, r_98_106, r_98_107, r_98_108, r_98_109, r_98_111, r_98_113, r_98_114, r_98_117, r_98_118, r_98_119, r_98_121, r_98_123, r_98_125, r_98_127, r_98_128, r_98_129, r_98_130, r_98_132, r_98_133, r_98_134, r_98_135, r_98_136, r_98_138, r_98_141, c_99, hM, mdl, aft_v, aft_n, aft_t, gf_0, gf_s, pf_e, tg_e, hp_s, hp_n, hp_2, List.set_cons_zero, List.set_cons_succ, b2i_t, b2i_f, Ret_s, nlg_r, nlg_i, nlg_n, ok_0, ok_i, ok_r, ok_l, zi_e, zi_n, zi_t, Nat.reduceEqDiff, Nat.not_le, Nat.reduceLeDiff, if_true, if_false, eq_self, ↓reduceIte, Nat.reduceLT, Nat.le_refl, nle1, nez1, nez2, ei_r, ei_l, ni_r, ni_l, ti_r, ti_l, ai_r, ai_l, si_r, si_l, mi_r, mi_l, di_r, nI_eq, nI_leI, nI_ltI, nI_add, pk_sub, pk_mul, pk_div, pk_rem, nI_l, lN_i, el_r, nl_r, tl_r, dl_r, ml_r, al_r, pk_lEQ, pk_lLE, pk_lLT, lN_add, lN_sub, lN_mul, pk_lDiv, pk_lRem, a33, al_i, g11, q]
theorem gcd_s {a b : Nat} (h : 0 < a) : Nat.gcd a b = Nat.gcd (b % a) a := by
  rw [Nat.gcd_rec]
set_option maxRecDepth 20000 in
theorem t_gcd {x0 x1 x2 x3 x4 x5 x6 x7 x8 x9 x10 : Value} : ∀ (a b : Nat) (z1 z2 : Value), a < 2 ^ 63 → b < 2 ^ 63 → ∃ w1 w2 w3 : Value,
    run d 98 161 [x0, x1, x2, x3, x4, x5, x6, x7, x8, x9, x10, .null, .long (lN a), .null, .long (lN b), .null, z1, z2] [] h = run d 98 186 [x0, x1, x2, x3, x4, x5, x6, x7, x8, x9, x10, .null, w1, .null, .long (lN (Nat.gcd a b)), .null, w2, w3] [] h := by
  intro a
  induction a using Nat.strongRecOn with
  | ind a ih =>
    intro b z1 z2 ha hb
    have e0 : (lg_cmp (lN a) 0 = 0) = (a = 0) := by rw [show (0 : Int64) = lN 0 from rfl]; exact lc_eq ha (by omega)
    by_cases q : a = 0
    · subst q
      refine ⟨.long (lN 0), z1, z2, ?_⟩
      rw [Nat.gcd_zero_left]
      simp (disch := first | omega | (simp only [nlg_r, nlg_i, nlg_n, ok_0, ok_i, ok_r, ok_l]; done) | assumption | (simp only [List.length_set, List.length_append, List.length_cons, List.length_nil]; omega)) only [r_98_161, r_98_163, r_98_164, r_98_165, aft_v, aft_n, aft_t, gf_0, gf_s, pf_e, tg_e, hp_s, hp_n, hp_2, List.set_cons_zero, List.set_cons_succ, b2i_t, b2i_f, Ret_s, nlg_r, nlg_i, nlg_n, ok_0, ok_i, ok_r, ok_l, zi_e, zi_n, zi_t, Nat.reduceEqDiff, Nat.not_le, Nat.reduceLeDiff, if_true, if_false, eq_self, ↓reduceIte, Nat.reduceLT, Nat.le_refl, nle1, nez1, nez2, e0]
    · have hz : ¬ lN a = 0 := by rw [el_r (by omega) (by omega)]; exact q
      have hlt : b % a < a := Nat.mod_lt _ (by omega)
      obtain ⟨w1, w2, w3, e⟩ := ih (b % a) hlt a (.long (lN (b % a))) .null (by omega) ha
      refine ⟨w1, w2, w3, ?_⟩
      rw [gcd_s (by omega), ← e]
      conv => lhs; rw [r_98_161]
      simp (disch := first | omega | (simp only [nlg_r, nlg_i, nlg_n, ok_0, ok_i, ok_r, ok_l]; done) | assumption | (simp only [List.length_set, List.length_append, List.length_cons, List.length_nil]; omega)) only [r_98_163, r_98_164, r_98_165, r_98_168, r_98_170, r_98_172, r_98_173, r_98_175, r_98_177, r_98_179, r_98_181, r_98_183, aft_v, aft_n, aft_t, gf_0, gf_s, pf_e, tg_e, hp_s, hp_n, hp_2, List.set_cons_zero, List.set_cons_succ, b2i_t, b2i_f, Ret_s, nlg_r, nlg_i, nlg_n, ok_0, ok_i, ok_r, ok_l, zi_e, zi_n, zi_t, Nat.reduceEqDiff, Nat.not_le, Nat.reduceLeDiff, if_true, if_false, eq_self, ↓reduceIte, Nat.reduceLT, Nat.le_refl, nle1, nez1, nez2, e0, q, pk_lRem]
theorem t_odds1 (T : TW th σ h) (hL : WL σ) {p x b pt : Int32} (hc : (inR p 0 (nI (σ.2 10).length - 1) && inR pt 0 1) = false) : Ret (run (d + 1) 98 0 [.ref 16, .int p, .int x, .int b, .int pt, .null, .null, .null, .null, .null, .null, .null, .null, .null, .null, .null, .null, .null] [] h) (TP h (.long 0) 1 σ) := by
  obtain ⟨at_, wr, ic, op, mo, hmo, hM, a17, a18, a19, a20, a21, a22, a23, a24, a25, a26, a27, a28, a29, a30, a31, a32, a33⟩ := T
  obtain ⟨l1, l2, l3, l4, l5, l6, l7, l8, l9, l10, l11, l12, l13, l14, l15, l16⟩ := hL
  cases e1 : inR p 0 (nI (σ.2 10).length - 1) <;> cases e2 : inR pt 0 1 <;> simp only [e1, e2, Bool.and_self, Bool.and_false, Bool.false_and, reduceCtorEq] at hc
  all_goals
  simp (disch := first | omega | (simp only [nlg_r, nlg_i, nlg_n, ok_0, ok_i, ok_r, ok_l]; done) | assumption | (simp only [List.length_set, List.length_append, List.length_cons, List.length_nil]; omega)) only [r_98_0, r_98_1, r_98_2, r_98_3, r_98_4, r_98_7, r_98_8, r_98_9, r_98_12, r_98_15, r_98_17, r_98_18, r_98_19, r_98_22, r_98_25, r_98_26, r_98_29, r_98_30, r_98_31, r_98_33, r_98_36, r_98_39, r_98_40, r_98_41, r_98_42, r_98_45, r_98_48, r_98_49, r_98_52, r_98_53, r_98_56, r_98_57, r_98_60, r_98_63, r_98_64, c_74, e1, e2, hM, mdl, aft_v, aft_n, aft_t, gf_0, gf_s, pf_e, tg_e, hp_s, hp_n, hp_2, List.set_cons_zero, List.set_cons_succ, b2i_t, b2i_f, Ret_s, nlg_r, nlg_i, nlg_n, ok_0, ok_i, ok_r, ok_l, zi_e, zi_n, zi_t, Nat.reduceEqDiff, Nat.not_le, Nat.reduceLeDiff, if_true, if_false, eq_self, ↓reduceIte, Nat.reduceLT, Nat.le_refl, nle1, nez1, nez2]
  refine ⟨?_, ⟨at_, wr, ic, op, mo, hmo, ?_, ?_⟩, ?_⟩
  · first | rfl | (simp (disch := first | omega | (simp only [nlg_r, nlg_i, nlg_n, ok_0, ok_i, ok_r, ok_l]; done) | assumption | (simp only [List.length_set, List.length_append, List.length_cons, List.length_nil]; omega)) only [aft_v, aft_n, aft_t, gf_0, gf_s, pf_e, tg_e, hp_s, hp_n, hp_2, List.set_cons_zero, List.set_cons_succ, b2i_t, b2i_f, Ret_s, nlg_r, nlg_i, nlg_n, ok_0, ok_i, ok_r, ok_l, zi_e, zi_n, zi_t, Nat.reduceEqDiff, Nat.not_le, Nat.reduceLeDiff, if_true, if_false, eq_self, ↓reduceIte, Nat.reduceLT, Nat.le_refl, nle1, nez1, nez2, ei_r, ei_l, ni_r, ni_l, ti_r, ti_l, ai_r, ai_l, si_r, si_l, mi_r, mi_l, di_r, nI_eq, nI_leI, nI_ltI, nI_add, pk_sub, pk_mul, pk_div, pk_rem, nI_l, lN_i, uc_1, uc_2, us_1, us_2, List.length_append, List.length_set, List.length_cons, List.length_nil, Nat.reduceAdd, Nat.add_sub_cancel]; done) | (simp (disch := first | omega | (simp only [nlg_r, nlg_i, nlg_n, ok_0, ok_i, ok_r, ok_l]; done) | assumption | (simp only [List.length_set, List.length_append, List.length_cons, List.length_nil]; omega)) only [aft_v, aft_n, aft_t, gf_0, gf_s, pf_e, tg_e, hp_s, hp_n, hp_2, List.set_cons_zero, List.set_cons_succ, b2i_t, b2i_f, Ret_s, nlg_r, nlg_i, nlg_n, ok_0, ok_i, ok_r, ok_l, zi_e, zi_n, zi_t, Nat.reduceEqDiff, Nat.not_le, Nat.reduceLeDiff, if_true, if_false, eq_self, ↓reduceIte, Nat.reduceLT, Nat.le_refl, nle1, nez1, nez2, ei_r, ei_l, ni_r, ni_l, ti_r, ti_l, ai_r, ai_l, si_r, si_l, mi_r, mi_l, di_r, nI_eq, nI_leI, nI_ltI, nI_add, pk_sub, pk_mul, pk_div, pk_rem, nI_l, lN_i, uc_1, uc_2, us_1, us_2, List.length_append, List.length_set, List.length_cons, List.length_nil, Nat.reduceAdd]; rfl)
  · first | (simp (disch := first | omega | (simp only [nlg_r, nlg_i, nlg_n, ok_0, ok_i, ok_r, ok_l]; done) | assumption | (simp only [List.length_set, List.length_append, List.length_cons, List.length_nil]; omega)) only [aft_v, aft_n, aft_t, gf_0, gf_s, pf_e, tg_e, hp_s, hp_n, hp_2, List.set_cons_zero, List.set_cons_succ, b2i_t, b2i_f, Ret_s, nlg_r, nlg_i, nlg_n, ok_0, ok_i, ok_r, ok_l, zi_e, zi_n, zi_t, Nat.reduceEqDiff, Nat.not_le, Nat.reduceLeDiff, if_true, if_false, eq_self, ↓reduceIte, Nat.reduceLT, Nat.le_refl, nle1, nez1, nez2, uc_1, uc_2, us_1, us_2, hM, mdl, ei_r, ei_l, ni_r, ni_l, ti_r, ti_l, ai_r, ai_l, si_r, si_l, mi_r, mi_l, di_r, nI_eq, nI_leI, nI_ltI, nI_add, pk_sub, pk_mul, pk_div, pk_rem, nI_l, lN_i, List.length_append, List.length_set, List.length_cons, List.length_nil, Nat.reduceAdd]; done) | (simp (disch := first | omega | (simp only [nlg_r, nlg_i, nlg_n, ok_0, ok_i, ok_r, ok_l]; done) | assumption | (simp only [List.length_set, List.length_append, List.length_cons, List.length_nil]; omega)) only [aft_v, aft_n, aft_t, gf_0, gf_s, pf_e, tg_e, hp_s, hp_n, hp_2, List.set_cons_zero, List.set_cons_succ, b2i_t, b2i_f, Ret_s, nlg_r, nlg_i, nlg_n, ok_0, ok_i, ok_r, ok_l, zi_e, zi_n, zi_t, Nat.reduceEqDiff, Nat.not_le, Nat.reduceLeDiff, if_true, if_false, eq_self, ↓reduceIte, Nat.reduceLT, Nat.le_refl, nle1, nez1, nez2, uc_1, uc_2, us_1, us_2, hM, mdl, ei_r, ei_l, ni_r, ni_l, ti_r, ti_l, ai_r, ai_l, si_r, si_l, mi_r, mi_l, di_r, nI_eq, nI_leI, nI_ltI, nI_add, pk_sub, pk_mul, pk_div, pk_rem, nI_l, lN_i, List.length_append, List.length_set, List.length_cons, List.length_nil, Nat.reduceAdd]; rfl)
  · simp (disch := first | omega | (simp only [nlg_r, nlg_i, nlg_n, ok_0, ok_i, ok_r, ok_l]; done) | assumption | (simp only [List.length_set, List.length_append, List.length_cons, List.length_nil]; omega)) only [TA, aft_v, aft_n, aft_t, gf_0, gf_s, pf_e, tg_e, hp_s, hp_n, hp_2, List.set_cons_zero, List.set_cons_succ, b2i_t, b2i_f, Ret_s, nlg_r, nlg_i, nlg_n, ok_0, ok_i, ok_r, ok_l, zi_e, zi_n, zi_t, Nat.reduceEqDiff, Nat.not_le, Nat.reduceLeDiff, if_true, if_false, eq_self, ↓reduceIte, Nat.reduceLT, Nat.le_refl, nle1, nez1, nez2, uc_1, uc_2, us_1, us_2, pad_push, pad_set, pad_zero, a17, a18, a19, a20, a21, a22, a23, a24, a25, a26, a27, a28, a29, a30, a31, a32, a33, and_self, List.length_append, List.length_set]
  · repeat (first | exact FrT.refl _ | refine FrT.put ?_ (by omega))
theorem t_odds2 (T : TW th σ h) (hL : WL σ) {p x b pt : Int32} (h1 : (inR p 0 (nI (σ.2 10).length - 1) && inR pt 0 1) = true) (hc : (inR b 1 20 && inR x 0 b) = false) : Ret (run (d + 1) 98 0 [.ref 16, .int p, .int x, .int b, .int pt, .null, .null, .null, .null, .null, .null, .null, .null, .null, .null, .null, .null, .null] [] h) (TP h (.long 0) 2 σ) := by
  obtain ⟨at_, wr, ic, op, mo, hmo, hM, a17, a18, a19, a20, a21, a22, a23, a24, a25, a26, a27, a28, a29, a30, a31, a32, a33⟩ := T
  obtain ⟨l1, l2, l3, l4, l5, l6, l7, l8, l9, l10, l11, l12, l13, l14, l15, l16⟩ := hL
  simp only [Bool.and_eq_true] at h1
  cases e1 : inR b 1 20 <;> cases e2 : inR x 0 b <;> simp only [e1, e2, Bool.and_self, Bool.and_false, Bool.false_and, reduceCtorEq] at hc
  all_goals
  simp (disch := first | omega | (simp only [nlg_r, nlg_i, nlg_n, ok_0, ok_i, ok_r, ok_l]; done) | assumption | (simp only [List.length_set, List.length_append, List.length_cons, List.length_nil]; omega)) only [r_98_0, r_98_1, r_98_2, r_98_3, r_98_4, r_98_7, r_98_8, r_98_9, r_98_12, r_98_15, r_98_17, r_98_18, r_98_19, r_98_22, r_98_25, r_98_26, r_98_29, r_98_30, r_98_31, r_98_33, r_98_36, r_98_39, r_98_40, r_98_41, r_98_42, r_98_45, r_98_48, r_98_49, r_98_52, r_98_53, r_98_56, r_98_57, r_98_60, r_98_63, r_98_64, c_74, h1.1, h1.2, e1, e2, hM, mdl, aft_v, aft_n, aft_t, gf_0, gf_s, pf_e, tg_e, hp_s, hp_n, hp_2, List.set_cons_zero, List.set_cons_succ, b2i_t, b2i_f, Ret_s, nlg_r, nlg_i, nlg_n, ok_0, ok_i, ok_r, ok_l, zi_e, zi_n, zi_t, Nat.reduceEqDiff, Nat.not_le, Nat.reduceLeDiff, if_true, if_false, eq_self, ↓reduceIte, Nat.reduceLT, Nat.le_refl, nle1, nez1, nez2]
  refine ⟨?_, ⟨at_, wr, ic, op, mo, hmo, ?_, ?_⟩, ?_⟩
  · first | rfl | (simp (disch := first | omega | (simp only [nlg_r, nlg_i, nlg_n, ok_0, ok_i, ok_r, ok_l]; done) | assumption | (simp only [List.length_set, List.length_append, List.length_cons, List.length_nil]; omega)) only [aft_v, aft_n, aft_t, gf_0, gf_s, pf_e, tg_e, hp_s, hp_n, hp_2, List.set_cons_zero, List.set_cons_succ, b2i_t, b2i_f, Ret_s, nlg_r, nlg_i, nlg_n, ok_0, ok_i, ok_r, ok_l, zi_e, zi_n, zi_t, Nat.reduceEqDiff, Nat.not_le, Nat.reduceLeDiff, if_true, if_false, eq_self, ↓reduceIte, Nat.reduceLT, Nat.le_refl, nle1, nez1, nez2, ei_r, ei_l, ni_r, ni_l, ti_r, ti_l, ai_r, ai_l, si_r, si_l, mi_r, mi_l, di_r, nI_eq, nI_leI, nI_ltI, nI_add, pk_sub, pk_mul, pk_div, pk_rem, nI_l, lN_i, uc_1, uc_2, us_1, us_2, List.length_append, List.length_set, List.length_cons, List.length_nil, Nat.reduceAdd, Nat.add_sub_cancel]; done) | (simp (disch := first | omega | (simp only [nlg_r, nlg_i, nlg_n, ok_0, ok_i, ok_r, ok_l]; done) | assumption | (simp only [List.length_set, List.length_append, List.length_cons, List.length_nil]; omega)) only [aft_v, aft_n, aft_t, gf_0, gf_s, pf_e, tg_e, hp_s, hp_n, hp_2, List.set_cons_zero, List.set_cons_succ, b2i_t, b2i_f, Ret_s, nlg_r, nlg_i, nlg_n, ok_0, ok_i, ok_r, ok_l, zi_e, zi_n, zi_t, Nat.reduceEqDiff, Nat.not_le, Nat.reduceLeDiff, if_true, if_false, eq_self, ↓reduceIte, Nat.reduceLT, Nat.le_refl, nle1, nez1, nez2, ei_r, ei_l, ni_r, ni_l, ti_r, ti_l, ai_r, ai_l, si_r, si_l, mi_r, mi_l, di_r, nI_eq, nI_leI, nI_ltI, nI_add, pk_sub, pk_mul, pk_div, pk_rem, nI_l, lN_i, uc_1, uc_2, us_1, us_2, List.length_append, List.length_set, List.length_cons, List.length_nil, Nat.reduceAdd]; rfl)
  · first | (simp (disch := first | omega | (simp only [nlg_r, nlg_i, nlg_n, ok_0, ok_i, ok_r, ok_l]; done) | assumption | (simp only [List.length_set, List.length_append, List.length_cons, List.length_nil]; omega)) only [aft_v, aft_n, aft_t, gf_0, gf_s, pf_e, tg_e, hp_s, hp_n, hp_2, List.set_cons_zero, List.set_cons_succ, b2i_t, b2i_f, Ret_s, nlg_r, nlg_i, nlg_n, ok_0, ok_i, ok_r, ok_l, zi_e, zi_n, zi_t, Nat.reduceEqDiff, Nat.not_le, Nat.reduceLeDiff, if_true, if_false, eq_self, ↓reduceIte, Nat.reduceLT, Nat.le_refl, nle1, nez1, nez2, uc_1, uc_2, us_1, us_2, hM, mdl, ei_r, ei_l, ni_r, ni_l, ti_r, ti_l, ai_r, ai_l, si_r, si_l, mi_r, mi_l, di_r, nI_eq, nI_leI, nI_ltI, nI_add, pk_sub, pk_mul, pk_div, pk_rem, nI_l, lN_i, List.length_append, List.length_set, List.length_cons, List.length_nil, Nat.reduceAdd]; done) | (simp (disch := first | omega | (simp only [nlg_r, nlg_i, nlg_n, ok_0, ok_i, ok_r, ok_l]; done) | assumption | (simp only [List.length_set, List.length_append, List.length_cons, List.length_nil]; omega)) only [aft_v, aft_n, aft_t, gf_0, gf_s, pf_e, tg_e, hp_s, hp_n, hp_2, List.set_cons_zero, List.set_cons_succ, b2i_t, b2i_f, Ret_s, nlg_r, nlg_i, nlg_n, ok_0, ok_i, ok_r, ok_l, zi_e, zi_n, zi_t, Nat.reduceEqDiff, Nat.not_le, Nat.reduceLeDiff, if_true, if_false, eq_self, ↓reduceIte, Nat.reduceLT, Nat.le_refl, nle1, nez1, nez2, uc_1, uc_2, us_1, us_2, hM, mdl, ei_r, ei_l, ni_r, ni_l, ti_r, ti_l, ai_r, ai_l, si_r, si_l, mi_r, mi_l, di_r, nI_eq, nI_leI, nI_ltI, nI_add, pk_sub, pk_mul, pk_div, pk_rem, nI_l, lN_i, List.length_append, List.length_set, List.length_cons, List.length_nil, Nat.reduceAdd]; rfl)
  · simp (disch := first | omega | (simp only [nlg_r, nlg_i, nlg_n, ok_0, ok_i, ok_r, ok_l]; done) | assumption | (simp only [List.length_set, List.length_append, List.length_cons, List.length_nil]; omega)) only [TA, aft_v, aft_n, aft_t, gf_0, gf_s, pf_e, tg_e, hp_s, hp_n, hp_2, List.set_cons_zero, List.set_cons_succ, b2i_t, b2i_f, Ret_s, nlg_r, nlg_i, nlg_n, ok_0, ok_i, ok_r, ok_l, zi_e, zi_n, zi_t, Nat.reduceEqDiff, Nat.not_le, Nat.reduceLeDiff, if_true, if_false, eq_self, ↓reduceIte, Nat.reduceLT, Nat.le_refl, nle1, nez1, nez2, uc_1, uc_2, us_1, us_2, pad_push, pad_set, pad_zero, a17, a18, a19, a20, a21, a22, a23, a24, a25, a26, a27, a28, a29, a30, a31, a32, a33, and_self, List.length_append, List.length_set]
  · repeat (first | exact FrT.refl _ | refine FrT.put ?_ (by omega))
set_option maxRecDepth 20000 in
theorem t_odds (T : TW th σ h) (hL : WL σ) (hV : WV σ) {p x b pt : Nat} (hp : p < (σ.2 10).length) (hpt : pt ≤ 1) (hb1 : 1 ≤ b) (hb : b ≤ 20) (hx : x ≤ b) : Ret (run (d + 1) 98 0 [.ref 16, .int (nI p), .int (nI x), .int (nI b), .int (nI pt), .null, .null, .null, .null, .null, .null, .null, .null, .null, .null, .null, .null, .null] [] h) (TP h (.long (lN (odd ((σ.2 10).getD p 0) ((σ.2 11).getD p 0) x b pt))) 0 σ) := by
  obtain ⟨at0, wr0, ic0, op0, hM0, T1⟩ := T.set 0
  obtain ⟨W, e1⟩ := t_ol (d := d) (pt := pt) T1 hL hV hp hb hx ((σ.2 11).getD p 0 + 1) 0 (by omega)
  have v10 := (hV p).2.2.2.2.2.2.2.2.2.1
  have v11 := (hV p).2.2.2.2.2.2.2.2.2.2.1
  have i1 : inR (nI p) 0 (nI (σ.2 10).length - 1) = true := inR_ok hp (by have := hL.2.2.2.2.2.2.2.2.2.1; omega)
  have i2 : inR (nI pt) 0 1 = true := inR_nI (lo := 0) (hi := 1) (by omega) hpt (by omega)
  have i3 : inR (nI b) 1 20 = true := inR_nI (lo := 1) (hi := 20) hb1 hb (by omega)
  have i4 : inR (nI x) 0 (nI b) = true := inR_nI (lo := 0) (by omega) hx (by omega)
  obtain ⟨at_, wr, ic, op, mo, hmo, hM, a17, a18, a19, a20, a21, a22, a23, a24, a25, a26, a27, a28, a29, a30, a31, a32, a33⟩ := T
  obtain ⟨l1, l2, l3, l4, l5, l6, l7, l8, l9, l10, l11, l12, l13, l14, l15, l16⟩ := hL
  cases hM.symm.trans hM0
  have p10 := pad_len (n := 6) (l := σ.2 10) (by omega)
  have g10 : (pad 6 (σ.2 10)).getD p 0 = (σ.2 10).getD p 0 := pad_get (by omega)
  have os := osum_b (n := (σ.2 10).getD p 0) (x := x) (y := b - x) (by omega) (by omega) (by omega) ((σ.2 11).getD p 0 + 1) (by omega)
  have os2 : ((σ.2 11).getD p 0 + 1) * (252 * 20 ^ 10) ≤ 11 * (252 * 20 ^ 10) := Nat.mul_le_mul_right _ (by omega)
  have ap : b ^ (σ.2 10).getD p 0 ≤ 20 ^ 10 := Nat.le_trans (Nat.pow_le_pow_left hb _) (Nat.pow_le_pow_right (by omega) v10)
  have a0 : 0 < b ^ (σ.2 10).getD p 0 := Nat.pow_pos (by omega)
  have c20 : (20 : Nat) ^ 10 = 10240000000000 := by decide
  simp only [mdl, show nI 0 = 0 from rfl, show lN 1 = 1 from rfl, show osum ((σ.2 10).getD p 0) x (b - x) 0 = 0 from rfl, show wys ((σ.2 10).getD p 0) 0 = 1 from rfl, show lN 0 = 0 from rfl] at e1
  have eA : run (d + 1) 98 0 [.ref 16, .int (nI p), .int (nI x), .int (nI b), .int (nI pt), .null, .null, .null, .null, .null, .null, .null, .null, .null, .null, .null, .null, .null] [] h = run (d + 1) 98 144 [.ref 16, .int (nI p), .int (nI x), .int (nI b), .int (nI pt), .int (nI ((σ.2 10).getD p 0)), .long (lN (osum ((σ.2 10).getD p 0) x (b - x) ((σ.2 11).getD p 0 + 1))), .null, .long W, .null, .int (nI ((σ.2 11).getD p 0 + 1)), .null, .null, .null, .null, .null, .null, .null] [] (hput h 16 (mdl 0 (σ.1 0) (σ.2 1).length (σ.1 1) (σ.1 2) (σ.2 6).length (σ.1 3) at0 wr0 (σ.2 10).length ic0 op0)) := by
    simp only [mdl, show nI 0 = 0 from rfl]
    rw [← e1]
    simp (disch := first | omega | (simp only [nlg_r, nlg_i, nlg_n, ok_0, ok_i, ok_r, ok_l]; done) | assumption | (simp only [List.length_set, List.length_append, List.length_cons, List.length_nil]; omega)) only [r_98_0, r_98_1, r_98_2, r_98_3, r_98_4, r_98_7, r_98_8, r_98_9, r_98_12, r_98_15, r_98_17, r_98_18, r_98_19, r_98_22, r_98_25, r_98_26, r_98_29, r_98_30, r_98_31, r_98_33, r_98_36, r_98_39, r_98_40, r_98_41, r_98_42, r_98_45, r_98_48, r_98_49, r_98_52, r_98_53, r_98_56, r_98_57, r_98_60, r_98_63, r_98_64, r_98_65, r_98_66, r_98_69, r_98_70, r_98_71, r_98_73, r_98_74, r_98_76, r_98_77, r_98_79, r_98_80, c_74, i1, i2, i3, i4, hM, mdl, aft_v, aft_n, aft_t, gf_0, gf_s, pf_e, tg_e, hp_s, hp_n, hp_2, List.set_cons_zero, List.set_cons_succ, b2i_t, b2i_f, Ret_s, nlg_r, nlg_i, nlg_n, ok_0, ok_i, ok_r, ok_l, zi_e, zi_n, zi_t, Nat.reduceEqDiff, Nat.not_le, Nat.reduceLeDiff, if_true, if_false, eq_self, ↓reduceIte, Nat.reduceLT, Nat.le_refl, nle1, nez1, nez2, a32, al_i, g10]
  rw [eA]
  clear eA e1
  unfold odd
  generalize hS : osum ((σ.2 10).getD p 0) x (b - x) ((σ.2 11).getD p 0 + 1) = S at *
  generalize hn : (σ.2 10).getD p 0 = n at *
  generalize hA : b ^ n = A at *
  have gp : 0 < Nat.gcd S A := Nat.gcd_pos_of_pos_right _ a0
  have gl : Nat.gcd S A ≤ A := Nat.gcd_le_right _ a0
  have gz : ¬ lN (Nat.gcd S A) = 0 := by rw [el_r (by omega) (by omega)]; omega
  obtain ⟨w1, w2, w3, eg⟩ := t_gcd (d := d + 1) (h := hput h 16 (mdl 0 (σ.1 0) (σ.2 1).length (σ.1 1) (σ.1 2) (σ.2 6).length (σ.1 3) at0 wr0 (σ.2 10).length ic0 op0)) (x0 := .ref 16) (x1 := .int (nI p)) (x2 := .int (nI x)) (x3 := .int (nI b)) (x4 := .int (nI pt)) (x5 := .int (nI n)) (x6 := .long (lN S)) (x7 := .null) (x8 := .long W) (x9 := .null) (x10 := .long (lN A)) S A .null .null (by omega) (by omega)
  rcases (show pt = 0 ∨ pt = 1 by omega) with rfl | rfl
  · rw [if_pos rfl]
    simp (disch := first | omega | (simp only [nlg_r, nlg_i, nlg_n, ok_0, ok_i, ok_r, ok_l]; done) | assumption | (simp only [List.length_set, List.length_append, List.length_cons, List.length_nil]; omega)) only [r_98_144, r_98_145, r_98_146, r_98_148, r_98_151, r_98_153, r_98_155, r_98_157, r_98_159, r_98_163, r_98_164, r_98_165, r_98_168, r_98_170, r_98_172, r_98_173, r_98_175, r_98_177, r_98_179, r_98_181, r_98_183, r_98_186, r_98_188, r_98_191, r_98_193, r_98_195, r_98_196, r_98_199, r_98_201, r_98_203, r_98_204, c_99, aft_v, aft_n, aft_t, gf_0, gf_s, pf_e, tg_e, hp_s, hp_n, hp_2, List.set_cons_zero, List.set_cons_succ, b2i_t, b2i_f, Ret_s, nlg_r, nlg_i, nlg_n, ok_0, ok_i, ok_r, ok_l, zi_e, zi_n, zi_t, Nat.reduceEqDiff, Nat.not_le, Nat.reduceLeDiff, if_true, if_false, eq_self, ↓reduceIte, Nat.reduceLT, Nat.le_refl, nle1, nez1, nez2, ei_r, ei_l, ni_r, ni_l, ti_r, ti_l, ai_r, ai_l, si_r, si_l, mi_r, mi_l, di_r, nI_eq, nI_leI, nI_ltI, nI_add, pk_sub, pk_mul, pk_div, pk_rem, nI_l, lN_i, hA, eg, pk_lDiv]
    exact ⟨rfl, T1, (FrT.refl h).put (by omega)⟩
  · rw [if_neg (by decide)]
    simp (disch := first | omega | (simp only [nlg_r, nlg_i, nlg_n, ok_0, ok_i, ok_r, ok_l]; done) | assumption | (simp only [List.length_set, List.length_append, List.length_cons, List.length_nil]; omega)) only [r_98_144, r_98_145, r_98_146, r_98_148, r_98_151, r_98_153, r_98_155, r_98_157, r_98_159, r_98_163, r_98_164, r_98_165, r_98_168, r_98_170, r_98_172, r_98_173, r_98_175, r_98_177, r_98_179, r_98_181, r_98_183, r_98_186, r_98_188, r_98_191, r_98_193, r_98_195, r_98_196, r_98_199, r_98_201, r_98_203, r_98_204, c_99, aft_v, aft_n, aft_t, gf_0, gf_s, pf_e, tg_e, hp_s, hp_n, hp_2, List.set_cons_zero, List.set_cons_succ, b2i_t, b2i_f, Ret_s, nlg_r, nlg_i, nlg_n, ok_0, ok_i, ok_r, ok_l, zi_e, zi_n, zi_t, Nat.reduceEqDiff, Nat.not_le, Nat.reduceLeDiff, if_true, if_false, eq_self, ↓reduceIte, Nat.reduceLT, Nat.le_refl, nle1, nez1, nez2, ei_r, ei_l, ni_r, ni_l, ti_r, ti_l, ai_r, ai_l, si_r, si_l, mi_r, mi_l, di_r, nI_eq, nI_leI, nI_ltI, nI_add, pk_sub, pk_mul, pk_div, pk_rem, nI_l, lN_i, hA, eg, pk_lDiv]
    exact ⟨rfl, T1, (FrT.refl h).put (by omega)⟩
end TQ
