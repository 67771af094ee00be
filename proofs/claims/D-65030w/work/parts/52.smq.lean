/-! PLAIN LEAN, 13: the next sample in the twin -/
section TL
variable {th d : Nat} {σ : AS} {h : MH}
theorem nxt_s (a y t : Nat) (last : Option Nat) (k : Nat) : nxt σ a y t last (k + 1) = if may σ a y t last k = true then (match nxt σ a y t last k with | none => some k | some q => if bef σ k q = true then some k else some q) else nxt σ a y t last k := id rfl
set_option maxRecDepth 20000 in
theorem t_nx1 (T : TW th σ h) (hL : WL σ) (hV : WV σ) {a y t k : Nat} {last : Option Nat} (ha : a ≤ 1000) (hy : y ≤ 1000) (ht : t ≤ 1000) (hk : k < (σ.2 6).length) (hl : ∀ q, last = some q → q < (σ.2 6).length) {g m : Int32} {z : Value} :
    ∃ z', run (d + 1) 85 30 [.ref 16, .int (nI a), .int (nI y), .int (nI t), .int g, .int (oI last), .int m, .int (oI (nxt σ a y t last k)), .int (nI k), z] [] h = run (d + 1) 85 30 [.ref 16, .int (nI a), .int (nI y), .int (nI t), .int g, .int (oI last), .int m, .int (oI (nxt σ a y t last (k + 1))), .int (nI (k + 1)), z'] [] h := by
  have hm := t_may (d := d) (g := g) (m := m) (n := oI (nxt σ a y t last k)) (z := z) T hL hV ha hy ht hk hl
  refine ⟨.int (b2i (may σ a y t last k)), ?_⟩
  have T0 := T
  have hL0 := hL
  obtain ⟨at_, wr, ic, op, mo, hmo, hM, a17, a18, a19, a20, a21, a22, a23, a24, a25, a26, a27, a28, a29, a30, a31, a32, a33⟩ := T
  obtain ⟨l1, l2, l3, l4, l5, l6, l7, l8, l9, l10, l11, l12, l13, l14, l15, l16⟩ := hL
  have q0 : ¬ (σ.2 6).length ≤ k := by omega
  have e0 : ∀ n : Int32, run (d + 1) 85 30 [.ref 16, .int (nI a), .int (nI y), .int (nI t), .int g, .int (oI last), .int m, .int n, .int (nI k), z] [] h = run (d + 1) 85 39 [.ref 16, .int (nI a), .int (nI y), .int (nI t), .int g, .int (oI last), .int m, .int n, .int (nI k), z] [] h := fun n => by
    simp (disch := first | omega | (simp only [nlg_r, nlg_i, nlg_n, ok_0, ok_i, ok_r, ok_l]; done) | assumption | (simp only [List.length_set, List.length_append, List.length_cons, List.length_nil]; omega)) only [r_85_30, r_85_32, r_85_33, r_85_36, hM, mdl, aft_v, aft_n, aft_t, gf_0, gf_s, pf_e, tg_e, hp_s, hp_n, hp_2, List.set_cons_zero, List.set_cons_succ, b2i_t, b2i_f, Ret_s, nlg_r, nlg_i, nlg_n, ok_0, ok_i, ok_r, ok_l, zi_e, zi_n, zi_t, Nat.reduceEqDiff, Nat.not_le, Nat.reduceLeDiff, if_true, if_false, eq_self, ↓reduceIte, Nat.reduceLT, Nat.le_refl, nle1, nez1, nez2, ei_r, ei_l, ni_r, ni_l, ti_r, ti_l, ai_r, ai_l, si_r, si_l, mi_r, mi_l, di_r, nI_eq, nI_leI, nI_ltI, nI_add, pk_sub, pk_mul, pk_div, pk_rem, nI_l, lN_i, q0]
  rw [e0, hm]
  cases em : may σ a y t last k
  · rw [nxt_s, if_neg (by rw [em]; decide)]
    simp (disch := first | omega | (simp only [nlg_r, nlg_i, nlg_n, ok_0, ok_i, ok_r, ok_l]; done) | assumption | (simp only [List.length_set, List.length_append, List.length_cons, List.length_nil]; omega)) only [r_85_96, r_85_98, r_85_101, r_85_103, r_85_104, r_85_107, r_85_108, r_85_110, r_85_112, r_85_115, r_85_118, r_85_120, r_85_123, r_85_125, r_85_127, r_85_130, hM, mdl, aft_v, aft_n, aft_t, gf_0, gf_s, pf_e, tg_e, hp_s, hp_n, hp_2, List.set_cons_zero, List.set_cons_succ, b2i_t, b2i_f, Ret_s, nlg_r, nlg_i, nlg_n, ok_0, ok_i, ok_r, ok_l, zi_e, zi_n, zi_t, Nat.reduceEqDiff, Nat.not_le, Nat.reduceLeDiff, if_true, if_false, eq_self, ↓reduceIte, Nat.reduceLT, Nat.le_refl, nle1, nez1, nez2, ei_r, ei_l, ni_r, ni_l, ti_r, ti_l, ai_r, ai_l, si_r, si_l, mi_r, mi_l, di_r, nI_eq, nI_leI, nI_ltI, nI_add, pk_sub, pk_mul, pk_div, pk_rem, nI_l, lN_i]
  · rw [nxt_s, if_pos em]
    cases en : nxt σ a y t last k with
    | none =>
      dsimp only
      simp (disch := first | omega | (simp only [nlg_r, nlg_i, nlg_n, ok_0, ok_i, ok_r, ok_l]; done) | assumption | (simp only [List.length_set, List.length_append, List.length_cons, List.length_nil]; omega)) only [r_85_96, r_85_98, r_85_101, r_85_103, r_85_104, r_85_107, r_85_108, r_85_110, r_85_112, r_85_115, r_85_118, r_85_120, r_85_123, r_85_125, r_85_127, r_85_130, hM, mdl, aft_v, aft_n, aft_t, gf_0, gf_s, pf_e, tg_e, hp_s, hp_n, hp_2, List.set_cons_zero, List.set_cons_succ, b2i_t, b2i_f, Ret_s, nlg_r, nlg_i, nlg_n, ok_0, ok_i, ok_r, ok_l, zi_e, zi_n, zi_t, Nat.reduceEqDiff, Nat.not_le, Nat.reduceLeDiff, if_true, if_false, eq_self, ↓reduceIte, Nat.reduceLT, Nat.le_refl, nle1, nez1, nez2, ei_r, ei_l, ni_r, ni_l, ti_r, ti_l, ai_r, ai_l, si_r, si_l, mi_r, mi_l, di_r, nI_eq, nI_leI, nI_ltI, nI_add, pk_sub, pk_mul, pk_div, pk_rem, nI_l, lN_i, oI]
    | some q =>
      dsimp only
      have hq := nxt_lt en
      have cb := c_86 (d := d) T0 hL0 hV hk (show q < (σ.2 6).length by omega)
      cases eb : bef σ k q
      · rw [eb] at cb
        rw [if_neg (by decide)]
        simp (disch := first | omega | (simp only [nlg_r, nlg_i, nlg_n, ok_0, ok_i, ok_r, ok_l]; done) | assumption | (simp only [List.length_set, List.length_append, List.length_cons, List.length_nil]; omega)) only [r_85_96, r_85_98, r_85_101, r_85_103, r_85_104, r_85_107, r_85_108, r_85_110, r_85_112, r_85_115, r_85_118, r_85_120, r_85_123, r_85_125, r_85_127, r_85_130, hM, mdl, aft_v, aft_n, aft_t, gf_0, gf_s, pf_e, tg_e, hp_s, hp_n, hp_2, List.set_cons_zero, List.set_cons_succ, b2i_t, b2i_f, Ret_s, nlg_r, nlg_i, nlg_n, ok_0, ok_i, ok_r, ok_l, zi_e, zi_n, zi_t, Nat.reduceEqDiff, Nat.not_le, Nat.reduceLeDiff, if_true, if_false, eq_self, ↓reduceIte, Nat.reduceLT, Nat.le_refl, nle1, nez1, nez2, ei_r, ei_l, ni_r, ni_l, ti_r, ti_l, ai_r, ai_l, si_r, si_l, mi_r, mi_l, di_r, nI_eq, nI_leI, nI_ltI, nI_add, pk_sub, pk_mul, pk_div, pk_rem, nI_l, lN_i, oI, ng_e, cb]
      · rw [eb] at cb
        rw [if_pos rfl]
        simp (disch := first | omega | (simp only [nlg_r, nlg_i, nlg_n, ok_0, ok_i, ok_r, ok_l]; done) | assumption | (simp only [List.length_set, List.length_append, List.length_cons, List.length_nil]; omega)) only [r_85_96, r_85_98, r_85_101, r_85_103, r_85_104, r_85_107, r_85_108, r_85_110, r_85_112, r_85_115, r_85_118, r_85_120, r_85_123, r_85_125, r_85_127, r_85_130, hM, mdl, aft_v, aft_n, aft_t, gf_0, gf_s, pf_e, tg_e, hp_s, hp_n, hp_2, List.set_cons_zero, List.set_cons_succ, b2i_t, b2i_f, Ret_s, nlg_r, nlg_i, nlg_n, ok_0, ok_i, ok_r, ok_l, zi_e, zi_n, zi_t, Nat.reduceEqDiff, Nat.not_le, Nat.reduceLeDiff, if_true, if_false, eq_self, ↓reduceIte, Nat.reduceLT, Nat.le_refl, nle1, nez1, nez2, ei_r, ei_l, ni_r, ni_l, ti_r, ti_l, ai_r, ai_l, si_r, si_l, mi_r, mi_l, di_r, nI_eq, nI_leI, nI_ltI, nI_add, pk_sub, pk_mul, pk_div, pk_rem, nI_l, lN_i, oI, ng_e, cb]
theorem t_nx (T : TW th σ h) (hL : WL σ) (hV : WV σ) {a y t : Nat} {last : Option Nat} (ha : a ≤ 1000) (hy : y ≤ 1000) (ht : t ≤ 1000) (hl : ∀ q, last = some q → q < (σ.2 6).length) {g m : Int32} : ∀ (r k : Nat) (z : Value), k + r = (σ.2 6).length →
    ∃ z', run (d + 1) 85 30 [.ref 16, .int (nI a), .int (nI y), .int (nI t), .int g, .int (oI last), .int m, .int (oI (nxt σ a y t last k)), .int (nI k), z] [] h = run (d + 1) 85 133 [.ref 16, .int (nI a), .int (nI y), .int (nI t), .int g, .int (oI last), .int m, .int (oI (nxt σ a y t last (σ.2 6).length)), .int (nI (σ.2 6).length), z'] [] h := by
  intro r
  induction r with
  | zero =>
    intro k z hk
    have hk : k = (σ.2 6).length := by omega
    subst hk
    refine ⟨z, ?_⟩
    obtain ⟨at_, wr, ic, op, mo, hmo, hM, -⟩ := T
    have hl := hL.2.2.2.2.2.1
    simp (disch := first | omega | (simp only [nlg_r, nlg_i, nlg_n, ok_0, ok_i, ok_r, ok_l]; done) | assumption | (simp only [List.length_set, List.length_append, List.length_cons, List.length_nil]; omega)) only [r_85_30, r_85_32, r_85_33, r_85_36, hM, mdl, aft_v, aft_n, aft_t, gf_0, gf_s, pf_e, tg_e, hp_s, hp_n, hp_2, List.set_cons_zero, List.set_cons_succ, b2i_t, b2i_f, Ret_s, nlg_r, nlg_i, nlg_n, ok_0, ok_i, ok_r, ok_l, zi_e, zi_n, zi_t, Nat.reduceEqDiff, Nat.not_le, Nat.reduceLeDiff, if_true, if_false, eq_self, ↓reduceIte, Nat.reduceLT, Nat.le_refl, nle1, nez1, nez2, ei_r, ei_l, ni_r, ni_l, ti_r, ti_l, ai_r, ai_l, si_r, si_l, mi_r, mi_l, di_r, nI_eq, nI_leI, nI_ltI, nI_add, pk_sub, pk_mul, pk_div, pk_rem, nI_l, lN_i]
  | succ r ih =>
    intro k z hk
    obtain ⟨z1, e1⟩ := t_nx1 (d := d) (g := g) (m := m) (z := z) T hL hV ha hy ht (show k < (σ.2 6).length by omega) hl
    obtain ⟨z2, e2⟩ := ih (k + 1) z1 (by omega)
    exact ⟨z2, e1.trans e2⟩
/-- what a sample does to a closing: rules C, L, G, W; day, cells; shut, good, opens -/
abbrev CS : Type := Bool × Nat × Option Nat
def cme (y : Nat) (c : CS) : CS := match c with
  | (true, g, some o) => if o ≤ y then (false, 0, none) else (true, g, some o)
  | c => c
def sst (C L G W y n : Nat) (c : CS) : CS := match cme y c with
  | (true, g, o) => if n ≤ L ∧ n ≤ C then (true, g + 1, if o = none ∧ G ≤ g + 1 then some (y + W) else o) else (true, 0, none)
  | (false, g, o) => if C < n then (true, 0, none) else (false, g, o)
/-- what is kept: an open area has no good samples and no day -/
def CI (c : CS) : Prop := (c.1 = false → c.2.1 = 0 ∧ c.2.2 = none) ∧ ∀ o, c.2.2 = some o → o ≤ 499
end TL
