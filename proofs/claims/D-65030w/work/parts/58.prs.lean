/-! PLAIN LEAN, 19: the text, in numbers and in the twin -/
def dig (c : Nat) : Bool := decide (48 ≤ c) && decide (c ≤ 57)
/-- digits, so many at the most: where they end, what they say -/
def num (t : Nat → Nat) (sz : Nat) : Nat → Nat → Nat → Nat × Nat
  | 0, i, v => (i, v)
  | k + 1, i, v => if (decide (i < sz) && dig (t i)) = true then num t sz k (i + 1) (10 * v + t i - 48) else (i, v)
def plc (c : Nat) : Option Nat := if c = 67 then some 0 else if c = 76 then some 1 else if c = 71 then some 2 else if c = 87 then some 3 else none
def gdv (w v : Nat) : Bool := decide (w < 2) || (decide (w = 2) && decide (1 ≤ v) && decide (v ≤ 9)) || (decide (w = 3) && decide (v ≤ 99))
/-- the statements, from a place on: where it is wrong, or how many there are and what the rules become -/
def prs (t : Nat → Nat) (sz : Nat) : Nat → Nat → Nat → List Nat → Nat ⊕ (Nat × List Nat)
  | 0, i, _, _ => .inl i
  | f + 1, i, n, R => match (if i < sz then plc (t i) else none) with
    | none => .inl i
    | some w => if n = 6 then .inl i else
      if (num t sz 5 (i + 1) 0).1 = i + 1 ∨ gdv w (num t sz 5 (i + 1) 0).2 = false then .inl (i + 1) else
      if (num t sz 5 (i + 1) 0).1 = sz then .inr (n + 1, R.set w (num t sz 5 (i + 1) 0).2) else
      if t (num t sz 5 (i + 1) 0).1 = 59 ∧ n + 1 ≠ 6 then prs t sz f ((num t sz 5 (i + 1) 0).1 + 1) (n + 1) (R.set w (num t sz 5 (i + 1) 0).2) else .inl (num t sz 5 (i + 1) 0).1
theorem num_b {t : Nat → Nat} {sz : Nat} : ∀ (k i v : Nat), i ≤ sz → i ≤ (num t sz k i v).1 ∧ (num t sz k i v).1 ≤ sz ∧ (num t sz k i v).2 + 1 ≤ (v + 1) * 10 ^ k
  | 0, i, v, h => ⟨Nat.le_refl _, h, by simp [num]⟩
  | k + 1, i, v, h => by
    unfold num
    split
    · next hc =>
      simp only [Bool.and_eq_true, decide_eq_true_eq, dig] at hc
      have ih := num_b (t := t) (sz := sz) k (i + 1) (10 * v + t i - 48) (by omega)
      refine ⟨by omega, ih.2.1, Nat.le_trans ih.2.2 ?_⟩
      rw [Nat.pow_succ, ← Nat.mul_assoc, Nat.mul_comm _ 10, ← Nat.mul_assoc]
      exact Nat.mul_le_mul_right _ (by omega)
    · refine ⟨Nat.le_refl _, h, ?_⟩
      have : 0 < 10 ^ (k + 1) := Nat.pow_pos (by omega)
      exact Nat.le_mul_of_pos_right _ this
theorem num_v {t : Nat → Nat} {sz i : Nat} (h : i ≤ sz) : (num t sz 5 i 0).2 ≤ 99999 := by have := (num_b (t := t) 5 i 0 h).2.2; omega
def TY (th : Nat) (σ : AS) (a w : Nat) (h : MH) : Prop := ∃ (ic op : Int32) (mo : List Nat), mo.length = 4 ∧ h.1 16 = mdl th (σ.1 0) (σ.2 1).length (σ.1 1) (σ.1 2) (σ.2 6).length (σ.1 3) (nI a) (nI w) (σ.2 10).length ic op ∧ TA σ mo h
theorem TY.w {th a w : Nat} {σ : AS} {h : MH} (T : TY th σ a w h) : TW th σ h := by
  obtain ⟨ic, op, mo, h1, h2, h3⟩ := T
  exact ⟨_, _, ic, op, mo, h1, h2, h3⟩
def tx (σ : AS) (i : Nat) : Nat := (σ.2 12).getD i 0
section TR
variable {th d : Nat} {σ : AS} {h : MH}
theorem c_90 {c : Nat} (hc : c < 1000) : run d 90 0 [.int (nI c)] [] h = some (.inl (some (.int (oI (plc c)))), h) := by
  have hi : (nI c).toInt = (c : Int) := nI_toInt (by omega)
  by_cases e1 : c = 67
  · subst e1; simp [r_90_0, r_90_1_67, r_90_1_71, r_90_1_76, r_90_1_87, r_90_1_d, r_90_44, r_90_45, r_90_46, r_90_47, r_90_48, r_90_49, r_90_50, r_90_51, r_90_52, r_90_53, show nI 67 = 67 from rfl, plc, oI]; rfl
  by_cases e2 : c = 76
  · subst e2; simp [r_90_0, r_90_1_67, r_90_1_71, r_90_1_76, r_90_1_87, r_90_1_d, r_90_44, r_90_45, r_90_46, r_90_47, r_90_48, r_90_49, r_90_50, r_90_51, r_90_52, r_90_53, show nI 76 = 76 from rfl, plc, oI]; rfl
  by_cases e3 : c = 71
  · subst e3; simp [r_90_0, r_90_1_67, r_90_1_71, r_90_1_76, r_90_1_87, r_90_1_d, r_90_44, r_90_45, r_90_46, r_90_47, r_90_48, r_90_49, r_90_50, r_90_51, r_90_52, r_90_53, show nI 71 = 71 from rfl, plc, oI]; rfl
  by_cases e4 : c = 87
  · subst e4; simp [r_90_0, r_90_1_67, r_90_1_71, r_90_1_76, r_90_1_87, r_90_1_d, r_90_44, r_90_45, r_90_46, r_90_47, r_90_48, r_90_49, r_90_50, r_90_51, r_90_52, r_90_53, show nI 87 = 87 from rfl, plc, oI]; rfl
  have k1 : ¬ (nI c).toInt = 67 := by rw [hi]; omega
  have k2 : ¬ (nI c).toInt = 76 := by rw [hi]; omega
  have k3 : ¬ (nI c).toInt = 71 := by rw [hi]; omega
  have k4 : ¬ (nI c).toInt = 87 := by rw [hi]; omega
  have ep : plc c = none := by simp [plc, e1, e2, e3, e4]
  rw [ep]
  simp only [r_90_0, r_90_44, r_90_45, r_90_46, r_90_47, r_90_48, r_90_49, r_90_50, r_90_51, r_90_52, r_90_53, r_90_1_d k1 k3 k2 k4, oI_0]
theorem c_91 {a w : Nat} (T : TY th σ a w h) (hL : WL σ) (hV : WV σ) (hS : WS σ) (ha : a ≤ 1000) : run (d + 1) 91 0 [.ref 16] [] h = some (.inl (some (.int (b2i (decide (a < σ.1 3) && dig (tx σ a))))), h) := by
  obtain ⟨ic, op, mo, hmo, hM, a17, a18, a19, a20, a21, a22, a23, a24, a25, a26, a27, a28, a29, a30, a31, a32, a33⟩ := T
  have s5 := hS.2.2.2.2
  have l12 := hL.2.2.2.2.2.2.2.2.2.2.2.1
  have v := (hV a).2.2.2.2.2.2.2.2.2.2.2.1
  by_cases q1 : a < σ.1 3
  · have q2 : ¬ σ.1 3 ≤ a := by omega
    have gt : (σ.2 12).getD a 0 = tx σ a := rfl
    have e2 : inR (nI (tx σ a)) 48 57 = dig (tx σ a) := by
      have bt : tx σ a ≤ 126 := v
      have k1 : (nI (tx σ a) < 48) = (tx σ a < 48) := ti_r (by omega) (by omega)
      have k2 : (57 < nI (tx σ a)) = (57 < tx σ a) := ti_l (by omega) (by omega)
      unfold inR dig
      by_cases z1 : tx σ a < 48 <;> by_cases z2 : 57 < tx σ a <;> simp [k1, k2, z1, z2] <;> omega
    cases eb : dig (tx σ a)
    · rw [eb] at e2
      simp (disch := first | omega | (simp only [nlg_r, nlg_i, nlg_n, ok_0, ok_i, ok_r, ok_l]; done) | assumption | (simp only [List.length_set, List.length_append, List.length_cons, List.length_nil]; omega)) only [r_91_0, r_91_1, r_91_4, r_91_5, r_91_8, r_91_11, r_91_12, r_91_15, r_91_16, r_91_19, r_91_20, r_91_22, r_91_24, r_91_27, r_91_30, r_91_31, r_91_34, r_91_35_0, r_91_35_1, r_91_35_n, c_74, hM, mdl, aft_v, aft_n, aft_t, gf_0, gf_s, pf_e, tg_e, hp_s, hp_n, hp_2, List.set_cons_zero, List.set_cons_succ, b2i_t, b2i_f, Ret_s, nlg_r, nlg_i, nlg_n, ok_0, ok_i, ok_r, ok_l, zi_e, zi_n, zi_t, Nat.reduceEqDiff, Nat.not_le, Nat.reduceLeDiff, if_true, if_false, eq_self, ↓reduceIte, Nat.reduceLT, Nat.le_refl, nle1, nez1, nez2, ei_r, ei_l, ni_r, ni_l, ti_r, ti_l, ai_r, ai_l, si_r, si_l, mi_r, mi_l, di_r, nI_eq, nI_leI, nI_ltI, nI_add, pk_sub, pk_mul, pk_div, pk_rem, nI_l, lN_i, a31, al_i, q2, gt, e2, q1, decide_true, Bool.true_and]
    · rw [eb] at e2
      simp (disch := first | omega | (simp only [nlg_r, nlg_i, nlg_n, ok_0, ok_i, ok_r, ok_l]; done) | assumption | (simp only [List.length_set, List.length_append, List.length_cons, List.length_nil]; omega)) only [r_91_0, r_91_1, r_91_4, r_91_5, r_91_8, r_91_11, r_91_12, r_91_15, r_91_16, r_91_19, r_91_20, r_91_22, r_91_24, r_91_27, r_91_30, r_91_31, r_91_34, r_91_35_0, r_91_35_1, r_91_35_n, c_74, hM, mdl, aft_v, aft_n, aft_t, gf_0, gf_s, pf_e, tg_e, hp_s, hp_n, hp_2, List.set_cons_zero, List.set_cons_succ, b2i_t, b2i_f, Ret_s, nlg_r, nlg_i, nlg_n, ok_0, ok_i, ok_r, ok_l, zi_e, zi_n, zi_t, Nat.reduceEqDiff, Nat.not_le, Nat.reduceLeDiff, if_true, if_false, eq_self, ↓reduceIte, Nat.reduceLT, Nat.le_refl, nle1, nez1, nez2, ei_r, ei_l, ni_r, ni_l, ti_r, ti_l, ai_r, ai_l, si_r, si_l, mi_r, mi_l, di_r, nI_eq, nI_leI, nI_ltI, nI_add, pk_sub, pk_mul, pk_div, pk_rem, nI_l, lN_i, a31, al_i, q2, gt, e2, q1, decide_true, Bool.true_and]
  · have q2 : σ.1 3 ≤ a := by omega
    simp (disch := first | omega | (simp only [nlg_r, nlg_i, nlg_n, ok_0, ok_i, ok_r, ok_l]; done) | assumption | (simp only [List.length_set, List.length_append, List.length_cons, List.length_nil]; omega)) only [r_91_0, r_91_1, r_91_4, r_91_5, r_91_8, r_91_11, r_91_12, r_91_15, r_91_16, r_91_19, r_91_20, r_91_22, r_91_24, r_91_27, r_91_30, r_91_31, r_91_34, r_91_35_0, r_91_35_1, r_91_35_n, hM, mdl, aft_v, aft_n, aft_t, gf_0, gf_s, pf_e, tg_e, hp_s, hp_n, hp_2, List.set_cons_zero, List.set_cons_succ, b2i_t, b2i_f, Ret_s, nlg_r, nlg_i, nlg_n, ok_0, ok_i, ok_r, ok_l, zi_e, zi_n, zi_t, Nat.reduceEqDiff, Nat.not_le, Nat.reduceLeDiff, if_true, if_false, eq_self, ↓reduceIte, Nat.reduceLT, Nat.le_refl, nle1, nez1, nez2, ei_r, ei_l, ni_r, ni_l, ti_r, ti_l, ai_r, ai_l, si_r, si_l, mi_r, mi_l, di_r, nI_eq, nI_leI, nI_ltI, nI_add, pk_sub, pk_mul, pk_div, pk_rem, nI_l, lN_i, q2, q1, decide_false, Bool.false_and]
end TR
