/-! PLAIN LEAN, 12: samples in the twin -/
def oI (o : Option Nat) : Int32 := match o with | none => -1 | some n => nI n
def sA (σ : AS) (i : Nat) : Nat := (σ.2 6).getD i 0
def sD (σ : AS) (i : Nat) : Nat := (σ.2 7).getD i 0
def sC (σ : AS) (i : Nat) : Nat := (σ.2 8).getD i 0
def sT (σ : AS) (i : Nat) : Nat := (σ.2 9).getD i 0
/-- one sample is looked at before another one -/
def bef (σ : AS) (i j : Nat) : Bool := if sD σ i = sD σ j then (if sT σ i = sT σ j then decide (i < j) else decide (sT σ i < sT σ j)) else decide (sD σ i < sD σ j)
def mat3 (σ : AS) (a y t i : Nat) : Bool := decide (sA σ i = a) && decide (sD σ i ≤ y) && decide (sT σ i ≤ t)
def may (σ : AS) (a y t : Nat) (last : Option Nat) (i : Nat) : Bool := mat3 σ a y t i && (match last with | none => true | some q => bef σ q i)
def nxt (σ : AS) (a y t : Nat) (last : Option Nat) : Nat → Option Nat
  | 0 => none
  | k + 1 => if may σ a y t last k = true then (match nxt σ a y t last k with | none => some k | some q => if bef σ k q = true then some k else some q) else nxt σ a y t last k
theorem nxt_lt {σ : AS} {a y t : Nat} {last : Option Nat} : ∀ {k q : Nat}, nxt σ a y t last k = some q → q < k
  | 0, q, h => by simp [nxt] at h
  | k + 1, q, h => by
    unfold nxt at h
    split at h
    · split at h
      · cases h; omega
      · next q' hq =>
        split at h
        · cases h; omega
        · cases h; have := nxt_lt hq; omega
    · have := nxt_lt h; omega
theorem oI_n {o : Option Nat} (h : ∀ q, o = some q → q < 2 ^ 31) : (oI o = -1) = (o = none) := by
  cases o with
  | none => simp [oI]
  | some q => simp only [oI, ng_e (h q rfl), reduceCtorEq]
section TK
variable {th d : Nat} {σ : AS} {h : MH}
theorem c_86 (T : TW th σ h) (hL : WL σ) (hV : WV σ) {i j : Nat} (hi : i < (σ.2 6).length) (hj : j < (σ.2 6).length) : run d 86 0 [.ref 16, .int (nI i), .int (nI j)] [] h = some (.inl (some (.int (b2i (bef σ i j)))), h) := by
  obtain ⟨at_, wr, ic, op, mo, hmo, hM, a17, a18, a19, a20, a21, a22, a23, a24, a25, a26, a27, a28, a29, a30, a31, a32, a33⟩ := T
  obtain ⟨l1, l2, l3, l4, l5, l6, l7, l8, l9, l10, l11, l12, l13, l14, l15, l16⟩ := hL
  have vi := hV i
  have vj := hV j
  have p7 := pad_len (n := 60) (l := σ.2 7) (by omega)
  have p9 := pad_len (n := 60) (l := σ.2 9) (by omega)
  have gi : (pad 60 (σ.2 7)).getD i 0 = sD σ i := pad_get (by omega)
  have gj : (pad 60 (σ.2 7)).getD j 0 = sD σ j := pad_get (by omega)
  have ti : (pad 60 (σ.2 9)).getD i 0 = sT σ i := pad_get (by omega)
  have tj : (pad 60 (σ.2 9)).getD j 0 = sT σ j := pad_get (by omega)
  have b1 : sD σ i ≤ 400 := vi.2.2.2.2.2.2.1
  have b2 : sD σ j ≤ 400 := vj.2.2.2.2.2.2.1
  have b3 : sT σ i ≤ 400 := vi.2.2.2.2.2.2.2.2.1
  have b4 : sT σ j ≤ 400 := vj.2.2.2.2.2.2.2.2.1
  by_cases q1 : sD σ i = sD σ j
  · by_cases q2 : sT σ i = sT σ j
    · by_cases q3 : i < j
      · have e : bef σ i j = true := by simp [bef, q1, q2, q3]
        have q4 : ¬ j ≤ i := by omega
        rw [e]
        simp (disch := first | omega | (simp only [nlg_r, nlg_i, nlg_n, ok_0, ok_i, ok_r, ok_l]; done) | assumption | (simp only [List.length_set, List.length_append, List.length_cons, List.length_nil]; omega)) only [r_86_0, r_86_1, r_86_4, r_86_5, r_86_6, r_86_7, r_86_10, r_86_11, r_86_12, r_86_15, r_86_16, r_86_19, r_86_20, r_86_21, r_86_22, r_86_25, r_86_26, r_86_27, r_86_30, r_86_31, r_86_34, r_86_35_0, r_86_35_1, r_86_35_n, r_86_36, r_86_37, r_86_40, r_86_41, r_86_42, r_86_43, r_86_46, r_86_47, r_86_48, r_86_51, r_86_52, r_86_55, r_86_56, r_86_57, r_86_58, r_86_61, r_86_62, r_86_63, r_86_66, r_86_67, r_86_70, r_86_71, r_86_74, r_86_75, r_86_76, r_86_79, r_86_80, r_86_83, r_86_84_0, r_86_84_1, r_86_84_n, hM, mdl, aft_v, aft_n, aft_t, gf_0, gf_s, pf_e, tg_e, hp_s, hp_n, hp_2, List.set_cons_zero, List.set_cons_succ, b2i_t, b2i_f, Ret_s, nlg_r, nlg_i, nlg_n, ok_0, ok_i, ok_r, ok_l, zi_e, zi_n, zi_t, Nat.reduceEqDiff, Nat.not_le, Nat.reduceLeDiff, if_true, if_false, eq_self, ↓reduceIte, Nat.reduceLT, Nat.le_refl, nle1, nez1, nez2, ei_r, ei_l, ni_r, ni_l, ti_r, ti_l, ai_r, ai_l, si_r, si_l, mi_r, mi_l, di_r, nI_eq, nI_leI, nI_ltI, nI_add, pk_sub, pk_mul, pk_div, pk_rem, nI_l, lN_i, a28, a30, al_i, gi, gj, ti, tj, q1, q2, q4]
      · have e : bef σ i j = false := by simp [bef, q1, q2, q3]
        have q4 : j ≤ i := by omega
        rw [e]
        simp (disch := first | omega | (simp only [nlg_r, nlg_i, nlg_n, ok_0, ok_i, ok_r, ok_l]; done) | assumption | (simp only [List.length_set, List.length_append, List.length_cons, List.length_nil]; omega)) only [r_86_0, r_86_1, r_86_4, r_86_5, r_86_6, r_86_7, r_86_10, r_86_11, r_86_12, r_86_15, r_86_16, r_86_19, r_86_20, r_86_21, r_86_22, r_86_25, r_86_26, r_86_27, r_86_30, r_86_31, r_86_34, r_86_35_0, r_86_35_1, r_86_35_n, r_86_36, r_86_37, r_86_40, r_86_41, r_86_42, r_86_43, r_86_46, r_86_47, r_86_48, r_86_51, r_86_52, r_86_55, r_86_56, r_86_57, r_86_58, r_86_61, r_86_62, r_86_63, r_86_66, r_86_67, r_86_70, r_86_71, r_86_74, r_86_75, r_86_76, r_86_79, r_86_80, r_86_83, r_86_84_0, r_86_84_1, r_86_84_n, hM, mdl, aft_v, aft_n, aft_t, gf_0, gf_s, pf_e, tg_e, hp_s, hp_n, hp_2, List.set_cons_zero, List.set_cons_succ, b2i_t, b2i_f, Ret_s, nlg_r, nlg_i, nlg_n, ok_0, ok_i, ok_r, ok_l, zi_e, zi_n, zi_t, Nat.reduceEqDiff, Nat.not_le, Nat.reduceLeDiff, if_true, if_false, eq_self, ↓reduceIte, Nat.reduceLT, Nat.le_refl, nle1, nez1, nez2, ei_r, ei_l, ni_r, ni_l, ti_r, ti_l, ai_r, ai_l, si_r, si_l, mi_r, mi_l, di_r, nI_eq, nI_leI, nI_ltI, nI_add, pk_sub, pk_mul, pk_div, pk_rem, nI_l, lN_i, a28, a30, al_i, gi, gj, ti, tj, q1, q2, q4]
    · by_cases q3 : sT σ i < sT σ j
      · have e : bef σ i j = true := by simp [bef, q1, q2, q3]
        have q4 : ¬ sT σ j ≤ sT σ i := by omega
        rw [e]
        simp (disch := first | omega | (simp only [nlg_r, nlg_i, nlg_n, ok_0, ok_i, ok_r, ok_l]; done) | assumption | (simp only [List.length_set, List.length_append, List.length_cons, List.length_nil]; omega)) only [r_86_0, r_86_1, r_86_4, r_86_5, r_86_6, r_86_7, r_86_10, r_86_11, r_86_12, r_86_15, r_86_16, r_86_19, r_86_20, r_86_21, r_86_22, r_86_25, r_86_26, r_86_27, r_86_30, r_86_31, r_86_34, r_86_35_0, r_86_35_1, r_86_35_n, r_86_36, r_86_37, r_86_40, r_86_41, r_86_42, r_86_43, r_86_46, r_86_47, r_86_48, r_86_51, r_86_52, r_86_55, r_86_56, r_86_57, r_86_58, r_86_61, r_86_62, r_86_63, r_86_66, r_86_67, r_86_70, r_86_71, r_86_74, r_86_75, r_86_76, r_86_79, r_86_80, r_86_83, r_86_84_0, r_86_84_1, r_86_84_n, hM, mdl, aft_v, aft_n, aft_t, gf_0, gf_s, pf_e, tg_e, hp_s, hp_n, hp_2, List.set_cons_zero, List.set_cons_succ, b2i_t, b2i_f, Ret_s, nlg_r, nlg_i, nlg_n, ok_0, ok_i, ok_r, ok_l, zi_e, zi_n, zi_t, Nat.reduceEqDiff, Nat.not_le, Nat.reduceLeDiff, if_true, if_false, eq_self, ↓reduceIte, Nat.reduceLT, Nat.le_refl, nle1, nez1, nez2, ei_r, ei_l, ni_r, ni_l, ti_r, ti_l, ai_r, ai_l, si_r, si_l, mi_r, mi_l, di_r, nI_eq, nI_leI, nI_ltI, nI_add, pk_sub, pk_mul, pk_div, pk_rem, nI_l, lN_i, a28, a30, al_i, gi, gj, ti, tj, q1, q2, q4]
      · have e : bef σ i j = false := by simp [bef, q1, q2, q3]
        have q4 : sT σ j ≤ sT σ i := by omega
        rw [e]
        simp (disch := first | omega | (simp only [nlg_r, nlg_i, nlg_n, ok_0, ok_i, ok_r, ok_l]; done) | assumption | (simp only [List.length_set, List.length_append, List.length_cons, List.length_nil]; omega)) only [r_86_0, r_86_1, r_86_4, r_86_5, r_86_6, r_86_7, r_86_10, r_86_11, r_86_12, r_86_15, r_86_16, r_86_19, r_86_20, r_86_21, r_86_22, r_86_25, r_86_26, r_86_27, r_86_30, r_86_31, r_86_34, r_86_35_0, r_86_35_1, r_86_35_n, r_86_36, r_86_37, r_86_40, r_86_41, r_86_42, r_86_43, r_86_46, r_86_47, r_86_48, r_86_51, r_86_52, r_86_55, r_86_56, r_86_57, r_86_58, r_86_61, r_86_62, r_86_63, r_86_66, r_86_67, r_86_70, r_86_71, r_86_74, r_86_75, r_86_76, r_86_79, r_86_80, r_86_83, r_86_84_0, r_86_84_1, r_86_84_n, hM, mdl, aft_v, aft_n, aft_t, gf_0, gf_s, pf_e, tg_e, hp_s, hp_n, hp_2, List.set_cons_zero, List.set_cons_succ, b2i_t, b2i_f, Ret_s, nlg_r, nlg_i, nlg_n, ok_0, ok_i, ok_r, ok_l, zi_e, zi_n, zi_t, Nat.reduceEqDiff, Nat.not_le, Nat.reduceLeDiff, if_true, if_false, eq_self, ↓reduceIte, Nat.reduceLT, Nat.le_refl, nle1, nez1, nez2, ei_r, ei_l, ni_r, ni_l, ti_r, ti_l, ai_r, ai_l, si_r, si_l, mi_r, mi_l, di_r, nI_eq, nI_leI, nI_ltI, nI_add, pk_sub, pk_mul, pk_div, pk_rem, nI_l, lN_i, a28, a30, al_i, gi, gj, ti, tj, q1, q2, q4]
  · by_cases q3 : sD σ i < sD σ j
    · have e : bef σ i j = true := by simp [bef, q1, q3]
      have q4 : ¬ sD σ j ≤ sD σ i := by omega
      rw [e]
      simp (disch := first | omega | (simp only [nlg_r, nlg_i, nlg_n, ok_0, ok_i, ok_r, ok_l]; done) | assumption | (simp only [List.length_set, List.length_append, List.length_cons, List.length_nil]; omega)) only [r_86_0, r_86_1, r_86_4, r_86_5, r_86_6, r_86_7, r_86_10, r_86_11, r_86_12, r_86_15, r_86_16, r_86_19, r_86_20, r_86_21, r_86_22, r_86_25, r_86_26, r_86_27, r_86_30, r_86_31, r_86_34, r_86_35_0, r_86_35_1, r_86_35_n, r_86_36, r_86_37, r_86_40, r_86_41, r_86_42, r_86_43, r_86_46, r_86_47, r_86_48, r_86_51, r_86_52, r_86_55, r_86_56, r_86_57, r_86_58, r_86_61, r_86_62, r_86_63, r_86_66, r_86_67, r_86_70, r_86_71, r_86_74, r_86_75, r_86_76, r_86_79, r_86_80, r_86_83, r_86_84_0, r_86_84_1, r_86_84_n, hM, mdl, aft_v, aft_n, aft_t, gf_0, gf_s, pf_e, tg_e, hp_s, hp_n, hp_2, List.set_cons_zero, List.set_cons_succ, b2i_t, b2i_f, Ret_s, nlg_r, nlg_i, nlg_n, ok_0, ok_i, ok_r, ok_l, zi_e, zi_n, zi_t, Nat.reduceEqDiff, Nat.not_le, Nat.reduceLeDiff, if_true, if_false, eq_self, ↓reduceIte, Nat.reduceLT, Nat.le_refl, nle1, nez1, nez2, ei_r, ei_l, ni_r, ni_l, ti_r, ti_l, ai_r, ai_l, si_r, si_l, mi_r, mi_l, di_r, nI_eq, nI_leI, nI_ltI, nI_add, pk_sub, pk_mul, pk_div, pk_rem, nI_l, lN_i, a28, a30, al_i, gi, gj, ti, tj, q1, q4]
    · have e : bef σ i j = false := by simp [bef, q1, q3]
      have q4 : sD σ j ≤ sD σ i := by omega
      rw [e]
      simp (disch := first | omega | (simp only [nlg_r, nlg_i, nlg_n, ok_0, ok_i, ok_r, ok_l]; done) | assumption | (simp only [List.length_set, List.length_append, List.length_cons, List.length_nil]; omega)) only [r_86_0, r_86_1, r_86_4, r_86_5, r_86_6, r_86_7, r_86_10, r_86_11, r_86_12, r_86_15, r_86_16, r_86_19, r_86_20, r_86_21, r_86_22, r_86_25, r_86_26, r_86_27, r_86_30, r_86_31, r_86_34, r_86_35_0, r_86_35_1, r_86_35_n, r_86_36, r_86_37, r_86_40, r_86_41, r_86_42, r_86_43, r_86_46, r_86_47, r_86_48, r_86_51, r_86_52, r_86_55, r_86_56, r_86_57, r_86_58, r_86_61, r_86_62, r_86_63, r_86_66, r_86_67, r_86_70, r_86_71, r_86_74, r_86_75, r_86_76, r_86_79, r_86_80, r_86_83, r_86_84_0, r_86_84_1, r_86_84_n, hM, mdl, aft_v, aft_n, aft_t, gf_0, gf_s, pf_e, tg_e, hp_s, hp_n, hp_2, List.set_cons_zero, List.set_cons_succ, b2i_t, b2i_f, Ret_s, nlg_r, nlg_i, nlg_n, ok_0, ok_i, ok_r, ok_l, zi_e, zi_n, zi_t, Nat.reduceEqDiff, Nat.not_le, Nat.reduceLeDiff, if_true, if_false, eq_self, ↓reduceIte, Nat.reduceLT, Nat.le_refl, nle1, nez1, nez2, ei_r, ei_l, ni_r, ni_l, ti_r, ti_l, ai_r, ai_l, si_r, si_l, mi_r, mi_l, di_r, nI_eq, nI_leI, nI_ltI, nI_add, pk_sub, pk_mul, pk_div, pk_rem, nI_l, lN_i, a28, a30, al_i, gi, gj, ti, tj, q1, q4]
set_option maxRecDepth 20000 in
theorem t_may (T : TW th σ h) (hL : WL σ) (hV : WV σ) {a y t k : Nat} {last : Option Nat} (ha : a ≤ 1000) (hy : y ≤ 1000) (ht : t ≤ 1000) (hk : k < (σ.2 6).length) (hl : ∀ q, last = some q → q < (σ.2 6).length) {g m n : Int32} {z : Value} :
    run (d + 1) 85 39 [.ref 16, .int (nI a), .int (nI y), .int (nI t), .int g, .int (oI last), .int m, .int n, .int (nI k), z] [] h = run (d + 1) 85 96 [.ref 16, .int (nI a), .int (nI y), .int (nI t), .int g, .int (oI last), .int m, .int n, .int (nI k), .int (b2i (may σ a y t last k))] [] h := by
  have T0 := T
  have hL0 := hL
  obtain ⟨at_, wr, ic, op, mo, hmo, hM, a17, a18, a19, a20, a21, a22, a23, a24, a25, a26, a27, a28, a29, a30, a31, a32, a33⟩ := T
  obtain ⟨l1, l2, l3, l4, l5, l6, l7, l8, l9, l10, l11, l12, l13, l14, l15, l16⟩ := hL
  have vk := hV k
  have p6 := pad_len (n := 60) (l := σ.2 6) (by omega)
  have p7 := pad_len (n := 60) (l := σ.2 7) (by omega)
  have p9 := pad_len (n := 60) (l := σ.2 9) (by omega)
  have g6 : (pad 60 (σ.2 6)).getD k 0 = sA σ k := pad_get (by omega)
  have g7 : (pad 60 (σ.2 7)).getD k 0 = sD σ k := pad_get (by omega)
  have g9 : (pad 60 (σ.2 9)).getD k 0 = sT σ k := pad_get (by omega)
  have b0 : sA σ k < 4 := vk.2.2.2.2.2.1
  have b1 : sD σ k ≤ 400 := vk.2.2.2.2.2.2.1
  have b3 : sT σ k ≤ 400 := vk.2.2.2.2.2.2.2.2.1
  by_cases q1 : sA σ k = a
  · by_cases q2 : y < sD σ k
    · have e : may σ a y t last k = false := by unfold may; rw [show mat3 σ a y t k = false from by simp [mat3, Nat.not_le.mpr q2]]; rfl
      rw [e]
      simp (disch := first | omega | (simp only [nlg_r, nlg_i, nlg_n, ok_0, ok_i, ok_r, ok_l]; done) | assumption | (simp only [List.length_set, List.length_append, List.length_cons, List.length_nil]; omega)) only [r_85_39, r_85_40, r_85_43, r_85_45, r_85_46, r_85_47, r_85_50, r_85_51, r_85_54, r_85_56, r_85_57, r_85_58, r_85_61, r_85_62, r_85_65, r_85_67, r_85_68, r_85_69, r_85_72, r_85_74, r_85_75, r_85_78, r_85_79, r_85_81, r_85_83, r_85_86, r_85_89, r_85_90, r_85_93, r_85_94, hM, mdl, aft_v, aft_n, aft_t, gf_0, gf_s, pf_e, tg_e, hp_s, hp_n, hp_2, List.set_cons_zero, List.set_cons_succ, b2i_t, b2i_f, Ret_s, nlg_r, nlg_i, nlg_n, ok_0, ok_i, ok_r, ok_l, zi_e, zi_n, zi_t, Nat.reduceEqDiff, Nat.not_le, Nat.reduceLeDiff, if_true, if_false, eq_self, ↓reduceIte, Nat.reduceLT, Nat.le_refl, nle1, nez1, nez2, ei_r, ei_l, ni_r, ni_l, ti_r, ti_l, ai_r, ai_l, si_r, si_l, mi_r, mi_l, di_r, nI_eq, nI_leI, nI_ltI, nI_add, pk_sub, pk_mul, pk_div, pk_rem, nI_l, lN_i, a27, a28, a30, al_i, g6, g7, g9, q1, q2]
    · by_cases q3 : t < sT σ k
      · have e : may σ a y t last k = false := by unfold may; rw [show mat3 σ a y t k = false from by simp [mat3, Nat.not_le.mpr q3]]; rfl
        rw [e]
        simp (disch := first | omega | (simp only [nlg_r, nlg_i, nlg_n, ok_0, ok_i, ok_r, ok_l]; done) | assumption | (simp only [List.length_set, List.length_append, List.length_cons, List.length_nil]; omega)) only [r_85_39, r_85_40, r_85_43, r_85_45, r_85_46, r_85_47, r_85_50, r_85_51, r_85_54, r_85_56, r_85_57, r_85_58, r_85_61, r_85_62, r_85_65, r_85_67, r_85_68, r_85_69, r_85_72, r_85_74, r_85_75, r_85_78, r_85_79, r_85_81, r_85_83, r_85_86, r_85_89, r_85_90, r_85_93, r_85_94, hM, mdl, aft_v, aft_n, aft_t, gf_0, gf_s, pf_e, tg_e, hp_s, hp_n, hp_2, List.set_cons_zero, List.set_cons_succ, b2i_t, b2i_f, Ret_s, nlg_r, nlg_i, nlg_n, ok_0, ok_i, ok_r, ok_l, zi_e, zi_n, zi_t, Nat.reduceEqDiff, Nat.not_le, Nat.reduceLeDiff, if_true, if_false, eq_self, ↓reduceIte, Nat.reduceLT, Nat.le_refl, nle1, nez1, nez2, ei_r, ei_l, ni_r, ni_l, ti_r, ti_l, ai_r, ai_l, si_r, si_l, mi_r, mi_l, di_r, nI_eq, nI_leI, nI_ltI, nI_add, pk_sub, pk_mul, pk_div, pk_rem, nI_l, lN_i, a27, a28, a30, al_i, g6, g7, g9, q1, q2, q3]
      · cases last with
        | none =>
          have e : may σ a y t none k = true := by simp [may, mat3, q1]; omega
          rw [e]
          simp (disch := first | omega | (simp only [nlg_r, nlg_i, nlg_n, ok_0, ok_i, ok_r, ok_l]; done) | assumption | (simp only [List.length_set, List.length_append, List.length_cons, List.length_nil]; omega)) only [r_85_39, r_85_40, r_85_43, r_85_45, r_85_46, r_85_47, r_85_50, r_85_51, r_85_54, r_85_56, r_85_57, r_85_58, r_85_61, r_85_62, r_85_65, r_85_67, r_85_68, r_85_69, r_85_72, r_85_74, r_85_75, r_85_78, r_85_79, r_85_81, r_85_83, r_85_86, r_85_89, r_85_90, r_85_93, r_85_94, hM, mdl, aft_v, aft_n, aft_t, gf_0, gf_s, pf_e, tg_e, hp_s, hp_n, hp_2, List.set_cons_zero, List.set_cons_succ, b2i_t, b2i_f, Ret_s, nlg_r, nlg_i, nlg_n, ok_0, ok_i, ok_r, ok_l, zi_e, zi_n, zi_t, Nat.reduceEqDiff, Nat.not_le, Nat.reduceLeDiff, if_true, if_false, eq_self, ↓reduceIte, Nat.reduceLT, Nat.le_refl, nle1, nez1, nez2, ei_r, ei_l, ni_r, ni_l, ti_r, ti_l, ai_r, ai_l, si_r, si_l, mi_r, mi_l, di_r, nI_eq, nI_leI, nI_ltI, nI_add, pk_sub, pk_mul, pk_div, pk_rem, nI_l, lN_i, a27, a28, a30, al_i, g6, g7, g9, q1, q2, q3, oI]
        | some q =>
          have hq := hl q rfl
          have cb := c_86 (d := d) T0 hL0 hV hq hk
          have e : may σ a y t (some q) k = bef σ q k := by
            have : mat3 σ a y t k = true := by simp [mat3, q1]; omega
            simp [may, this]
          rw [e]
          cases eb : bef σ q k
          · rw [eb] at cb
            simp (disch := first | omega | (simp only [nlg_r, nlg_i, nlg_n, ok_0, ok_i, ok_r, ok_l]; done) | assumption | (simp only [List.length_set, List.length_append, List.length_cons, List.length_nil]; omega)) only [r_85_39, r_85_40, r_85_43, r_85_45, r_85_46, r_85_47, r_85_50, r_85_51, r_85_54, r_85_56, r_85_57, r_85_58, r_85_61, r_85_62, r_85_65, r_85_67, r_85_68, r_85_69, r_85_72, r_85_74, r_85_75, r_85_78, r_85_79, r_85_81, r_85_83, r_85_86, r_85_89, r_85_90, r_85_93, r_85_94, hM, mdl, aft_v, aft_n, aft_t, gf_0, gf_s, pf_e, tg_e, hp_s, hp_n, hp_2, List.set_cons_zero, List.set_cons_succ, b2i_t, b2i_f, Ret_s, nlg_r, nlg_i, nlg_n, ok_0, ok_i, ok_r, ok_l, zi_e, zi_n, zi_t, Nat.reduceEqDiff, Nat.not_le, Nat.reduceLeDiff, if_true, if_false, eq_self, ↓reduceIte, Nat.reduceLT, Nat.le_refl, nle1, nez1, nez2, ei_r, ei_l, ni_r, ni_l, ti_r, ti_l, ai_r, ai_l, si_r, si_l, mi_r, mi_l, di_r, nI_eq, nI_leI, nI_ltI, nI_add, pk_sub, pk_mul, pk_div, pk_rem, nI_l, lN_i, a27, a28, a30, al_i, g6, g7, g9, q1, q2, q3, oI, ng_e, cb]
          · rw [eb] at cb
            simp (disch := first | omega | (simp only [nlg_r, nlg_i, nlg_n, ok_0, ok_i, ok_r, ok_l]; done) | assumption | (simp only [List.length_set, List.length_append, List.length_cons, List.length_nil]; omega)) only [r_85_39, r_85_40, r_85_43, r_85_45, r_85_46, r_85_47, r_85_50, r_85_51, r_85_54, r_85_56, r_85_57, r_85_58, r_85_61, r_85_62, r_85_65, r_85_67, r_85_68, r_85_69, r_85_72, r_85_74, r_85_75, r_85_78, r_85_79, r_85_81, r_85_83, r_85_86, r_85_89, r_85_90, r_85_93, r_85_94, hM, mdl, aft_v, aft_n, aft_t, gf_0, gf_s, pf_e, tg_e, hp_s, hp_n, hp_2, List.set_cons_zero, List.set_cons_succ, b2i_t, b2i_f, Ret_s, nlg_r, nlg_i, nlg_n, ok_0, ok_i, ok_r, ok_l, zi_e, zi_n, zi_t, Nat.reduceEqDiff, Nat.not_le, Nat.reduceLeDiff, if_true, if_false, eq_self, ↓reduceIte, Nat.reduceLT, Nat.le_refl, nle1, nez1, nez2, ei_r, ei_l, ni_r, ni_l, ti_r, ti_l, ai_r, ai_l, si_r, si_l, mi_r, mi_l, di_r, nI_eq, nI_leI, nI_ltI, nI_add, pk_sub, pk_mul, pk_div, pk_rem, nI_l, lN_i, a27, a28, a30, al_i, g6, g7, g9, q1, q2, q3, oI, ng_e, cb]
  · have e : may σ a y t last k = false := by simp [may, mat3, q1]
    rw [e]
    simp (disch := first | omega | (simp only [nlg_r, nlg_i, nlg_n, ok_0, ok_i, ok_r, ok_l]; done) | assumption | (simp only [List.length_set, List.length_append, List.length_cons, List.length_nil]; omega)) only [r_85_39, r_85_40, r_85_43, r_85_45, r_85_46, r_85_47, r_85_50, r_85_51, r_85_54, r_85_56, r_85_57, r_85_58, r_85_61, r_85_62, r_85_65, r_85_67, r_85_68, r_85_69, r_85_72, r_85_74, r_85_75, r_85_78, r_85_79, r_85_81, r_85_83, r_85_86, r_85_89, r_85_90, r_85_93, r_85_94, hM, mdl, aft_v, aft_n, aft_t, gf_0, gf_s, pf_e, tg_e, hp_s, hp_n, hp_2, List.set_cons_zero, List.set_cons_succ, b2i_t, b2i_f, Ret_s, nlg_r, nlg_i, nlg_n, ok_0, ok_i, ok_r, ok_l, zi_e, zi_n, zi_t, Nat.reduceEqDiff, Nat.not_le, Nat.reduceLeDiff, if_true, if_false, eq_self, ↓reduceIte, Nat.reduceLT, Nat.le_refl, nle1, nez1, nez2, ei_r, ei_l, ni_r, ni_l, ti_r, ti_l, ai_r, ai_l, si_r, si_l, mi_r, mi_l, di_r, nI_eq, nI_leI, nI_ltI, nI_add, pk_sub, pk_mul, pk_div, pk_rem, nI_l, lN_i, a27, a28, a30, al_i, g6, g7, g9, q1]
end TK
