/-! PLAIN LEAN, 26: ArrayList.add -/
theorem HN.put {h : MH} (hN : HN h) {a : Nat} {o : MO} (ha : a < h.2.1) : HN (hput h a o) := fun b hb => by
  have hb' : h.2.1 ≤ b := hb
  rw [hp_n _ _ _ _ (by omega)]; exact hN b hb'
theorem HN.new {h : MH} (hN : HN h) {o : MO} : HN (hnew h o) := fun b hb => by
  have hb' : h.2.1 + 1 ≤ b := hb
  rw [hn_n _ _ _ (by omega)]; exact hN b (by omega)
theorem HN.lt {h : MH} (hN : HN h) {a t : Nat} {l : List Value} (e : h.1 a = (t, l)) (ht : t ≠ 99) : a < h.2.1 := by
  rcases Nat.lt_or_ge a h.2.1 with q | q
  · exact q
  · have := hN a q; rw [e] at this; exact absurd this ht
/-- after an add -/
def LPq (h : MH) (al ed : Nat) (xs : List Nat) (h' : MH) : Prop := HN h' ∧ h.2.1 ≤ h'.2.1 ∧ h'.2.1 ≤ h.2.1 + 1 ∧ h'.2.2 ≤ h.2.2 + 200 ∧ (∀ b, b ≠ al → (b = ed → ed < 5) → b ≠ h.2.1 → h'.1 b = h.1 b) ∧ ∃ ed', LA h' al ed' xs ∧ (ed' = ed ∨ ed' = h.2.1) ∧ 5 ≤ ed'
section LU
variable {d al ed : Nat} {h : MH} {xs : List Nat}
set_option maxRecDepth 20000 in
theorem l_add (hN : HN h) (h5 : 5 ≤ h.2.1) (ha : 5 ≤ al) (hE : EL h xs) (hA : LA h al ed xs) (hl : xs.length < 60) {y : Nat} (hy : okE h (.ref y) = true) : Ret (run (d + 7) 110 0 [.ref al, .ref y] [] h) (fun o h' => o = .inl (some (.int 1)) ∧ LPq h al ed (xs ++ [y]) h') := by
  obtain ⟨m, c, h1, h2, h3, h4⟩ := hA
  have hne : ed ≠ al := fun z => by rw [z, h1] at h3; cases h3
  have hal := hN.lt h1 (by decide)
  have hed := hN.lt h3 (by decide)
  obtain ⟨hyl, hy5⟩ := okE_lt hN hy
  have hyal : y ≠ al := fun z => by
    rw [z] at hy
    simp [okE, h1] at hy
  have hyed : y ≠ ed := fun z => by
    rw [z] at hy
    simp [okE, h3] at hy
  -- the first put
  let g : MH := hput h al (7, [.ref ed, .int (nI xs.length), .int (m + 1)])
  have g1 : g.1 al = (7, [.ref ed, .int (nI xs.length), .int (m + 1)]) := hp_s _ _ _
  have g3 : g.1 ed = (24, rA xs c) := by show (hput h al _).1 ed = _; rw [hp_n _ _ _ _ hne]; exact h3
  have gN : HN g := hN.put hal
  have gE : EL g xs := fun x hx => by
    have hxa : x ≠ al := fun z => by have := hE x hx; rw [z] at this; simp [okE, h1] at this
    rw [okE_eq (hp_n _ _ _ _ hxa)]; exact hE x hx
  have gy : okE g (.ref y) = true := by rw [okE_eq (hp_n _ _ _ _ hyal)]; exact hy
  have e0 : run (d + 7) 110 0 [.ref al, .ref y] [] h = aft (d + 7) 110 20 23 [.ref al, .ref y] [] (run (d + 6) 111 0 [.ref al, .ref y, .ref ed, .int (nI xs.length)] [] g) := by
    show _ = aft (d + 7) 110 20 23 [.ref al, .ref y] [] (run (d + 6) 111 0 [.ref al, .ref y, .ref ed, .int (nI xs.length)] [] (hput h al (7, [.ref ed, .int (nI xs.length), .int (m + 1)])))
    simp (disch := first | omega | (simp only [nlg_r, nlg_i, nlg_n, ok_0, ok_i, ok_r, ok_l]; done) | assumption | (simp only [List.length_set, List.length_append, List.length_cons, List.length_nil]; omega)) only [r_110_0, r_110_1, r_110_2, r_110_5, r_110_6, r_110_7, r_110_10, r_110_11, r_110_12, r_110_13, r_110_16, r_110_17, r_110_20, h1, aft_v, aft_n, aft_t, gf_0, gf_s, pf_e, tg_e, hp_s, hp_n, hp_2, List.set_cons_zero, List.set_cons_succ, b2i_t, b2i_f, Ret_s, nlg_r, nlg_i, nlg_n, ok_0, ok_i, ok_r, ok_l, zi_e, zi_n, zi_t, Nat.reduceEqDiff, Nat.not_le, Nat.reduceLeDiff, if_true, if_false, eq_self, ↓reduceIte, Nat.reduceLT, Nat.le_refl, nle1, nez1, nez2]
  rw [e0]
  cases c with
  | zero =>
    obtain ⟨o, h', e1, ho, l1, ⟨c', hc', l2⟩, l3, l4, l5⟩ := l_grow (d := d) gN h5 ha gE g1 (by omega) g3 (by rcases h4 with z | z; exact Or.inl z; exact Or.inr ⟨z.1, z.2.1⟩)
    subst ho
    have gh : g.2.1 = h.2.1 := rfl
    rw [gh] at l1 l2 l3 l4 e1
    have yE : okE h' (.ref y) = true := by rw [okE_eq (l3 y hyal (by omega))]; exact gy
    have hln : (rA xs 0).length = xs.length := by rw [rA_len]; rfl
    have hn1 : h.2.1 ≠ al := by omega
    simp (disch := first | omega | (simp only [nlg_r, nlg_i, nlg_n, ok_0, ok_i, ok_r, ok_l]; done) | assumption | (simp only [List.length_set, List.length_append, List.length_cons, List.length_nil]; omega)) only [r_111_0, r_111_1, r_111_2, r_111_3, r_111_6, r_111_7, r_111_10, r_111_11, r_111_12, r_111_13, r_111_14, r_111_15, r_111_16, r_111_17, r_111_18, r_111_19, r_111_22, g3, ln_24, hln, aft_v, aft_n, aft_t, gf_0, gf_s, pf_e, tg_e, hp_s, hp_n, hp_2, List.set_cons_zero, List.set_cons_succ, b2i_t, b2i_f, Ret_s, nlg_r, nlg_i, nlg_n, ok_0, ok_i, ok_r, ok_l, zi_e, zi_n, zi_t, Nat.reduceEqDiff, Nat.not_le, Nat.reduceLeDiff, if_true, if_false, eq_self, ↓reduceIte, Nat.reduceLT, Nat.le_refl, nle1, nez1, nez2, ei_r, ei_l, ni_r, ni_l, ti_r, ti_l, ai_r, ai_l, si_r, si_l, mi_r, mi_l, di_r, nI_eq, nI_leI, nI_ltI, nI_add, pk_sub, pk_mul, pk_div, pk_rem, nI_l, lN_i, g1, e1, l1, l2, as_rf, rA_push, r_110_23, r_110_24_0, r_110_24_1, r_110_24_n]
    have hN' : HN h' := fun b hb => by
      rw [l4] at hb
      rw [l3 b (by omega) (by omega)]
      exact gN b (by rw [gh]; omega)
    refine ⟨trivial, (hN'.put (by omega)).put (by show al < h'.2.1; omega), ?_, ?_, ?_, fun b b1 b2 b3 => ?_, h.2.1, ⟨m + 1, c', ?_, ?_, ?_, Or.inl h5⟩, Or.inr rfl, h5⟩
    · show h.2.1 ≤ h'.2.1; omega
    · show h'.2.1 ≤ _; omega
    · exact l5
    · rw [hp_n _ _ _ _ b1, hp_n _ _ _ _ b3, l3 b b1 b3]
      exact hp_n _ _ _ _ b1
    · rw [hp_s]; simp [nI_1]
    · simp; omega
    · rw [hp_n _ _ _ _ hn1, hp_s]
  | succ c =>
    have he5 : 5 ≤ ed := by rcases h4 with z | z; exact z; exact absurd z.2.2 (by omega)
    have q : ¬ xs.length = xs.length + (c + 1) := by omega
    simp (disch := first | omega | (simp only [nlg_r, nlg_i, nlg_n, ok_0, ok_i, ok_r, ok_l]; done) | assumption | (simp only [List.length_set, List.length_append, List.length_cons, List.length_nil]; omega)) only [r_111_0, r_111_1, r_111_2, r_111_3, r_111_6, r_111_7, r_111_10, r_111_11, r_111_12, r_111_13, r_111_14, r_111_15, r_111_16, r_111_17, r_111_18, r_111_19, r_111_22, g3, ln_24, rA_len, aft_v, aft_n, aft_t, gf_0, gf_s, pf_e, tg_e, hp_s, hp_n, hp_2, List.set_cons_zero, List.set_cons_succ, b2i_t, b2i_f, Ret_s, nlg_r, nlg_i, nlg_n, ok_0, ok_i, ok_r, ok_l, zi_e, zi_n, zi_t, Nat.reduceEqDiff, Nat.not_le, Nat.reduceLeDiff, if_true, if_false, eq_self, ↓reduceIte, Nat.reduceLT, Nat.le_refl, nle1, nez1, nez2, ei_r, ei_l, ni_r, ni_l, ti_r, ti_l, ai_r, ai_l, si_r, si_l, mi_r, mi_l, di_r, nI_eq, nI_leI, nI_ltI, nI_add, pk_sub, pk_mul, pk_div, pk_rem, nI_l, lN_i, g1, q, as_rf, rA_push, r_110_23, r_110_24_0, r_110_24_1, r_110_24_n]
    refine ⟨trivial, (gN.put (show ed < g.2.1 from hed)).put (show al < g.2.1 from hal), Nat.le_refl _, Nat.le_succ _, Nat.le_add_right _ _, fun b b1 b2 b3 => ?_, ed, ⟨m + 1, c, ?_, ?_, ?_, Or.inl he5⟩, Or.inl rfl, he5⟩
    · rw [hp_n _ _ _ _ b1, hp_n _ _ _ _ (fun z => by have := b2 z; omega)]
      exact hp_n _ _ _ _ b1
    · rw [hp_s]; simp [nI_1]
    · simp; omega
    · rw [hp_n _ _ _ _ hne, hp_s]
end LU
