/-! PLAIN LEAN, 27: ArrayList.add at a place -/
def insA (xs : List Nat) (k y : Nat) : List Nat := xs.take k ++ y :: xs.drop k
theorem insA_len {xs : List Nat} {k y : Nat} : (insA xs k y).length = xs.length + 1 := by simp [insA]; omega
theorem ins_cpy {xs : List Nat} {c k y : Nat} (hk : k ≤ xs.length) : (cpyL (rA xs (c + 1)) (rA xs (c + 1)) k (k + 1) (xs.length - k)).set k (.ref y) = rA (insA xs k y) c := by
  apply List.ext_getElem?
  intro j
  have hl : (rA xs (c + 1)).length = xs.length + (c + 1) := rA_len xs (c + 1)
  have hA : ∀ i, (rA xs (c + 1)).getD i .null = if i < xs.length then .ref (xs.getD i 0) else .null := fun i => by
    by_cases h1 : i < xs.length
    · simp [rA, h1, List.getD_eq_getElem?_getD, List.getElem?_append]
    · simp only [rA, h1, if_false, List.getD_eq_getElem?_getD, List.getElem?_append, List.length_map, List.getElem?_replicate]
      split <;> rfl
  have hB : (rA (insA xs k y) c)[j]? = if j < xs.length + 1 then some (.ref ((insA xs k y).getD j 0)) else if j < xs.length + 1 + c then some .null else none := by
    by_cases h1 : j < xs.length + 1
    · have h2 : j < (insA xs k y).length := by rw [insA_len]; exact h1
      simp [rA, List.getElem?_append, h2, h1, List.getD_eq_getElem?_getD]
    · have h2 : ¬ j < (insA xs k y).length := by rw [insA_len]; exact h1
      simp only [rA, List.getElem?_append, List.length_map, h2, if_false, h1, List.getElem?_replicate, insA_len]
      by_cases h3 : j < xs.length + 1 + c
      · simp [h3, show j - (xs.length + 1) < c by omega]
      · simp [h3, show ¬ j - (xs.length + 1) < c by omega]
  have hI : j < xs.length + 1 → (insA xs k y).getD j 0 = if j < k then xs.getD j 0 else if j = k then y else xs.getD (j - 1) 0 := fun hj => by
    simp only [insA, List.getD_eq_getElem?_getD, List.getElem?_append, List.length_take, Nat.min_eq_left hk]
    by_cases h1 : j < k
    · simp [h1, List.getElem?_take]
    · by_cases h2 : j = k
      · subst h2; simp
      · have : j - k = (j - 1 - k) + 1 := by omega
        rw [if_neg h1, if_neg h1, if_neg h2, this, List.getElem?_cons_succ, List.getElem?_drop]
        congr 2; omega
  rw [hB]
  simp only [List.getElem?_set, cpyL, List.length_map, List.length_range, hl, List.getElem?_map]
  by_cases h0 : k = j
  · subst h0
    rw [if_pos rfl, if_pos (by omega), if_pos (by omega), hI (by omega), if_neg (by omega), if_pos rfl]
  · rw [if_neg h0]
    by_cases h1 : j < xs.length + (c + 1)
    · rw [List.getElem?_range h1, Option.map_some, hA, hA]
      by_cases h2 : j < xs.length + 1
      · rw [if_pos h2, hI h2]
        by_cases h3 : j < k
        · rw [if_neg (by omega), if_pos (by omega), if_pos h3]
        · rw [if_pos (by omega), if_pos (by omega), if_neg h3, if_neg (by omega)]
          congr 3; omega
      · rw [if_neg h2, if_pos (show j < xs.length + 1 + c by omega), if_neg (show ¬ (k + 1 ≤ j ∧ j < k + 1 + (xs.length - k)) by omega), if_neg (show ¬ j < xs.length by omega)]
    · rw [List.getElem?_eq_none (by simp; omega)]
      rw [if_neg (by omega), if_neg (by omega)]; rfl
theorem as_rw {a k y : Nat} {l : List Value} {K : MO → Option MR} (ha : 5 ≤ a) (h : k < l.length) (hn : l.length < 2 ^ 31) : asK a (24, l) 24 (nI k) (.ref y) K = K (24, l.set k (.ref y)) := by
  unfold asK
  rw [if_pos ⟨ha, rfl, inb_k h hn⟩, nI_clamp (by omega)]
theorem cpyL_len (xs ys : List Value) (a b n : Nat) : (cpyL xs ys a b n).length = ys.length := by simp [cpyL]
section LV
variable {d al ed : Nat} {h : MH} {xs : List Nat}
set_option maxRecDepth 20000 in
theorem l_ins (hN : HN h) (h5 : 5 ≤ h.2.1) (ha : 5 ≤ al) (hE : EL h xs) (hA : LA h al ed xs) (hl : xs.length < 60) {k y : Nat} (hk : k ≤ xs.length) (hy : okE h (.ref y) = true) : Ret (run (d + 7) 114 0 [.ref al, .int (nI k), .ref y, .null, .null] [] h) (fun o h' => o = .inl none ∧ LPq h al ed (insA xs k y) h') := by
  obtain ⟨m, c, h1, h2, h3, h4⟩ := hA
  have hne : ed ≠ al := fun z => by rw [z, h1] at h3; cases h3
  have hal := hN.lt h1 (by decide)
  have hed := hN.lt h3 (by decide)
  obtain ⟨hyl, hy5⟩ := okE_lt hN hy
  have hyal : y ≠ al := fun z => by
    rw [z] at hy
    simp [okE, h1] at hy
  have hyed : y ≠ ed := fun z => by
    rw [z] at hy
    simp [okE, h3] at hy
  let g : MH := hput h al (7, [.ref ed, .int (nI xs.length), .int (m + 1)])
  have g1 : g.1 al = (7, [.ref ed, .int (nI xs.length), .int (m + 1)]) := hp_s _ _ _
  have g3 : g.1 ed = (24, rA xs c) := by show (hput h al _).1 ed = _; rw [hp_n _ _ _ _ hne]; exact h3
  have gN : HN g := hN.put hal
  have gE : EL g xs := fun x hx => by
    have hxa : x ≠ al := fun z => by have := hE x hx; rw [z] at this; simp [okE, h1] at this
    rw [okE_eq (hp_n _ _ _ _ hxa)]; exact hE x hx
  have gy : okE g (.ref y) = true := by rw [okE_eq (hp_n _ _ _ _ hyal)]; exact hy
  have q1 : ¬ xs.length < k := by omega
  have q2 : (0 : Nat) ≤ k := by omega
  have e0 : run (d + 7) 114 0 [.ref al, .int (nI k), .ref y, .null, .null] [] h = run (d + 7) 114 28 [.ref al, .int (nI k), .ref y, .int (nI xs.length), .ref ed] [.ref ed, .int (nI xs.length)] g := by
    show _ = run (d + 7) 114 28 [.ref al, .int (nI k), .ref y, .int (nI xs.length), .ref ed] [.ref ed, .int (nI xs.length)] (hput h al (7, [.ref ed, .int (nI xs.length), .int (m + 1)]))
    simp (disch := first | omega | (simp only [nlg_r, nlg_i, nlg_n, ok_0, ok_i, ok_r, ok_l]; done) | assumption | (simp only [List.length_set, List.length_append, List.length_cons, List.length_nil]; omega)) only [r_114_0, r_114_1, r_114_2, r_114_5, r_114_6, r_114_7, r_114_10, r_114_11, r_114_12, r_114_15, r_114_16, r_114_19, r_114_20, r_114_21, r_114_22, r_114_25, r_114_26, r_115_0, r_115_1, r_115_2, r_115_5, r_115_8, r_115_9, r_115_12, r_115_15, r_115_16, r_115_17, r_115_24, r_115_25, h1, aft_v, aft_n, aft_t, gf_0, gf_s, pf_e, tg_e, hp_s, hp_n, hp_2, List.set_cons_zero, List.set_cons_succ, b2i_t, b2i_f, Ret_s, nlg_r, nlg_i, nlg_n, ok_0, ok_i, ok_r, ok_l, zi_e, zi_n, zi_t, Nat.reduceEqDiff, Nat.not_le, Nat.reduceLeDiff, if_true, if_false, eq_self, ↓reduceIte, Nat.reduceLT, Nat.le_refl, nle1, nez1, nez2, ei_r, ei_l, ni_r, ni_l, ti_r, ti_l, ai_r, ai_l, si_r, si_l, mi_r, mi_l, di_r, nI_eq, nI_leI, nI_ltI, nI_add, pk_sub, pk_mul, pk_div, pk_rem, nI_l, lN_i, q1, q2]
  rw [e0]
  -- from the copy on
  have tail : ∀ (g' : MH) (e' c' : Nat) (m' : Int32), 5 ≤ e' → e' ≠ al → g'.1 al = (7, [.ref e', .int (nI xs.length), .int m']) → g'.1 e' = (24, rA xs (c' + 1)) → xs.length + (c' + 1) ≤ 200 → EL g' xs → okE g' (.ref y) = true → y ≠ e' → run (d + 7) 114 38 [.ref al, .int (nI k), .ref y, .int (nI xs.length), .ref e'] [] g' = some (.inl none, hput (hput (hput g' e' (24, cpyL (rA xs (c' + 1)) (rA xs (c' + 1)) k (k + 1) (xs.length - k))) e' (24, rA (insA xs k y) c')) al (7, [.ref e', .int (nI (xs.length + 1)), .int m'])) := by
    intro g' e' c' m' t1 t2 t3 t4 t5 t6 t7 t8
    have n1 : (nI k).toNatClampNeg = k := nI_clamp (by omega)
    have n2 : (nI (k + 1)).toNatClampNeg = k + 1 := nI_clamp (by omega)
    have n3 : (nI (xs.length - k)).toNatClampNeg = xs.length - k := nI_clamp (by omega)
    have gg : 5 ≤ e' ∧ 5 ≤ e' ∧ (g'.1 e').1 = 24 ∧ (g'.1 e').1 = 24 ∧ ¬ nI (xs.length - k) < 0 ∧ ¬ nI (k + 1) < 0 ∧ ¬ nI k < 0 ∧ (nI k).toNatClampNeg + (nI (xs.length - k)).toNatClampNeg ≤ (g'.1 e').2.length ∧ (nI (k + 1)).toNatClampNeg + (nI (xs.length - k)).toNatClampNeg ≤ (g'.1 e').2.length ∧ (g'.1 e').2.all (okE g') = true ∧ okN 8 [] = true := by
      rw [t4]
      refine ⟨t1, t1, rfl, rfl, nI_pos (by omega), nI_pos (by omega), nI_pos (by omega), ?_, ?_, all_ok t6, rfl⟩
      · rw [n1, n3, rA_len]; omega
      · rw [n2, n3, rA_len]; omega
    have oky : okE (hput g' e' (24, cpyL (rA xs (c' + 1)) (rA xs (c' + 1)) k (k + 1) (xs.length - k))) (.ref y) = true := by rw [okE_eq (hp_n _ _ _ _ t8)]; exact t7
    have hcl : (cpyL (rA xs (c' + 1)) (rA xs (c' + 1)) k (k + 1) (xs.length - k)).length = xs.length + (c' + 1) := by rw [cpyL_len, rA_len]
    simp (disch := first | omega | (simp only [nlg_r, nlg_i, nlg_n, ok_0, ok_i, ok_r, ok_l]; done) | assumption | (simp only [List.length_set, List.length_append, List.length_cons, List.length_nil]; omega)) only [r_114_38, r_114_40, r_114_41, r_114_43, r_114_44, r_114_45, r_114_46, r_114_47, r_114_48, r_114_52, r_114_54, r_114_55, r_114_56, r_114_57, r_114_58, r_114_59, r_114_60, r_114_61, r_114_64, r_114_49 gg, n1, n2, n3, t3, t4, aft_v, aft_n, aft_t, gf_0, gf_s, pf_e, tg_e, hp_s, hp_n, hp_2, List.set_cons_zero, List.set_cons_succ, b2i_t, b2i_f, Ret_s, nlg_r, nlg_i, nlg_n, ok_0, ok_i, ok_r, ok_l, zi_e, zi_n, zi_t, Nat.reduceEqDiff, Nat.not_le, Nat.reduceLeDiff, if_true, if_false, eq_self, ↓reduceIte, Nat.reduceLT, Nat.le_refl, nle1, nez1, nez2, ei_r, ei_l, ni_r, ni_l, ti_r, ti_l, ai_r, ai_l, si_r, si_l, mi_r, mi_l, di_r, nI_eq, nI_leI, nI_ltI, nI_add, pk_sub, pk_mul, pk_div, pk_rem, nI_l, lN_i, as_rw, hcl, ins_cpy]
  cases c with
  | zero =>
    obtain ⟨o, h', e1, ho, l1, ⟨c', hc', l2⟩, l3, l4, l5⟩ := l_grow (d := d + 1) gN h5 ha gE g1 (by omega) g3 (by rcases h4 with z | z; exact Or.inl z; exact Or.inr ⟨z.1, z.2.1⟩)
    subst ho
    have gh : g.2.1 = h.2.1 := rfl
    rw [gh] at l1 l2 l3 l4 e1
    have yE : okE h' (.ref y) = true := by rw [okE_eq (l3 y hyal (by omega))]; exact gy
    have hEx : EL h' xs := fun x hx => by
      have hx1 := okE_lt hN (hE x hx)
      have hxa : x ≠ al := fun z => by have := hE x hx; rw [z] at this; simp [okE, h1] at this
      rw [okE_eq (l3 x hxa (by omega))]; exact gE x hx
    have hln : (rA xs 0).length = xs.length := by rw [rA_len]; rfl
    have hn1 : h.2.1 ≠ al := by omega
    have tl := tail h' h.2.1 c' (m + 1) h5 hn1 l1 l2 hc' hEx yE (by omega)
    have e2 : run (d + 7) 114 28 [.ref al, .int (nI k), .ref y, .int (nI xs.length), .ref ed] [.ref ed, .int (nI xs.length)] g = run (d + 7) 114 38 [.ref al, .int (nI k), .ref y, .int (nI xs.length), .ref h.2.1] [] h' := by
      simp (disch := first | omega | (simp only [nlg_r, nlg_i, nlg_n, ok_0, ok_i, ok_r, ok_l]; done) | assumption | (simp only [List.length_set, List.length_append, List.length_cons, List.length_nil]; omega)) only [r_114_28, r_114_29, r_114_32, r_114_33, r_114_36, g3, ln_24, hln, aft_v, aft_n, aft_t, gf_0, gf_s, pf_e, tg_e, hp_s, hp_n, hp_2, List.set_cons_zero, List.set_cons_succ, b2i_t, b2i_f, Ret_s, nlg_r, nlg_i, nlg_n, ok_0, ok_i, ok_r, ok_l, zi_e, zi_n, zi_t, Nat.reduceEqDiff, Nat.not_le, Nat.reduceLeDiff, if_true, if_false, eq_self, ↓reduceIte, Nat.reduceLT, Nat.le_refl, nle1, nez1, nez2, ei_r, ei_l, ni_r, ni_l, ti_r, ti_l, ai_r, ai_l, si_r, si_l, mi_r, mi_l, di_r, nI_eq, nI_leI, nI_ltI, nI_add, pk_sub, pk_mul, pk_div, pk_rem, nI_l, lN_i, g1, e1]
    rw [e2, tl, Ret_s]
    have hN' : HN h' := fun b hb => by
      rw [l4] at hb
      rw [l3 b (by omega) (by omega)]
      exact gN b (by rw [gh]; omega)
    refine ⟨rfl, ((hN'.put (by omega)).put (by show h.2.1 < h'.2.1; omega)).put (by show al < h'.2.1; omega), ?_, ?_, ?_, fun b b1 b2 b3 => ?_, h.2.1, ⟨m + 1, c', ?_, ?_, ?_, Or.inl h5⟩, Or.inr rfl, h5⟩
    · show h.2.1 ≤ h'.2.1; omega
    · show h'.2.1 ≤ _; omega
    · exact l5
    · rw [hp_n _ _ _ _ b1, hp_n _ _ _ _ b3, hp_n _ _ _ _ b3, l3 b b1 b3]
      exact hp_n _ _ _ _ b1
    · rw [hp_s, insA_len]
    · rw [insA_len]; omega
    · rw [hp_n _ _ _ _ hn1, hp_s]
  | succ c =>
    have he5 : 5 ≤ ed := by rcases h4 with z | z; exact z; exact absurd z.2.2 (by omega)
    have q : ¬ xs.length = xs.length + (c + 1) := by omega
    have tl := tail g ed c (m + 1) he5 hne g1 g3 h2 gE gy hyed
    have e2 : run (d + 7) 114 28 [.ref al, .int (nI k), .ref y, .int (nI xs.length), .ref ed] [.ref ed, .int (nI xs.length)] g = run (d + 7) 114 38 [.ref al, .int (nI k), .ref y, .int (nI xs.length), .ref ed] [] g := by
      simp (disch := first | omega | (simp only [nlg_r, nlg_i, nlg_n, ok_0, ok_i, ok_r, ok_l]; done) | assumption | (simp only [List.length_set, List.length_append, List.length_cons, List.length_nil]; omega)) only [r_114_28, r_114_29, r_114_32, r_114_33, r_114_36, g3, ln_24, rA_len, aft_v, aft_n, aft_t, gf_0, gf_s, pf_e, tg_e, hp_s, hp_n, hp_2, List.set_cons_zero, List.set_cons_succ, b2i_t, b2i_f, Ret_s, nlg_r, nlg_i, nlg_n, ok_0, ok_i, ok_r, ok_l, zi_e, zi_n, zi_t, Nat.reduceEqDiff, Nat.not_le, Nat.reduceLeDiff, if_true, if_false, eq_self, ↓reduceIte, Nat.reduceLT, Nat.le_refl, nle1, nez1, nez2, ei_r, ei_l, ni_r, ni_l, ti_r, ti_l, ai_r, ai_l, si_r, si_l, mi_r, mi_l, di_r, nI_eq, nI_leI, nI_ltI, nI_add, pk_sub, pk_mul, pk_div, pk_rem, nI_l, lN_i, q]
    rw [e2, tl, Ret_s]
    refine ⟨rfl, ((gN.put (show ed < g.2.1 from hed)).put (show ed < g.2.1 from hed)).put (show al < g.2.1 from hal), Nat.le_refl _, Nat.le_succ _, Nat.le_add_right _ _, fun b b1 b2 b3 => ?_, ed, ⟨m + 1, c, ?_, ?_, ?_, Or.inl he5⟩, Or.inl rfl, he5⟩
    · have b2' : b ≠ ed := fun z => by have := b2 z; omega
      rw [hp_n _ _ _ _ b1, hp_n _ _ _ _ b2', hp_n _ _ _ _ b2']
      exact hp_n _ _ _ _ b1
    · rw [hp_s, insA_len]
    · rw [insA_len]; omega
    · rw [hp_n _ _ _ _ hne, hp_s]
end LV
