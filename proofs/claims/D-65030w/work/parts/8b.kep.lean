/-! PLAIN LEAN, 52: what every operation keeps -/
theorem gD_ap (l : List Nat) (x j : Nat) : (l ++ [x]).getD j 0 = if j = l.length then x else l.getD j 0 := by
  by_cases h : j = l.length
  · rw [if_pos h, h, gD_last]
  · rw [if_neg h]
    by_cases h2 : j < l.length
    · exact gD_app h2
    · have h3 : l.length < j := by omega
      simp [List.getD_eq_getElem?_getD, List.getElem?_eq_none, show l.length + 1 ≤ j by omega, show l.length ≤ j by omega]
def GD (B : Nat) (σ : AS) (O : List Nat) : Prop := WQ B σ ∧ Ord σ O ∧ O.length = (σ.2 6).length ∧ ru σ 3 ≤ 99
section KP
variable {B : Nat} {σ σ' : AS} {O : List Nat}
theorem GD.mono (h : GD B σ O) {B' : Nat} (hb : B ≤ B') : GD B' σ O := ⟨⟨h.1.1, h.1.2.1, h.1.2.2.1, Nat.le_trans h.1.2.2.2 hb⟩, h.2⟩
theorem Ord_cg (h : Ord σ O) (e6 : σ'.2 6 = σ.2 6) (e7 : σ'.2 7 = σ.2 7) (e9 : σ'.2 9 = σ.2 9) : Ord σ' O := by
  have hb : ∀ i j, bef σ' i j = bef σ i j := fun i j => by unfold bef sD sT; rw [e7, e9]
  refine ⟨?_, ?_, h.2.2⟩
  · have := h.1
    simp only [hb]
    exact this
  · rw [e6]; exact h.2.1
theorem GD.cg (h : GD B σ O) {B' : Nat} (hQ : WQ B' σ') (e6 : σ'.2 6 = σ.2 6) (e7 : σ'.2 7 = σ.2 7) (e9 : σ'.2 9 = σ.2 9) (e13 : σ'.2 13 = σ.2 13) : GD B' σ' O :=
  ⟨hQ, Ord_cg h.2.1 e6 e7 e9, by rw [e6]; exact h.2.2.1, by unfold ru; rw [e13]; exact h.2.2.2⟩
theorem k_bears (h : GD B σ O) {k v : Nat} (hv : v ≤ 200) : GD B (uc σ 15 ((σ.2 15).set k v)) O := by
  obtain ⟨hL, hV, hS, hB⟩ := h.1
  refine h.cg ⟨by simpa [WL, uc] using hL, fun j => ?_, hS, hB⟩ rfl rfl rfl rfl
  obtain ⟨w1, w2, w3, w4, w5, w6, w7, w8, w9, w10, w11, w12, w13, w14, w15⟩ := hV j
  simp only [uc_2, Nat.reduceEqDiff, if_true, if_false, gD_set]
  refine ⟨w1, w2, w3, w4, w5, w6, w7, w8, w9, w10, w11, w12, w13, ?_, w15⟩
  split <;> assumption
theorem k_storm (h : GD B σ O) {k v : Nat} (hv : v ≤ 20000000) : GD B (uc σ 16 ((σ.2 16).set k v)) O := by
  obtain ⟨hL, hV, hS, hB⟩ := h.1
  refine h.cg ⟨by simpa [WL, uc] using hL, fun j => ?_, hS, hB⟩ rfl rfl rfl rfl
  obtain ⟨w1, w2, w3, w4, w5, w6, w7, w8, w9, w10, w11, w12, w13, w14, w15⟩ := hV j
  simp only [uc_2, Nat.reduceEqDiff, if_true, if_false, gD_set]
  refine ⟨w1, w2, w3, w4, w5, w6, w7, w8, w9, w10, w11, w12, w13, w14, ?_⟩
  split <;> assumption
theorem k_rope (h : GD B σ O) {m g a : Nat} (h1 : 1 ≤ m) (h2 : m ≤ 200) (h3 : g ≤ 20000) (h4 : a ≤ 3) (h5 : (σ.2 1).length < 8) : GD B (uc (uc (uc (uc (uc σ 1 (σ.2 1 ++ [m])) 2 (σ.2 2 ++ [a])) 3 (σ.2 3 ++ [g])) 4 (σ.2 4 ++ [0])) 5 (σ.2 5 ++ [0])) O := by
  obtain ⟨hL, hV, hS, hB⟩ := h.1
  obtain ⟨l1, l2, l3, l4, l5, l6⟩ := hL
  refine h.cg ⟨⟨?_, ?_, ?_, ?_, ?_, l6⟩, fun j => ?_, hS, hB⟩ rfl rfl rfl rfl
  · simp [uc]; omega
  · simp [uc]; omega
  · simp [uc]; omega
  · simp [uc]; omega
  · simp [uc]; omega
  obtain ⟨w1, w2, w3, w4, w5, w6⟩ := hV j
  simp only [uc_2, Nat.reduceEqDiff, if_true, if_false, gD_ap]
  refine ⟨?_, ?_, ?_, ?_, ?_, w6⟩
  · split <;> omega
  · intro hj
    simp only [List.length_append, List.length_cons, List.length_nil] at hj
    split
    · exact h1
    · exact w2 (by omega)
  · split <;> omega
  · split <;> omega
  · split <;> omega
theorem k_thin (h : GD B σ O) {k v : Nat} (hv : v ≤ 100000) : GD B (uc (uc σ 3 ((σ.2 3).set k v)) 4 ((σ.2 4).set k 0)) O := by
  obtain ⟨hL, hV, hS, hB⟩ := h.1
  refine h.cg ⟨by simpa [WL, uc] using hL, fun j => ?_, hS, hB⟩ rfl rfl rfl rfl
  obtain ⟨w1, w2, w3, w4, w5, w6⟩ := hV j
  simp only [uc_2, Nat.reduceEqDiff, if_true, if_false, gD_set]
  refine ⟨w1, w2, w3, ?_, ?_, w6⟩
  · split <;> assumption
  · split <;> omega
theorem k_unit (h : GD B σ O) {u : Nat} (h2 : u ≤ 126) (h3 : σ.1 3 < 40) : GD B (us (uc σ 12 ((σ.2 12).set (σ.1 3) u)) 3 (σ.1 3 + 1)) O := by
  obtain ⟨hL, hV, hS, hB⟩ := h.1
  refine h.cg ⟨by simpa [WL, uc, us] using hL, fun j => ?_, ?_, hB⟩ rfl rfl rfl rfl
  · obtain ⟨w1, w2, w3, w4, w5, w6, w7, w8, w9, w10, w11, w12, w13⟩ := hV j
    simp only [us_2, uc_2, Nat.reduceEqDiff, if_true, if_false, gD_set]
    refine ⟨w1, w2, w3, w4, w5, w6, w7, w8, w9, w10, w11, ?_, w13⟩
    split <;> assumption
  · obtain ⟨s1, s2, s3, s4, s5⟩ := hS
    refine ⟨s1, s2, s3, s4, ?_⟩
    show σ.1 3 + 1 ≤ 40
    omega
theorem k_water (h : GD B σ O) {k v : Nat} (hv : v ≤ 1000000) : GD (B + 1000000) (uc σ 14 ((σ.2 14).set k v)) O := by
  obtain ⟨hL, hV, hS, hB⟩ := h.1
  refine h.cg ⟨by simpa [WL, uc] using hL, hV, hS, ?_⟩ rfl rfl rfl rfl
  show ((σ.2 14).set k v).sum ≤ B + 1000000
  have := set_sum2 (σ.2 14) k v
  omega
theorem k_flow (h : GD B σ O) {a b : Nat} (h1 : 1 ≤ b) (h2 : b ≤ 100) (h3 : a ≤ b) : GD B (us (us σ 1 a) 2 b) O := by
  obtain ⟨hL, hV, hS, hB⟩ := h.1
  obtain ⟨s1, s2, s3, s4, s5⟩ := hS
  exact h.cg ⟨hL, hV, ⟨s1, h3, h1, h2, s5⟩, hB⟩ rfl rfl rfl rfl
theorem k_plan (h : GD B σ O) {n m : Nat} (h2 : n ≤ 10) (h3 : m ≤ n) (h4 : (σ.2 10).length < 6) : GD B (uc (uc σ 10 (σ.2 10 ++ [n])) 11 (σ.2 11 ++ [m])) O := by
  obtain ⟨hL, hV, hS, hB⟩ := h.1
  obtain ⟨l1, l2, l3, l4, l5, l6, l7, l8, l9, l10, l11, l12⟩ := hL
  refine h.cg ⟨⟨l1, l2, l3, l4, l5, l6, l7, l8, l9, ?_, ?_, l12⟩, fun j => ?_, hS, hB⟩ rfl rfl rfl rfl
  · simp [uc]; omega
  · simp [uc]; omega
  · obtain ⟨w1, w2, w3, w4, w5, w6, w7, w8, w9, w10, w11, w12⟩ := hV j
    simp only [uc_2, Nat.reduceEqDiff, if_true, if_false, gD_ap, l11]
    refine ⟨w1, w2, w3, w4, w5, w6, w7, w8, w9, ?_, ?_, w12⟩
    · split <;> assumption
    · split <;> assumption
theorem k_sample (h : GD B σ O) {a y c t : Nat} (h1 : a ≤ 3) (h2 : y ≤ 400) (h3 : c ≤ 100000) (h5 : t ≤ 400) (h6 : (σ.2 6).length < 60) : GD B (adS σ a y c t) (insA O (posS σ y t O O.length) (σ.2 6).length) := by
  obtain ⟨⟨hL, hV, hS, hB⟩, hO, hn, hr⟩ := h
  have oi := Ord_ins (a := a) (y := y) (c := c) (t := t) hL hO hn h6
  obtain ⟨l1, l2, l3, l4, l5, l6, l7, l8, l9, l10⟩ := hL
  refine ⟨⟨⟨l1, l2, l3, l4, l5, ?_, ?_, ?_, ?_, l10⟩, fun j => ?_, hS, hB⟩, oi, ?_, hr⟩
  · simp [adS, uc]; omega
  · simp [adS, uc]; omega
  · simp [adS, uc]; omega
  · simp [adS, uc]; omega
  · obtain ⟨w1, w2, w3, w4, w5, w6, w7, w8, w9, w10⟩ := hV j
    simp only [adS, uc_2, Nat.reduceEqDiff, if_true, if_false, gD_ap]
    refine ⟨w1, w2, w3, w4, w5, ?_, ?_, ?_, ?_, w10⟩
    all_goals split <;> omega
  · have e : (insA O (posS σ y t O O.length) (σ.2 6).length).length = O.length + 1 := by
      simp only [insA, List.length_append, List.length_cons, List.length_take, List.length_drop]
      omega
    rw [e, hn]
    simp [adS, uc]
theorem dayN_c {j : Nat} (h3 : j ≠ 3) (h4 : j ≠ 4) (h5 : j ≠ 5) (h14 : j ≠ 14) : ∀ n, (dayN σ n).2 j = σ.2 j
  | 0 => rfl
  | n + 1 => by
    have e : (dayN σ (n + 1)).2 j = (dayT (dayN σ n)).2 j := rfl
    have ih := dayN_c h3 h4 h5 h14 n
    rw [e, ← dayC_T]
    unfold dayC
    rw [(gsN_k _ _ _).2 j h3 h4 h5 h14, flo_c _ _ h14, ih]
theorem k_run (h : GD B σ O) {n : Nat} (hn : σ.1 0 + n ≤ 400) : GD B (dayN σ n) O :=
  h.cg (dayN_Q h.1 n hn).1 (dayN_c (by omega) (by omega) (by omega) (by omega) n) (dayN_c (by omega) (by omega) (by omega) (by omega) n) (dayN_c (by omega) (by omega) (by omega) (by omega) n) (dayN_c (by omega) (by omega) (by omega) (by omega) n)
theorem prs_R {t : Nat → Nat} {sz c : Nat} {R' : List Nat} : ∀ (f i n : Nat) (R : List Nat), prs t sz f i n R = .inr (c, R') → R.length = 4 → (∀ k, R.getD k 0 ≤ 99999) → R.getD 3 0 ≤ 99 → R'.length = 4 ∧ (∀ k, R'.getD k 0 ≤ 99999) ∧ R'.getD 3 0 ≤ 99
  | 0, i, n, R, h => by simp [prs] at h
  | f + 1, i, n, R, h => by
    intro hl hk h9
    unfold prs at h
    split at h
    · cases h
    · next w hw =>
      have hi : i < sz := by
        by_cases z : i < sz
        · exact z
        · rw [if_neg z] at hw; cases hw
      rw [if_pos hi] at hw
      have w4 := plc_lt hw
      have nv := num_v (t := t) (sz := sz) (i := i + 1) (by omega)
      split at h
      · cases h
      · split at h
        · cases h
        · next hg =>
          have gt := gdv_t w4 (fun z => hg (Or.inr z))
          have m1 : (R.set w (num t sz 5 (i + 1) 0).2).length = 4 := by rw [List.length_set]; exact hl
          have m2 : ∀ k, (R.set w (num t sz 5 (i + 1) 0).2).getD k 0 ≤ 99999 := fun k => by
            rw [gD_set]
            split
            · exact nv
            · exact hk k
          have m3 : (R.set w (num t sz 5 (i + 1) 0).2).getD 3 0 ≤ 99 := by
            rw [gD_set]
            split
            · next z => have := z.1; omega
            · exact h9
          split at h
          · cases h; exact ⟨m1, m2, m3⟩
          · split at h
            · exact prs_R f _ _ _ h m1 m2 m3
            · cases h
theorem k_rules (h : GD B σ O) : GD B (rls σ (prs (tx σ) (σ.1 3) 7 0 0 (σ.2 13))) O := by
  obtain ⟨⟨hL, hV, hS, hB⟩, hO, hn, hr⟩ := h
  obtain ⟨s1, s2, s3, s4, s5⟩ := hS
  cases hP : prs (tx σ) (σ.1 3) 7 0 0 (σ.2 13) with
  | inl q =>
    refine ⟨⟨hL, hV, ⟨s1, s2, s3, s4, ?_⟩, hB⟩, hO, hn, hr⟩
    show 0 ≤ 40
    omega
  | inr cR =>
    obtain ⟨c, R⟩ := cR
    have l13 : (σ.2 13).length = 4 := hL.2.2.2.2.2.2.2.2.2.2.2.2.1
    obtain ⟨r1, r2, r3⟩ := prs_R 7 0 0 (σ.2 13) hP l13 (fun k => (hV k).2.2.2.2.2.2.2.2.2.2.2.2.1) hr
    obtain ⟨l1, l2, l3, l4, l5, l6, l7, l8, l9, l10, l11, l12, l13, l14⟩ := hL
    refine ⟨⟨⟨l1, l2, l3, l4, l5, l6, l7, l8, l9, l10, l11, l12, r1, l14⟩, fun j => ?_, ⟨s1, s2, s3, s4, ?_⟩, hB⟩, Ord_cg hO rfl rfl rfl, hn, r3⟩
    · obtain ⟨w1, w2, w3, w4, w5, w6, w7, w8, w9, w10, w11, w12, w13, w14⟩ := hV j
      exact ⟨w1, w2, w3, w4, w5, w6, w7, w8, w9, w10, w11, w12, r2 j, w14⟩
    · show 0 ≤ 40
      omega
end KP
