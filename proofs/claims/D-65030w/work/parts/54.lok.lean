/-! PLAIN LEAN, 15: look in the twin -/
theorem bef_iff {σ : AS} {i j : Nat} : bef σ i j = true ↔ sD σ i < sD σ j ∨ (sD σ i = sD σ j ∧ (sT σ i < sT σ j ∨ (sT σ i = sT σ j ∧ i < j))) := by
  unfold bef
  by_cases h1 : sD σ i = sD σ j
  · by_cases h2 : sT σ i = sT σ j
    · simp [h1, h2]
    · simp [h1, h2]
  · simp [h1]
theorem bef_trans {σ : AS} {i j k : Nat} (h1 : bef σ i j = true) (h2 : bef σ j k = true) : bef σ i k = true := by rw [bef_iff] at *; omega
theorem bef_irr {σ : AS} {i j : Nat} (h1 : bef σ i j = true) (h2 : bef σ j i = true) : False := by rw [bef_iff] at *; omega
theorem bef_tot {σ : AS} {i j : Nat} (h : i ≠ j) (h2 : ¬ bef σ i j = true) : bef σ j i = true := by rw [bef_iff] at *; omega
theorem nxt_none {σ : AS} {a y t : Nat} {last : Option Nat} : ∀ {k : Nat}, nxt σ a y t last k = none → ∀ i, i < k → may σ a y t last i = false
  | 0, _, i, hi => absurd hi (Nat.not_lt_zero i)
  | k + 1, h, i, hi => by
    rw [nxt_s] at h
    split at h
    · split at h
      · cases h
      · split at h <;> cases h
    · next hm =>
      by_cases hik : i = k
      · subst hik; simpa using hm
      · exact nxt_none h i (by omega)
theorem nxt_some {σ : AS} {a y t : Nat} {last : Option Nat} : ∀ {k q : Nat}, nxt σ a y t last k = some q → may σ a y t last q = true ∧ ∀ i, i < k → may σ a y t last i = true → i = q ∨ bef σ q i = true
  | 0, q, h => by simp [nxt] at h
  | k + 1, q, h => by
    rw [nxt_s] at h
    split at h
    · next hm =>
      split at h
      · next hn =>
        cases h
        refine ⟨hm, fun i hi hmi => ?_⟩
        by_cases hik : i = k
        · exact Or.inl hik
        · rw [nxt_none hn i (by omega)] at hmi; cases hmi
      · next p hn =>
        obtain ⟨h1, h2⟩ := nxt_some hn
        have hp := nxt_lt hn
        split at h
        · next hb =>
          cases h
          refine ⟨hm, fun i hi hmi => ?_⟩
          by_cases hik : i = k
          · exact Or.inl hik
          · rcases h2 i (by omega) hmi with rfl | q
            · exact Or.inr hb
            · exact Or.inr (bef_trans hb q)
        · next hb =>
          cases h
          refine ⟨h1, fun i hi hmi => ?_⟩
          by_cases hik : i = k
          · subst hik
            exact Or.inr (bef_tot (by omega) hb)
          · exact h2 i (by omega) hmi
    · next hm =>
      obtain ⟨h1, h2⟩ := nxt_some h
      refine ⟨h1, fun i hi hmi => ?_⟩
      by_cases hik : i = k
      · subst hik; exact absurd hmi hm
      · exact h2 i (by omega) hmi
/-- the samples that are still to come -/
def Rem (σ : AS) (a y t : Nat) (last : Option Nat) (r : List Nat) : Prop := r.Pairwise (fun i j => bef σ i j = true) ∧ ∀ i, (i < (σ.2 6).length ∧ may σ a y t last i = true) ↔ i ∈ r
theorem Rem.nil {σ : AS} {a y t : Nat} {last : Option Nat} (h : Rem σ a y t last []) : nxt σ a y t last (σ.2 6).length = none := by
  cases hn : nxt σ a y t last (σ.2 6).length with
  | none => rfl
  | some q =>
    have := (h.2 q).mp ⟨nxt_lt hn, (nxt_some hn).1⟩
    cases this
theorem Rem.cons {σ : AS} {a y t q : Nat} {last : Option Nat} {r : List Nat} (h : Rem σ a y t last (q :: r)) : nxt σ a y t last (σ.2 6).length = some q ∧ q < (σ.2 6).length ∧ Rem σ a y t (some q) r := by
  obtain ⟨hp, hm⟩ := h
  have hq := (hm q).mpr List.mem_cons_self
  obtain ⟨p1, p2⟩ := List.pairwise_cons.mp hp
  refine ⟨?_, hq.1, p2, fun i => ⟨fun ⟨h1, h2⟩ => ?_, fun hi => ?_⟩⟩
  · cases hn : nxt σ a y t last (σ.2 6).length with
    | none => rw [nxt_none hn q hq.1] at hq; cases hq.2
    | some p =>
      obtain ⟨n1, n2⟩ := nxt_some hn
      have hpr := (hm p).mp ⟨nxt_lt hn, n1⟩
      rcases List.mem_cons.mp hpr with rfl | hpr
      · rfl
      · exfalso
        rcases n2 q hq.1 hq.2 with rfl | z
        · exact bef_irr (p1 _ hpr) (p1 _ hpr)
        · exact bef_irr (p1 p hpr) z
  · have h3 : mat3 σ a y t i = true ∧ bef σ q i = true := by simpa [may] using h2
    have h4 : may σ a y t last i = true := by
      cases last with
      | none => simpa [may] using h3.1
      | some p =>
        have : bef σ p q = true := by have := hq.2; simp [may] at this; exact this.2
        simp [may, h3.1, bef_trans this h3.2]
    rcases List.mem_cons.mp ((hm i).mp ⟨h1, h4⟩) with rfl | z
    · exact (bef_irr h3.2 h3.2).elim
    · exact z
  · obtain ⟨h1, h2⟩ := (hm i).mpr (List.mem_cons_of_mem _ hi)
    refine ⟨h1, ?_⟩
    have h3 : mat3 σ a y t i = true := by
      simp only [may, Bool.and_eq_true] at h2
      exact h2.1
    simp [may, h3, p1 i hi]
theorem sst_I {C L G W y n : Nat} {c : CS} (hI : CI c) (hy : y ≤ 400) (hW : W ≤ 99) : CI (sst C L G W y n c) ∧ (sst C L G W y n c).2.1 ≤ c.2.1 + 1 := by
  obtain ⟨sh, g, o⟩ := c
  obtain ⟨i1, i2⟩ := hI
  dsimp only at i1 i2
  cases sh with
  | false =>
    obtain ⟨rfl, rfl⟩ := i1 rfl
    simp only [sst, cme]
    split
    · exact ⟨⟨by simp, by simp⟩, by simp⟩
    · exact ⟨⟨by simp, by simp⟩, by simp⟩
  | true =>
    cases o with
    | none =>
      simp only [sst, cme]
      split
      · refine ⟨⟨by simp, fun o ho => ?_⟩, by simp⟩
        dsimp only at ho
        split at ho
        · cases ho; omega
        · cases ho
      · exact ⟨⟨by simp, by simp⟩, by simp⟩
    | some o =>
      have bo := i2 o rfl
      by_cases ho : o ≤ y
      · simp only [sst, cme, if_pos ho]
        split
        · exact ⟨⟨by simp, by simp⟩, by simp⟩
        · exact ⟨⟨by simp, by simp⟩, by simp⟩
      · simp only [sst, cme, if_neg ho]
        split
        · refine ⟨⟨by simp, fun o' ho' => ?_⟩, by simp⟩
          simp at ho'
          omega
        · exact ⟨⟨by simp, by simp⟩, by simp⟩
theorem oI_0 : oI none = -1 := id rfl
theorem oI_s (n : Nat) : oI (some n) = nI n := id rfl
/-- all of them -/
def lks (σ : AS) (r : List Nat) (c : CS) : CS := r.foldl (fun c q => sstq σ q c) c
section TN
variable {th d : Nat} {σ : AS} {h : MH}
set_option maxRecDepth 20000 in
theorem t_lloop (hL : WL σ) (hV : WV σ) (hW : ru σ 3 ≤ 99) {a y t : Nat} (ha : a ≤ 1000) (hy : y ≤ 1000) (ht : t ≤ 1000) : ∀ (r : List Nat) (last : Option Nat) (c : CS) (h : MH) (m n z1 z2 : Value), nlg m = true → nlg n = true → nlg z1 = true → Rem σ a y t last r → (∀ q, last = some q → q < (σ.2 6).length) → CI c → c.2.1 + r.length ≤ 100000 → TX th σ (c.1, c.2.2) h →
    Ret (run (d + 1) 85 19 [.ref 16, .int (nI a), .int (nI y), .int (nI t), .int (nI c.2.1), .int (oI last), .int 1, n, z1, z2] [] h) (fun o h' => o = .inl none ∧ TX th σ ((lks σ r c).1, (lks σ r c).2.2) h' ∧ FrT h h') := by
  intro r
  induction r with
  | nil =>
    intro last c h m n z1 z2 hm hn hz hr hl hI hg T
    have T0 := T
    obtain ⟨z', e⟩ := t_nx (d := d) (g := nI c.2.1) (m := 1) T.w hL hV ha hy ht hl (σ.2 6).length 0 z2 (by omega)
    rw [Rem.nil hr, show nxt σ a y t last 0 = none from rfl] at e
    simp only [oI_0, oI_s, show nI 0 = 0 from rfl] at e
    have el : run (d + 1) 85 19 [.ref 16, .int (nI a), .int (nI y), .int (nI t), .int (nI c.2.1), .int (oI last), .int 1, n, z1, z2] [] h = run (d + 1) 85 30 [.ref 16, .int (nI a), .int (nI y), .int (nI t), .int (nI c.2.1), .int (oI last), .int 1, .int (-1), .int 0, z2] [] h := by
      simp (disch := first | omega | (simp only [nlg_r, nlg_i, nlg_n, ok_0, ok_i, ok_r, ok_l]; done) | assumption | (simp only [List.length_set, List.length_append, List.length_cons, List.length_nil]; omega)) only [r_85_19, r_85_21, r_85_24, r_85_25, r_85_27, r_85_28, aft_v, aft_n, aft_t, gf_0, gf_s, pf_e, tg_e, hp_s, hp_n, hp_2, List.set_cons_zero, List.set_cons_succ, b2i_t, b2i_f, Ret_s, nlg_r, nlg_i, nlg_n, ok_0, ok_i, ok_r, ok_l, zi_e, zi_n, zi_t, Nat.reduceEqDiff, Nat.not_le, Nat.reduceLeDiff, if_true, if_false, eq_self, ↓reduceIte, Nat.reduceLT, Nat.le_refl, nle1, nez1, nez2, hn, hz]
    obtain ⟨at_, wr, mo, hmo, hM, -⟩ := T
    rw [el, e]
    simp (disch := first | omega | (simp only [nlg_r, nlg_i, nlg_n, ok_0, ok_i, ok_r, ok_l]; done) | assumption | (simp only [List.length_set, List.length_append, List.length_cons, List.length_nil]; omega)) only [r_85_19, r_85_21, r_85_133, r_85_135, r_85_136, r_85_139, r_85_140, r_85_143, r_85_144, r_85_146, r_85_148, r_85_344, r_85_347, aft_v, aft_n, aft_t, gf_0, gf_s, pf_e, tg_e, hp_s, hp_n, hp_2, List.set_cons_zero, List.set_cons_succ, b2i_t, b2i_f, Ret_s, nlg_r, nlg_i, nlg_n, ok_0, ok_i, ok_r, ok_l, zi_e, zi_n, zi_t, Nat.reduceEqDiff, Nat.not_le, Nat.reduceLeDiff, if_true, if_false, eq_self, ↓reduceIte, Nat.reduceLT, Nat.le_refl, nle1, nez1, nez2]
    exact ⟨trivial, T0, FrT.refl h⟩
  | cons q r ih =>
    intro last c h m n z1 z2 hm hn hz hr hl hI hg T
    obtain ⟨en, hq, hr'⟩ := Rem.cons hr
    obtain ⟨z', e⟩ := t_nx (d := d) (g := nI c.2.1) (m := 1) T.w hL hV ha hy ht hl (σ.2 6).length 0 z2 (by omega)
    rw [en, show nxt σ a y t last 0 = none from rfl] at e
    simp only [oI_0, oI_s, show nI 0 = 0 from rfl] at e
    have el : run (d + 1) 85 19 [.ref 16, .int (nI a), .int (nI y), .int (nI t), .int (nI c.2.1), .int (oI last), .int 1, n, z1, z2] [] h = run (d + 1) 85 30 [.ref 16, .int (nI a), .int (nI y), .int (nI t), .int (nI c.2.1), .int (oI last), .int 1, .int (-1), .int 0, z2] [] h := by
      simp (disch := first | omega | (simp only [nlg_r, nlg_i, nlg_n, ok_0, ok_i, ok_r, ok_l]; done) | assumption | (simp only [List.length_set, List.length_append, List.length_cons, List.length_nil]; omega)) only [r_85_19, r_85_21, r_85_24, r_85_25, r_85_27, r_85_28, aft_v, aft_n, aft_t, gf_0, gf_s, pf_e, tg_e, hp_s, hp_n, hp_2, List.set_cons_zero, List.set_cons_succ, b2i_t, b2i_f, Ret_s, nlg_r, nlg_i, nlg_n, ok_0, ok_i, ok_r, ok_l, zi_e, zi_n, zi_t, Nat.reduceEqDiff, Nat.not_le, Nat.reduceLeDiff, if_true, if_false, eq_self, ↓reduceIte, Nat.reduceLT, Nat.le_refl, nle1, nez1, nez2, hn, hz]
    simp only [List.length_cons] at hg
    obtain ⟨h1, w1, w2, e1, hw, T1, F1⟩ := t_see (d := d + 1) (q := q) (a := nI a) (y := nI y) (t := nI t) (l := oI last) (m := 1) (s := nI (σ.2 6).length) (z := z') T hL hV hI (by omega) hq
    obtain ⟨I1, g1⟩ := sst_I (C := ru σ 0) (L := ru σ 1) (G := ru σ 2) (W := ru σ 3) (y := sD σ q) (n := sC σ q) hI ((hV q).2.2.2.2.2.2.1) hW
    obtain ⟨o, h2, e2, ho, T2, F2⟩ := ih (some q) (sstq σ q c) h1 (.int 1) (.int (nI q)) w1 w2 rfl rfl hw hr' (fun p hp => by cases hp; exact hq) I1 (by have : (sstq σ q c).2.1 ≤ c.2.1 + 1 := g1; omega) T1
    refine ⟨o, h2, ?_, ho, T2, F1.trans F2⟩
    rw [el, e, e1]
    exact e2
end TN
