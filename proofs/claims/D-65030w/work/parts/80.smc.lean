/-! PLAIN LEAN, 41: samples in the component, in numbers -/
def adS (σ : AS) (a y c t : Nat) : AS := uc (uc (uc (uc σ 6 (σ.2 6 ++ [a])) 7 (σ.2 7 ++ [y])) 8 (σ.2 8 ++ [c])) 9 (σ.2 9 ++ [t])
def ibf (σ : AS) (y t i : Nat) : Bool := if y = sD σ i then decide (t < sT σ i) else decide (y < sD σ i)
def posS (σ : AS) (y t : Nat) (O : List Nat) : Nat → Nat
  | 0 => 0
  | k + 1 => if ibf σ y t (O.getD k 0) = true then posS σ y t O k else k + 1
section OS
variable {σ : AS} {O : List Nat} {a y c t : Nat}
theorem posS_le : ∀ n, posS σ y t O n ≤ n
  | 0 => Nat.le_refl _
  | n + 1 => by have := posS_le n; unfold posS; split <;> omega
theorem posS_ge : ∀ n m, posS σ y t O n ≤ m → m < n → ibf σ y t (O.getD m 0) = true
  | 0, m, h1, h2 => by omega
  | n + 1, m, h1, h2 => by
    unfold posS at h1
    split at h1
    · by_cases q : m = n
      · subst q; assumption
      · exact posS_ge n m h1 (by omega)
    · omega
theorem posS_pr : ∀ n, 0 < posS σ y t O n → ibf σ y t (O.getD (posS σ y t O n - 1) 0) = false
  | 0, h => by simp [posS] at h
  | n + 1, h => by
    unfold posS at h ⊢
    split
    · next q => rw [if_pos q] at h; exact posS_pr n h
    · next q => simpa using q
theorem adS_s (hL : WL σ) {i : Nat} (hi : i < (σ.2 6).length) : sA (adS σ a y c t) i = sA σ i ∧ sD (adS σ a y c t) i = sD σ i ∧ sC (adS σ a y c t) i = sC σ i ∧ sT (adS σ a y c t) i = sT σ i := by
  obtain ⟨l1, l2, l3, l4, l5, l6, l7, l8, l9, -⟩ := hL
  refine ⟨?_, ?_, ?_, ?_⟩ <;> simp only [adS, sA, sD, sC, sT, uc_2, Nat.reduceEqDiff, if_true, if_false] <;> exact gD_app (by omega)
theorem adS_n (hL : WL σ) : sA (adS σ a y c t) (σ.2 6).length = a ∧ sD (adS σ a y c t) (σ.2 6).length = y ∧ sC (adS σ a y c t) (σ.2 6).length = c ∧ sT (adS σ a y c t) (σ.2 6).length = t := by
  obtain ⟨l1, l2, l3, l4, l5, l6, l7, l8, l9, -⟩ := hL
  refine ⟨?_, ?_, ?_, ?_⟩
  · simp only [adS, sA, uc_2, Nat.reduceEqDiff, if_true, if_false]; exact gD_last
  · simp only [adS, sD, uc_2, Nat.reduceEqDiff, if_true, if_false]; rw [← l7]; exact gD_last
  · simp only [adS, sC, uc_2, Nat.reduceEqDiff, if_true, if_false]; rw [← l8]; exact gD_last
  · simp only [adS, sT, uc_2, Nat.reduceEqDiff, if_true, if_false]; rw [← l9]; exact gD_last
theorem bef_old (hL : WL σ) {i j : Nat} (hi : i < (σ.2 6).length) (hj : j < (σ.2 6).length) : bef (adS σ a y c t) i j = bef σ i j := by
  obtain ⟨-, d1, -, t1⟩ := adS_s (a := a) (y := y) (c := c) (t := t) hL hi
  obtain ⟨-, d2, -, t2⟩ := adS_s (a := a) (y := y) (c := c) (t := t) hL hj
  unfold bef
  rw [d1, d2, t1, t2]
theorem bef_new (hL : WL σ) {i : Nat} (hi : i < (σ.2 6).length) : (ibf σ y t i = true → bef (adS σ a y c t) (σ.2 6).length i = true) ∧ (ibf σ y t i = false → bef (adS σ a y c t) i (σ.2 6).length = true) := by
  obtain ⟨-, d1, -, t1⟩ := adS_s (a := a) (y := y) (c := c) (t := t) hL hi
  obtain ⟨-, d2, -, t2⟩ := adS_n (a := a) (y := y) (c := c) (t := t) hL
  rw [bef_iff, bef_iff, d1, d2, t1, t2]
  unfold ibf
  split
  · simp only [decide_eq_true_eq, decide_eq_false_iff_not]; omega
  · simp only [decide_eq_true_eq, decide_eq_false_iff_not]; omega
theorem adS_len (hL : WL σ) : ((adS σ a y c t).2 6).length = (σ.2 6).length + 1 := by simp [adS, uc]
theorem Ord_ins (hL : WL σ) (hO : Ord σ O) (hn : O.length = (σ.2 6).length) (h6 : (σ.2 6).length < 60) : Ord (adS σ a y c t) (insA O (posS σ y t O O.length) (σ.2 6).length) := by
  obtain ⟨o1, o2, o3⟩ := hO
  have hp := posS_le (σ := σ) (O := O) (y := y) (t := t) O.length
  generalize hk : posS σ y t O O.length = k at *
  have gE : ∀ m (hm : m < O.length), O.getD m 0 = O[m] := fun m hm => by simp [List.getD_eq_getElem?_getD, hm]
  have hlt : ∀ m (hm : m < O.length), O[m] < (σ.2 6).length := fun m hm => (o2 _).mpr (List.getElem_mem hm)
  have hpw : ∀ i j (hi : i < O.length) (hj : j < O.length), i < j → bef σ O[i] O[j] = true := fun i j hi hj hij => (List.pairwise_iff_getElem.mp o1) i j hi hj hij
  have after : ∀ x ∈ O.drop k, bef (adS σ a y c t) (σ.2 6).length x = true := fun x hx => by
    obtain ⟨m, hm, rfl⟩ := List.getElem_of_mem hx
    simp only [List.length_drop] at hm
    rw [List.getElem_drop]
    have q := posS_ge (σ := σ) (O := O) (y := y) (t := t) O.length (k + m) (by omega) (by omega)
    rw [gE _ (by omega)] at q
    exact (bef_new hL (hlt _ (by omega))).1 q
  have before : ∀ x ∈ O.take k, bef (adS σ a y c t) x (σ.2 6).length = true := fun x hx => by
    obtain ⟨m, hm, rfl⟩ := List.getElem_of_mem hx
    simp only [List.length_take] at hm
    rw [List.getElem_take]
    have q := posS_pr (σ := σ) (O := O) (y := y) (t := t) O.length (by omega)
    rw [hk, gE _ (by omega)] at q
    have q1 := (bef_new (a := a) (c := c) hL (hlt (k - 1) (by omega))).2 q
    by_cases e : m = k - 1
    · subst e; exact q1
    · refine bef_trans ?_ q1
      rw [bef_old hL (hlt _ (by omega)) (hlt _ (by omega))]
      exact hpw _ _ _ _ (by omega)
  have o1' : O.Pairwise (fun i j => bef (adS σ a y c t) i j = true) := o1.imp_of_mem (fun {i j} hi hj hb => by rw [bef_old hL ((o2 i).mpr hi) ((o2 j).mpr hj)]; exact hb)
  refine ⟨?_, fun i => ?_, ?_⟩
  · unfold insA
    rw [List.pairwise_append]
    refine ⟨o1'.sublist (List.take_sublist _ _), ?_, ?_⟩
    · rw [List.pairwise_cons]
      exact ⟨after, o1'.sublist (List.drop_sublist _ _)⟩
    · intro x hx z hz
      rcases List.mem_cons.mp hz with rfl | hz
      · exact before x hx
      · exact bef_trans (before x hx) (after z hz)
  · rw [adS_len hL]
    have e : i ∈ insA O k (σ.2 6).length ↔ i = (σ.2 6).length ∨ i ∈ O := by
      unfold insA
      rw [List.mem_append, List.mem_cons]
      have : i ∈ O ↔ i ∈ O.take k ∨ i ∈ O.drop k := by rw [← List.mem_append, List.take_append_drop]
      rw [this]
      constructor
      · rintro (h | h | h)
        · exact .inr (.inl h)
        · exact .inl h
        · exact .inr (.inr h)
      · rintro (h | h | h)
        · exact .inr (.inl h)
        · exact .inl h
        · exact .inr (.inr h)
    rw [e, ← o2]
    omega
  · rw [insA_len]; omega
end OS
