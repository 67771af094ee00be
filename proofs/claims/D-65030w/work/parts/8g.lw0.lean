/-! PLAIN LEAN, 57: the law's beginning -/
def rN (n : Nat) : List Nat := List.replicate n 0
def s0 : AS := (fun i => if i = 2 then 1 else 0, fun j => if j = 12 then rN 40 else if j = 13 then [1000, 500, 2, 3] else if j = 14 then rN 4 else if j = 15 then rN 401 else if j = 16 then rN 401 else [])
theorem iA_r (n : Nat) : iA (rN n) = rI n := by simp only [iA, rN, List.map_replicate, rI]; rfl
theorem lA_r (n : Nat) : lA (rN n) = rL n := by simp only [lA, rN, List.map_replicate, rL]; rfl
theorem pad_n (n : Nat) : pad n [] = rN n := by simp [pad, rN]
theorem rN_l (n : Nat) : (rN n).length = n := by simp [rN]
theorem rep_g (n k : Nat) : (rN n).getD k 0 = 0 := by
  simp only [rN, List.getD_eq_getElem?_getD, List.getElem?_replicate]
  split <;> rfl
theorem nil_g (k : Nat) : ([] : List Nat).getD k 0 = 0 := rfl
section L0
variable {xs : List Int32} {d : Nat}
/-- the heap when the loop begins -/
def hF (xs : List Int32) : MH := hB (hB (oldc xs) 5 cel17 879).1 16 (cel71 ++ [(21, [Value.long 0])]) 2055
theorem hF_c (a : Nat) (ha : 5 ≤ a) (hb : a < 16) : (hF xs).1 a = cel17.getD (a - 5) (99, []) := by
  rw [hF, hB_o hb, hB_g ha]
theorem hF_t (a : Nat) (ha : 16 ≤ a) : (hF xs).1 a = (cel71 ++ [(21, [Value.long 0])]).getD (a - 16) (99, []) := by
  rw [hF, hB_g ha]
theorem hF_o (a : Nat) (ha : a < 5) : (hF xs).1 a = oldc xs a := by
  rw [hF, hB_o (by omega), hB_o ha]
theorem hF_T : TW 0 s0 (hF xs) := by
  refine ⟨0, 0, 0, 0, rN 4, rN_l 4, ?_, ?_⟩
  · rw [hF_t _ (by omega)]; rfl
  · unfold TA
    simp only [hF_t _ (show 16 ≤ 17 by omega), hF_t _ (show 16 ≤ 18 by omega), hF_t _ (show 16 ≤ 19 by omega), hF_t _ (show 16 ≤ 20 by omega), hF_t _ (show 16 ≤ 21 by omega), hF_t _ (show 16 ≤ 22 by omega), hF_t _ (show 16 ≤ 23 by omega), hF_t _ (show 16 ≤ 24 by omega), hF_t _ (show 16 ≤ 25 by omega), hF_t _ (show 16 ≤ 26 by omega), hF_t _ (show 16 ≤ 27 by omega), hF_t _ (show 16 ≤ 28 by omega), hF_t _ (show 16 ≤ 29 by omega), hF_t _ (show 16 ≤ 30 by omega), hF_t _ (show 16 ≤ 31 by omega), hF_t _ (show 16 ≤ 32 by omega), hF_t _ (show 16 ≤ 33 by omega)]
    simp only [s0, Nat.reduceEqDiff, if_true, if_false, pad_n, iA_r, lA_r]
    exact ⟨rfl, rfl, rfl, rfl, rfl, rfl, rfl, rfl, rfl, rfl, rfl, rfl, rfl, rfl, rfl, rfl, rfl⟩
theorem hF_N : HN (hF xs) := fun a ha => by
  have ha' : 35 ≤ a := ha
  rw [hF_t _ (by omega), List.getD_eq_getElem?_getD, List.getElem?_eq_none (by show 19 ≤ a - 16; omega)]
  rfl
theorem hF_C : CP s0 [] (hF xs) := by
  have hl : ∀ a, 6 ≤ a → a ≤ 8 → LA (hF xs) a 1 [] := fun a h1 h2 => by
    refine ⟨0, 0, ?_, by decide, ?_, Or.inr ⟨rfl, rfl, rfl⟩⟩
    · rw [hF_c _ (by omega) (by omega)]
      have : a = 6 ∨ a = 7 ∨ a = 8 := by omega
      rcases this with rfl | rfl | rfl <;> rfl
    · rw [hF_o _ (by omega)]; rfl
  refine ⟨12, 1, 1, 1, [], [], [], ?_, ?_⟩
  · refine ⟨?_, ⟨0, 0, ?_⟩, ?_, ⟨.null, .int 0, .int 0, .int 0, ?_⟩, ?_, Or.inl rfl, ?_, ?_, ?_, 0, ?_⟩
    · rw [hF_c _ (by omega) (by omega)]; rfl
    · rw [hF_c _ (by omega) (by omega)]; rfl
    · rw [hF_c _ (by omega) (by omega)]
      simp only [s0, Nat.reduceEqDiff, if_true, if_false, iA_r]
      rfl
    · rw [hF_c _ (by omega) (by omega)]; rfl
    · rw [hF_c _ (by omega) (by omega)]; rfl
    · rw [hF_c _ (by omega) (by omega)]
      simp only [s0, Nat.reduceEqDiff, if_true, if_false, lA_r]
      rfl
    · rw [hF_c _ (by omega) (by omega)]
      simp only [s0, Nat.reduceEqDiff, if_true, if_false, iA_r]
      rfl
    · rw [hF_c _ (by omega) (by omega)]
      simp only [s0, Nat.reduceEqDiff, if_true, if_false, iA_r]
      rfl
    · rw [hF_t _ (by omega)]; rfl
  · refine ⟨hF_N, Nat.le_refl 35, hl 6 (by omega) (by omega), hl 7 (by omega) (by omega), hl 8 (by omega) (by omega), Or.inl rfl, Or.inl rfl, Or.inl rfl, fun _ => rfl, fun _ => rfl, fun _ => rfl, rfl, rfl, rfl, List.nodup_nil, fun k hk => absurd hk (Nat.not_lt_zero k), fun k hk => absurd hk (Nat.not_lt_zero k), fun k hk => absurd hk (Nat.not_lt_zero k), ?_, ?_, ?_⟩
    · rw [hF_o _ (by omega)]; rfl
    · rw [hF_o _ (by omega)]; rfl
    · rw [hF_o _ (by omega)]; rfl
theorem s0_G : GD 0 s0 [] := by
  refine ⟨⟨?_, fun k => ?_, ?_, ?_⟩, ?_, rfl, by decide⟩
  · simp [WL, s0, rN_l]
  · have r4 : [1000, 500, 2, 3].getD k 0 ≤ 99999 := by
      match k with
      | 0 => decide
      | 1 => decide
      | 2 => decide
      | 3 => decide
      | k + 4 => simp
    simp only [s0, Nat.reduceEqDiff, if_true, if_false, rep_g, nil_g, List.length_nil]
    refine ⟨by omega, fun z => by omega, by omega, by omega, by omega, by omega, by omega, by omega, by omega, by omega, by omega, by omega, r4, by omega, by omega⟩
  · exact ⟨by decide, by decide, by decide, by decide, by decide⟩
  · show (rN 4).sum ≤ 0
    decide
  · refine ⟨List.Pairwise.nil, fun i => ?_, by decide⟩
    show i < 0 ↔ i ∈ []
    simp
theorem hF_L : LI xs 0 s0 [] (hF xs) := ⟨hF_C, ⟨0, hF_T⟩, by rw [hF_o _ (by omega)]; rfl, s0_G⟩
set_option maxRecDepth 20000 in
theorem law_start : run (d + 103) 0 0 [.ref 0, .null, .null, .null, .null, .null, .null, .null] [] (h0 xs) = run (d + 103) 0 23 [.ref 0, .ref 5, .ref 16, .ref 34, .int (nI 0), .null, .null, .null] [] (hF xs) := by
  have n1 : ¬ (1 : Int32) < 0 := by decide
  have m1 : (1 : Int32).toNatClampNeg ≤ 100000 := by decide +kernel
  have e17 := c_17 (d := d + 97) (f := oldc xs)
  have eR : hB (oldc xs) 5 cel17 879 = hB (hB (oldc xs) 5 cel17 879).1 16 [] 879 := hB_r
  rw [eR] at e17
  have eF : hF xs = hB (hB (oldc xs) 5 cel17 879).1 16 (cel71 ++ [(21, [Value.long 0])]) 2055 := rfl
  rw [eF]
  generalize (hB (oldc xs) 5 cel17 879).1 = f at *
  have e71 := c_71 (d := d + 102) (f := f) (z := 879 + 29)
  have el : 16 + cel71.length = 34 := rfl
  rw [h0_B]
  simp (disch := first | omega | (simp only [nlg_r, nlg_i, nlg_n, ok_0, ok_i, ok_r, ok_l]; done) | assumption | (simp only [List.length_set, List.length_append, List.length_cons, List.length_nil]; omega)) only [r_0_0, r_0_3, r_0_4, r_0_0, r_0_3, r_0_4, hB_n, hB_s, List.nil_append, List.length_nil, List.length_cons, Nat.reduceAdd, Nat.zero_add, nlg_r, ok_0, ok_r, e17, aft_n]
  simp (disch := first | omega | (simp only [nlg_r, nlg_i, nlg_n, ok_0, ok_i, ok_r, ok_l]; done) | assumption | (simp only [List.length_set, List.length_append, List.length_cons, List.length_nil]; omega)) only [r_0_7, r_0_8, r_0_11, r_0_12, r_0_7, r_0_8, r_0_11, r_0_12, hB_n, hB_s, List.nil_append, List.length_nil, List.length_cons, Nat.reduceAdd, Nat.add_zero, nlg_r, ok_0, ok_r, aft_n]
  simp only [Nat.reduceAdd] at e71
  simp (disch := first | omega | (simp only [nlg_r, nlg_i, nlg_n, ok_0, ok_i, ok_r, ok_l]; done) | assumption | (simp only [List.length_set, List.length_append, List.length_cons, List.length_nil]; omega)) only [e71, aft_n]
  simp (disch := first | omega | (simp only [nlg_r, nlg_i, nlg_n, ok_0, ok_i, ok_r, ok_l]; done) | assumption | (simp only [List.length_set, List.length_append, List.length_cons, List.length_nil]; omega)) only [r_0_15, r_0_16, r_0_17, r_0_19, r_0_20, r_0_21, r_0_15, r_0_16, r_0_17, r_0_19, r_0_20, r_0_21, hB_n, hB_s, nlg_r, ok_0, ok_r, aft_n, tn1, el]
  rfl
end L0
