/-! PLAIN LEAN, 54: how both begin -/
def hB (f : Nat → MO) (b : Nat) (cs : List MO) (z : Nat) : MH := (fun a => if a < b then f a else cs.getD (a - b) (99, []), b + cs.length, z)
section CT
variable {f : Nat → MO} {b : Nat} {cs : List MO} {z d : Nat}
theorem hB_n (o : MO) : hnew (hB f b cs z) o = hB f b (cs ++ [o]) (z + o.2.length) := by
  refine Prod.ext (funext fun a => ?_) (by simp [hnew, hB, Nat.add_assoc])
  show (if a = b + cs.length then o else if a < b then f a else cs.getD (a - b) (99, [])) = if a < b then f a else (cs ++ [o]).getD (a - b) (99, [])
  by_cases h1 : a < b
  · rw [if_neg (by omega), if_pos h1, if_pos h1]
  · rw [if_neg h1, if_neg h1]
    by_cases h2 : a = b + cs.length
    · rw [if_pos h2, h2]
      simp [List.getD_eq_getElem?_getD]
    · rw [if_neg h2]
      simp only [List.getD_eq_getElem?_getD]
      rcases Nat.lt_or_ge (a - b) cs.length with h3 | h3
      · rw [List.getElem?_append_left h3]
      · rw [List.getElem?_eq_none h3, List.getElem?_eq_none (by simp; omega)]
theorem hB_p {a : Nat} {o : MO} (h5 : b ≤ a) (hl : a - b < cs.length) : hput (hB f b cs z) a o = hB f b (cs.set (a - b) o) z := by
  refine Prod.ext (funext fun c => ?_) (by simp [hput, hB])
  show (if c = a then o else if c < b then f c else cs.getD (c - b) (99, [])) = if c < b then f c else (cs.set (a - b) o).getD (c - b) (99, [])
  by_cases h1 : c = a
  · subst h1
    rw [if_pos rfl, if_neg (by omega)]
    simp [List.getD_eq_getElem?_getD, hl]
  · rw [if_neg h1]
    by_cases h2 : c < b
    · rw [if_pos h2, if_pos h2]
    · rw [if_neg h2, if_neg h2]
      simp only [List.getD_eq_getElem?_getD, List.getElem?_set]
      rw [if_neg (by omega)]
theorem hB_g {a : Nat} (h5 : b ≤ a) : (hB f b cs z).1 a = cs.getD (a - b) (99, []) := if_neg (by omega)
theorem hB_o {a : Nat} (h5 : a < b) : (hB f b cs z).1 a = f a := if_pos h5
theorem hB_s : (hB f b cs z).2.1 = b + cs.length := rfl
theorem hB_z : (hB f b cs z).2.2 = z := rfl
theorem hB_r : hB f b cs z = hB (hB f b cs z).1 (b + cs.length) [] z := by
  refine Prod.ext (funext fun a => ?_) (by simp [hB])
  show (hB f b cs z).1 a = if a < b + cs.length then (hB f b cs z).1 a else ([] : List MO).getD (a - (b + cs.length)) (99, [])
  by_cases h : a < b + cs.length
  · rw [if_pos h]
  · rw [if_neg h, hB_g (by omega), List.getD_eq_getElem?_getD, List.getElem?_eq_none (by omega)]
    simp
theorem h0_B (xs : List Int32) : h0 xs = hB (oldc xs) 5 [] 0 := by
  refine Prod.ext (funext fun a => ?_) rfl
  show (if a < 5 then oldc xs a else (99, [])) = if a < 5 then oldc xs a else ([] : List MO).getD (a - 5) (99, [])
  simp
def rI (n : Nat) : List Value := List.replicate n (.int 0)
def rL (n : Nat) : List Value := List.replicate n (.long 0)
theorem rI_e (n : Nat) : List.replicate n (Value.int 0) = rI n := rfl
theorem rL_e (n : Nat) : List.replicate n (Value.long 0) = rL n := rfl
theorem rI_l (n : Nat) : (rI n).length = n := by simp [rI]
theorem rL_l (n : Nat) : (rL n).length = n := by simp [rL]
theorem tn4 : (4 : Int32).toNatClampNeg = 4 := by decide +kernel
theorem tn1 : (1 : Int32).toNatClampNeg = 1 := by decide +kernel
theorem tn6 : (6 : Int32).toNatClampNeg = 6 := by decide +kernel
theorem tn8 : (8 : Int32).toNatClampNeg = 8 := by decide +kernel
theorem tn40 : (40 : Int32).toNatClampNeg = 40 := by decide +kernel
theorem tn60 : (60 : Int32).toNatClampNeg = 60 := by decide +kernel
theorem tn401 : (401 : Int32).toNatClampNeg = 401 := by decide +kernel
theorem as4 {a : Nat} {v0 v1 v2 v3 v : Value} {K : MO → Option MR} (ha : 5 ≤ a) : asK a (20, [v0, v1, v2, v3]) 20 0 v K = K (20, [v, v1, v2, v3]) ∧ asK a (20, [v0, v1, v2, v3]) 20 1 v K = K (20, [v0, v, v2, v3]) ∧ asK a (20, [v0, v1, v2, v3]) 20 2 v K = K (20, [v0, v1, v, v3]) ∧ asK a (20, [v0, v1, v2, v3]) 20 3 v K = K (20, [v0, v1, v2, v]) :=
  ⟨if_pos ⟨ha, rfl, rfl⟩, if_pos ⟨ha, rfl, rfl⟩, if_pos ⟨ha, rfl, rfl⟩, if_pos ⟨ha, rfl, rfl⟩⟩
theorem rI4 : rI 4 = [.int 0, .int 0, .int 0, .int 0] := rfl
end CT
