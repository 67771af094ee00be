/-! PLAIN LEAN, 1: helpers for runs of the mini machine -/
def b2i (b : Bool) : Int32 := if b = true then 1 else 0
theorem b2i_z (b : Bool) : (b2i b = 0) = (b = false) := by cases b <;> simp [b2i]
theorem b2i_t : b2i true = 1 := rfl
theorem b2i_f : b2i false = 0 := rfl
def inR (v a b : Int32) : Bool := !decide (v < a) && !decide (b < v)
theorem inR_t {v a b : Int32} : inR v a b = true ↔ a ≤ v ∧ v ≤ b := by simp [inR, Int32.not_lt]
theorem inR_of {x a b : Int32} {lo hi : Nat} (h : inR x a b = true) (ha : a = nI lo) (hb : b = nI hi) (hl : lo ≤ hi) (hh : hi < 2 ^ 31) : ∃ n : Nat, lo ≤ n ∧ n ≤ hi ∧ x = nI n := by
  obtain ⟨h1, h2⟩ := inR_t.mp h
  subst ha hb
  have h0 : ¬ x < 0 := by
    have : (0 : Int32) ≤ x := Int32.le_trans (nI_pos' (by omega)) h1
    exact Int32.not_lt.mpr this
  obtain ⟨j, hj, rfl⟩ := nI_of h0
  exact ⟨j, (nI_leI (by omega) hj).mp h1, (nI_leI hj hh).mp h2, rfl⟩
theorem inR_nI {n lo hi : Nat} (h1 : lo ≤ n) (h2 : n ≤ hi) (hh : hi < 2 ^ 31) : inR (nI n) (nI lo) (nI hi) = true := inR_t.mpr ⟨nI_le h1 (by omega), nI_le h2 hh⟩
/-- reads of the heap -/
theorem hp_s (h : MH) (a : Nat) (o : MO) : (hput h a o).1 a = o := if_pos rfl
theorem hp_n (h : MH) (a b : Nat) (o : MO) (hn : b ≠ a) : (hput h a o).1 b = h.1 b := if_neg hn
theorem hp_2 (h : MH) (a : Nat) (o : MO) : (hput h a o).2 = h.2 := rfl
theorem hn_s (h : MH) (o : MO) : (hnew h o).1 h.2.1 = o := if_pos rfl
theorem hn_n (h : MH) (o : MO) (b : Nat) (hn : b ≠ h.2.1) : (hnew h o).1 b = h.1 b := if_neg hn
theorem hn_2 (h : MH) (o : MO) : (hnew h o).2 = (h.2.1 + 1, h.2.2 + o.2.length) := rfl
theorem gf_e {t f : Nat} {l : List Value} {k : Value → Option MR} : gfK (t, l) t f k = (match l[f]? with | some v => k v | none => none) := if_pos rfl
theorem gf_0 {t : Nat} {v : Value} {l : List Value} {k : Value → Option MR} : gfK (t, v :: l) t 0 k = k v := by rw [gf_e]; rfl
theorem gf_s {t f : Nat} {v : Value} {l : List Value} {k : Value → Option MR} : gfK (t, v :: l) t (f + 1) k = gfK (t, l) t f k := by rw [gf_e, gf_e]; rfl
theorem pf_e {a t f : Nat} {l : List Value} {v : Value} {k : MO → Option MR} (ha : 5 ≤ a) : pfK a (t, l) t f v k = k (t, l.set f v) := if_pos ⟨ha, rfl⟩
theorem tg_e {t : Nat} {l : List Value} {r : Option MR} : tgK (t, l) t r = r := if_pos rfl
abbrev iA (l : List Nat) : List Value := l.map (fun n => Value.int (nI n))
abbrev lA (l : List Nat) : List Value := l.map (fun n => Value.long (lN n))
theorem inb_k {k n : Nat} (h : k < n) (hn : n < 2 ^ 31) : inb (nI k) n = true := by
  have h1 : ¬ nI k < 0 := nI_pos (by omega)
  have h2 : (nI k).toNatClampNeg = k := nI_clamp (by omega)
  simp [inb, h1, h2, h]
theorem al_i {t k : Nat} {l : List Nat} {K : Value → Option MR} (h : k < l.length) (hn : l.length < 2 ^ 31) : alK (t, iA l) t (nI k) K = K (.int (nI (l.getD k 0))) := by
  unfold alK
  rw [if_pos ⟨rfl, by rw [List.length_map]; exact inb_k h hn⟩, nI_clamp (by omega)]
  simp [h, List.getD_eq_getElem?_getD]
theorem al_l {k : Nat} {l : List Nat} {K : Value → Option MR} (h : k < l.length) (hn : l.length < 2 ^ 31) : alK (21, lA l) 21 (nI k) K = K (.long (lN (l.getD k 0))) := by
  unfold alK
  rw [if_pos ⟨rfl, by rw [List.length_map]; exact inb_k h hn⟩, nI_clamp (by omega)]
  simp [h, List.getD_eq_getElem?_getD]
theorem as_i {a t k x : Nat} {l : List Nat} {K : MO → Option MR} (ha : 5 ≤ a) (h : k < l.length) (hn : l.length < 2 ^ 31) : asK a (t, iA l) t (nI k) (.int (nI x)) K = K (t, iA (l.set k x)) := by
  unfold asK
  rw [if_pos ⟨ha, rfl, by rw [List.length_map]; exact inb_k h hn⟩, nI_clamp (by omega)]
  simp [List.map_set]
theorem as_l {a k x : Nat} {l : List Nat} {K : MO → Option MR} (ha : 5 ≤ a) (h : k < l.length) (hn : l.length < 2 ^ 31) : asK a (21, lA l) 21 (nI k) (.long (lN x)) K = K (21, lA (l.set k x)) := by
  unfold asK
  rw [if_pos ⟨ha, rfl, by rw [List.length_map]; exact inb_k h hn⟩, nI_clamp (by omega)]
  simp [List.map_set]
/-- columns of a fixed length -/
def pad (n : Nat) (l : List Nat) : List Nat := l ++ List.replicate (n - l.length) 0
theorem pad_len {n : Nat} {l : List Nat} (h : l.length ≤ n) : (pad n l).length = n := by simp [pad]; omega
theorem pad_get {n k : Nat} {l : List Nat} (h : k < l.length) : (pad n l).getD k 0 = l.getD k 0 := by simp [pad, List.getD_eq_getElem?_getD, List.getElem?_append, h]
theorem pad_push {n x : Nat} {l : List Nat} (h : l.length < n) : (pad n l).set l.length x = pad n (l ++ [x]) := by
  apply List.ext_getElem?
  intro j
  simp only [pad, List.getElem?_set, List.getElem?_append, List.getElem?_replicate, List.length_append, List.length_replicate, List.length_cons, List.length_nil]
  by_cases h1 : j < l.length
  · simp [h1, show ¬ l.length = j by omega, show j < l.length + 1 by omega]
  · by_cases h2 : j = l.length
    · subst h2; simp [show l.length < n by omega, show l.length < l.length + (n - l.length) by omega]
    · simp [h1, show ¬ l.length = j by omega, show ¬ j < l.length + 1 by omega]
      by_cases h3 : j - l.length < n - l.length
      · simp [h3, show j - (l.length + 1) < n - (l.length + 1) by omega]
      · simp [h3, show ¬ j - (l.length + 1) < n - (l.length + 1) by omega]
theorem pad_zero {n : Nat} {l : List Nat} (h : l.length < n) : pad n (l ++ [0]) = pad n l := by
  unfold pad
  rw [List.append_assoc, List.length_append]
  congr 1
  rw [show n - l.length = (n - (l.length + [0].length)) + 1 by simp; omega, List.replicate_succ]
  rfl
theorem pad_set {n k x : Nat} {l : List Nat} (h : k < l.length) : (pad n l).set k x = pad n (l.set k x) := by
  unfold pad
  rw [List.set_append_left _ _ h, List.length_set]
/-- exceptions -/
def hx (k : Nat) (h : MH) : MH := hput (hnew h (30 + k, List.replicate 6 .null)) h.2.1 (40 + k, List.replicate 6 .null)
theorem hx_s (k : Nat) (h : MH) : (hx k h).1 h.2.1 = (40 + k, List.replicate 6 .null) := if_pos rfl
theorem hx_n (k : Nat) (h : MH) (b : Nat) (hb : b ≠ h.2.1) : (hx k h).1 b = h.1 b := by
  unfold hx
  rw [hp_n _ _ _ _ hb, hn_n _ _ _ hb]
theorem hx_2 (k : Nat) (h : MH) : (hx k h).2 = (h.2.1 + 1, h.2.2 + 6) := rfl
theorem thr_out {d i pc a : Nat} {L : List Value} {h : MH} (hm : mhan i = []) (ht : 40 ≤ (h.1 a).1 ∧ (h.1 a).1 < 43) : thrK d i pc L a h = some (.inr a, h) := by
  unfold thrK hnd
  rw [if_pos ht, if_pos hm]
theorem thr_in {d i pc a k q : Nat} {L : List Value} {h : MH} (ht : (h.1 a).1 = 40 + k) (hg : hnd i pc (40 + k) = some (some q)) : thrK d i pc L a h = run d i q L [.ref a] h := by
  unfold thrK
  rw [ht, hg]
/-- literals -/
theorem li_i (c : Nat) : (OfNat.ofNat c : Int32) = nI (OfNat.ofNat c) := rfl
theorem li_l (c : Nat) : (OfNat.ofNat c : Int64) = lN (OfNat.ofNat c) := rfl
section LIT
variable {a c : Nat}
theorem ei_r (ha : a < 2 ^ 31) (hc : (OfNat.ofNat c : Nat) < 2 ^ 31) : (nI a = (no_index (OfNat.ofNat c : Int32))) = (a = OfNat.ofNat c) := by rw [li_i]; exact propext (nI_eq ha hc)
theorem ei_l (ha : a < 2 ^ 31) (hc : (OfNat.ofNat c : Nat) < 2 ^ 31) : ((no_index (OfNat.ofNat c : Int32)) = nI a) = (OfNat.ofNat c = a) := by rw [li_i]; exact propext (nI_eq hc ha)
theorem ni_r (ha : a < 2 ^ 31) (hc : (OfNat.ofNat c : Nat) < 2 ^ 31) : (nI a ≤ (no_index (OfNat.ofNat c : Int32))) = (a ≤ OfNat.ofNat c) := by rw [li_i]; exact propext (nI_leI ha hc)
theorem ni_l (ha : a < 2 ^ 31) (hc : (OfNat.ofNat c : Nat) < 2 ^ 31) : ((no_index (OfNat.ofNat c : Int32)) ≤ nI a) = (OfNat.ofNat c ≤ a) := by rw [li_i]; exact propext (nI_leI hc ha)
theorem ti_r (ha : a < 2 ^ 31) (hc : (OfNat.ofNat c : Nat) < 2 ^ 31) : (nI a < (no_index (OfNat.ofNat c : Int32))) = (a < OfNat.ofNat c) := by rw [li_i]; exact propext (nI_ltI ha hc)
theorem ti_l (ha : a < 2 ^ 31) (hc : (OfNat.ofNat c : Nat) < 2 ^ 31) : ((no_index (OfNat.ofNat c : Int32)) < nI a) = (OfNat.ofNat c < a) := by rw [li_i]; exact propext (nI_ltI hc ha)
theorem zi_e (ha : (OfNat.ofNat a : Nat) < 2 ^ 31) (hc : (OfNat.ofNat c : Nat) < 2 ^ 31) : ((no_index (OfNat.ofNat a : Int32)) = (no_index (OfNat.ofNat c : Int32))) = ((OfNat.ofNat a : Nat) = OfNat.ofNat c) := by rw [li_i a]; exact ei_r ha hc
theorem zi_n (ha : (OfNat.ofNat a : Nat) < 2 ^ 31) (hc : (OfNat.ofNat c : Nat) < 2 ^ 31) : ((no_index (OfNat.ofNat a : Int32)) ≤ (no_index (OfNat.ofNat c : Int32))) = ((OfNat.ofNat a : Nat) ≤ OfNat.ofNat c) := by rw [li_i a]; exact ni_r ha hc
theorem zi_t (ha : (OfNat.ofNat a : Nat) < 2 ^ 31) (hc : (OfNat.ofNat c : Nat) < 2 ^ 31) : ((no_index (OfNat.ofNat a : Int32)) < (no_index (OfNat.ofNat c : Int32))) = ((OfNat.ofNat a : Nat) < OfNat.ofNat c) := by rw [li_i a]; exact ti_r ha hc
theorem ai_r : nI a + (no_index (OfNat.ofNat c : Int32)) = nI (a + OfNat.ofNat c) := by rw [li_i, nI_add]
theorem ai_l : (no_index (OfNat.ofNat c : Int32)) + nI a = nI (OfNat.ofNat c + a) := by rw [li_i, nI_add]
theorem si_r (h : OfNat.ofNat c ≤ a) : nI a - (no_index (OfNat.ofNat c : Int32)) = nI (a - OfNat.ofNat c) := by rw [li_i]; exact pk_sub h
theorem si_l (h : a ≤ OfNat.ofNat c) : (no_index (OfNat.ofNat c : Int32)) - nI a = nI (OfNat.ofNat c - a) := by rw [li_i]; exact pk_sub h
theorem mi_r : nI a * (no_index (OfNat.ofNat c : Int32)) = nI (a * OfNat.ofNat c) := by rw [li_i, pk_mul]
theorem mi_l : (no_index (OfNat.ofNat c : Int32)) * nI a = nI (OfNat.ofNat c * a) := by rw [li_i, pk_mul]
theorem di_r (ha : a < 2 ^ 31) (h0 : 0 < (OfNat.ofNat c : Nat)) (hc : (OfNat.ofNat c : Nat) < 2 ^ 31) : nI a / (no_index (OfNat.ofNat c : Int32)) = nI (a / OfNat.ofNat c) := by rw [li_i]; exact pk_div ha h0 hc
theorem el_r (ha : a < 2 ^ 63) (hc : (OfNat.ofNat c : Nat) < 2 ^ 63) : (lN a = (no_index (OfNat.ofNat c : Int64))) = (a = OfNat.ofNat c) := by rw [li_l]; exact propext (pk_lEQ ha hc)
theorem nl_r (ha : a < 2 ^ 63) (hc : (OfNat.ofNat c : Nat) < 2 ^ 63) : (lN a ≤ (no_index (OfNat.ofNat c : Int64))) = (a ≤ OfNat.ofNat c) := by rw [li_l]; exact propext (pk_lLE ha hc)
theorem tl_r (ha : a < 2 ^ 63) (hc : (OfNat.ofNat c : Nat) < 2 ^ 63) : (lN a < (no_index (OfNat.ofNat c : Int64))) = (a < OfNat.ofNat c) := by rw [li_l]; exact propext (pk_lLT ha hc)
theorem dl_r (ha : a < 2 ^ 63) (h0 : 0 < (OfNat.ofNat c : Nat)) (hc : (OfNat.ofNat c : Nat) < 2 ^ 63) : lN a / (no_index (OfNat.ofNat c : Int64)) = lN (a / OfNat.ofNat c) := by rw [li_l]; exact pk_lDiv ha h0 hc
theorem ml_r : lN a * (no_index (OfNat.ofNat c : Int64)) = lN (a * OfNat.ofNat c) := by rw [li_l, lN_mul]
theorem al_r : lN a + (no_index (OfNat.ofNat c : Int64)) = lN (a + OfNat.ofNat c) := by rw [li_l, lN_add]
end LIT
theorem nlg_r (a : Nat) : nlg (.ref a) = true := id rfl
theorem nlg_i (a : Int32) : nlg (.int a) = true := id rfl
theorem nlg_n : nlg .null = true := id rfl
theorem ok_0 (n : Nat) : okN n [] = true := id rfl
theorem ok_i {n : Nat} {x : Int32} {S : List Value} : okN (n + 1) (.int x :: S) = okN n S := by simp [okN, Value.category]
theorem ok_r {n x : Nat} {S : List Value} : okN (n + 1) (.ref x :: S) = okN n S := by simp [okN, Value.category]
theorem ok_l {n : Nat} {x : Int64} {S : List Value} : okN (n + 2) (.long x :: S) = okN n S := by simp [okN, Value.category]
theorem nle1 : ((1 : Nat) ≤ 0) = False := by simp
theorem nez1 : ((1 : Nat) = 0) = False := by simp
theorem nez2 : ((0 : Nat) = 1) = False := by simp
theorem inR_ix {r : Int32} {n : Nat} (h : inR r 0 (nI n - 1) = true) (hn : n < 2 ^ 31) : ∃ k, k < n ∧ r = nI k := by
  obtain ⟨h1, h2⟩ := inR_t.mp h
  obtain ⟨j, hj, rfl⟩ := nI_of (Int32.not_lt.mpr h1)
  cases n with
  | zero =>
    exfalso
    have h3 : (nI 0 - 1 : Int32) < 0 := by decide
    exact absurd (Int32.le_trans h1 h2) (Int32.not_le.mpr h3)
  | succ n =>
    rw [nI_pred] at h2
    exact ⟨j, by have := (nI_leI hj (by omega)).mp h2; omega, rfl⟩
theorem inR_ok {k n : Nat} (h : k < n) (hn : n < 2 ^ 31) : inR (nI k) 0 (nI n - 1) = true := by
  cases n with
  | zero => omega
  | succ n => rw [nI_pred]; exact inR_nI (lo := 0) (Nat.zero_le _) (by omega) (by omega)
theorem al_z {o : MO} {t c : Nat} {K : Value → Option MR} : alK o t (no_index (OfNat.ofNat c : Int32)) K = alK o t (nI (OfNat.ofNat c)) K := by rw [li_i]
theorem as_z {a : Nat} {o : MO} {t c : Nat} {v : Value} {K : MO → Option MR} : asK a o t (no_index (OfNat.ofNat c : Int32)) v K = asK a o t (nI (OfNat.ofNat c)) v K := by rw [li_i]
theorem as_v {a : Nat} {o : MO} {t c : Nat} {i : Int32} {K : MO → Option MR} : asK a o t i (.int (no_index (OfNat.ofNat c : Int32))) K = asK a o t i (.int (nI (OfNat.ofNat c))) K := by rw [li_i]
theorem as_w {a : Nat} {o : MO} {t c : Nat} {i : Int32} {K : MO → Option MR} : asK a o t i (.long (no_index (OfNat.ofNat c : Int64))) K = asK a o t i (.long (lN (OfNat.ofNat c))) K := by rw [li_l]
/-- leaves of the component and the twin -/
theorem c_21 {d : Nat} {h : MH} {v a b : Int32} : run d 21 0 [.int v, .int a, .int b] [] h = some (.inl (some (.int (b2i (inR v a b)))), h) := by
  by_cases h1 : v < a <;> by_cases h2 : b < v <;> simp [r_21_0, r_21_1, r_21_2, r_21_5, r_21_6, r_21_7, r_21_10, r_21_11, r_21_14, r_21_15_0, r_21_15_1, r_21_15_n, inR, b2i, h1, h2]
theorem c_74 {d : Nat} {h : MH} {v a b : Int32} : run d 74 0 [.int v, .int a, .int b] [] h = some (.inl (some (.int (b2i (inR v a b)))), h) := by
  by_cases h1 : v < a <;> by_cases h2 : b < v <;> simp [r_74_0, r_74_1, r_74_2, r_74_5, r_74_6, r_74_7, r_74_10, r_74_11, r_74_14, r_74_15_0, r_74_15_1, r_74_15_n, inR, b2i, h1, h2]
theorem c_24 {d : Nat} {h : MH} {v : Int32} : run (d + 1) 24 0 [.int v] [] h = some (.inl (some (.int (b2i (inR v 0 3)))), h) := by
  cases hb : inR v 0 3 <;> simp [r_24_0, r_24_1, r_24_2, r_24_3, r_24_6_0, r_24_6_1, r_24_6_n, ok_0, c_21, aft_v, hb, b2i]
theorem c_25t {d : Nat} {h : MH} : run d 25 0 [.int 1] [] h = some (.inl none, h) := by simp [r_25_0, r_25_1, r_25_4, r_25_7, r_25_8, r_25_11, r_25_12]
theorem c_26t {d : Nat} {h : MH} : run d 26 0 [.int 1] [] h = some (.inl none, h) := by simp [r_26_0, r_26_1, r_26_4, r_26_7, r_26_8, r_26_11, r_26_12]
theorem c_27t {d : Nat} {h : MH} : run d 27 0 [.int 1] [] h = some (.inl none, h) := by simp [r_27_0, r_27_1, r_27_4, r_27_7, r_27_8, r_27_11, r_27_12]
theorem mh25 : mhan 25 = [] := by decide +kernel
theorem mh26 : mhan 26 = [] := by decide +kernel
theorem mh27 : mhan 27 = [] := by decide +kernel
theorem c_25f {d : Nat} {h : MH} (h5 : 5 ≤ h.2.1) : run d 25 0 [.int 0] [] h = some (.inr h.2.1, hx 0 h) := by
  simp [r_25_0, r_25_1, r_25_4, r_25_7, r_25_8, r_25_11, r_25_12, nlg_r, ok_0, ok_r, hn_s, tg_e, hp_s, h5, hx, thr_out mh25]
theorem c_26f {d : Nat} {h : MH} (h5 : 5 ≤ h.2.1) : run d 26 0 [.int 0] [] h = some (.inr h.2.1, hx 1 h) := by
  simp [r_26_0, r_26_1, r_26_4, r_26_7, r_26_8, r_26_11, r_26_12, nlg_r, ok_0, ok_r, hn_s, tg_e, hp_s, h5, hx, thr_out mh26]
theorem c_27f {d : Nat} {h : MH} (h5 : 5 ≤ h.2.1) : run d 27 0 [.int 0] [] h = some (.inr h.2.1, hx 2 h) := by
  simp [r_27_0, r_27_1, r_27_4, r_27_7, r_27_8, r_27_11, r_27_12, nlg_r, ok_0, ok_r, hn_s, tg_e, hp_s, h5, hx, thr_out mh27]
