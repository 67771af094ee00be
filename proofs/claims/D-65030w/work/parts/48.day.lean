/-! PLAIN LEAN, 9: a day, in numbers -/
theorem gD_set (l : List Nat) (i x j : Nat) : (l.set i x).getD j 0 = if i = j ∧ j < l.length then x else l.getD j 0 := by
  simp only [List.getD_eq_getElem?_getD, List.getElem?_set]
  by_cases h : i = j
  · subst h
    by_cases h2 : i < l.length
    · simp [h2]
    · simp [h2]
  · simp [h]
theorem gD_sum : ∀ (l : List Nat) (k : Nat), l.getD k 0 ≤ l.sum
  | [], k => by simp
  | x :: l, 0 => by simp
  | x :: l, k + 1 => by have := gD_sum l k; simp only [List.getD_cons_succ, List.sum_cons]; omega
theorem set_sum : ∀ (l : List Nat) (k x : Nat), x ≤ l.getD k 0 → (l.set k x).sum ≤ l.sum
  | [], k, x, _ => by simp
  | y :: l, 0, x, h => by simp only [List.getD_cons_zero] at h; simp only [List.set_cons_zero, List.sum_cons]; omega
  | y :: l, k + 1, x, h => by have := set_sum l k x h; simp only [List.set_cons_succ, List.sum_cons]; omega
theorem set_sum2 : ∀ (l : List Nat) (k x : Nat), (l.set k x).sum ≤ l.sum + x
  | [], k, x => by simp
  | y :: l, 0, x => by simp only [List.set_cons_zero, List.sum_cons]; omega
  | y :: l, k + 1, x => by have := set_sum2 l k x; simp only [List.set_cons_succ, List.sum_cons]; omega
theorem flw_sum {fa fb : Nat} {l : List Nat} (h : l.length = 4) (h1 : fa ≤ fb) (h2 : 1 ≤ fb) : (flw fa fb l).sum = l.sum := by
  obtain ⟨p0, p1, p2, p3, rfl⟩ := len4 h
  have f0 : p0 * fa / fb ≤ p0 := mdv h1 h2
  have f1 : p1 * fa / fb ≤ p1 := mdv h1 h2
  have f2 : p2 * fa / fb ≤ p2 := mdv h1 h2
  have f3 : p3 * fa / fb ≤ p3 := mdv h1 h2
  simp only [flw, g4_0, g4_1, g4_2, g4_3, List.sum_cons, List.sum_nil]
  omega
/-- what a storm does to a rope -/
def stn (σ : AS) (k s : Nat) : AS := if 0 < s ∧ s < (σ.2 1).getD k 0 * (σ.2 3).getD k 0 then uc σ 3 ((σ.2 3).set k (s / (σ.2 1).getD k 0)) else σ
def grwN (σ : AS) (b : Nat) : Nat → AS
  | 0 => σ
  | n + 1 => grw (grwN σ b n) n b
def stnN (σ : AS) (s : Nat) : Nat → AS
  | 0 => σ
  | n + 1 => stn (stnN σ s n) n s
/-- flow at a day's start -/
def flo (σ : AS) : AS := uc (us σ 0 (σ.1 0 + 1)) 14 (flw (σ.1 1) (σ.1 2) (σ.2 14))
def dayT (σ : AS) : AS := stnN (grwN (flo σ) ((σ.2 15).getD (σ.1 0 + 1) 0) (σ.2 1).length) ((σ.2 16).getD (σ.1 0 + 1) 0) (σ.2 1).length
/-- both at once, rope by rope -/
def gsN (σ : AS) (b s : Nat) : Nat → AS
  | 0 => σ
  | n + 1 => stn (grw (gsN σ b s n) n b) n s
def dayC (σ : AS) : AS := gsN (flo σ) ((σ.2 15).getD (σ.1 0 + 1) 0) ((σ.2 16).getD (σ.1 0 + 1) 0) (σ.2 1).length
/-- what is kept over a day's parts -/
def WQ (B : Nat) (σ : AS) : Prop := WL σ ∧ WV σ ∧ WS σ ∧ (σ.2 14).sum ≤ B
theorem gby_le (g b r p m : Nat) : gby g b r p m ≤ 100000 - g ∧ gby g b r p m ≤ p / m := by unfold gby; omega
theorem grs_lt (g b r p m : Nat) : grs g b r p m < 1000 := by unfold grs; split <;> omega
section KEEP
variable {B : Nat} {σ : AS}
theorem grw_1 (k b : Nat) : (grw σ k b).1 = σ.1 := rfl
theorem grw_c (k b j : Nat) (h3 : j ≠ 3) (h4 : j ≠ 4) (h5 : j ≠ 5) (h14 : j ≠ 14) : (grw σ k b).2 j = σ.2 j := by simp [grw, uc, h3, h4, h5, h14]
theorem stn_1 (k s : Nat) : (stn σ k s).1 = σ.1 := by unfold stn; split <;> rfl
theorem stn_c (k s j : Nat) (h3 : j ≠ 3) : (stn σ k s).2 j = σ.2 j := by unfold stn; split <;> simp [uc, h3]
theorem grw_Q (h : WQ B σ) {k b : Nat} (hk : k < (σ.2 1).length) : WQ B (grw σ k b) := by
  obtain ⟨hL, hV, hS, hB⟩ := h
  have v := hV k
  have g1 := gby_le ((σ.2 3).getD k 0) b ((σ.2 4).getD k 0) ((σ.2 14).getD ((σ.2 2).getD k 0) 0) ((σ.2 1).getD k 0)
  have g2 := grs_lt ((σ.2 3).getD k 0) b ((σ.2 4).getD k 0) ((σ.2 14).getD ((σ.2 2).getD k 0) 0) ((σ.2 1).getD k 0)
  refine ⟨?_, fun j => ?_, hS, ?_⟩
  · simpa [WL, grw, uc] using hL
  · have w := hV j
    simp only [grw, uc_2, gD_set]
    simp only [show ¬ (1 : Nat) = 14 by decide, show ¬ (1 : Nat) = 5 by decide, show ¬ (1 : Nat) = 3 by decide, show ¬ (1 : Nat) = 4 by decide, if_false, if_true, Nat.reduceEqDiff, reduceCtorEq]
    refine ⟨w.1, w.2.1, w.2.2.1, ?_, ?_, w.2.2.2.2.2⟩
    · rw [gD_set]
      split
      · omega
      · exact w.2.2.2.1
    · rw [gD_set]
      split
      · exact g2
      · exact w.2.2.2.2.1
  · refine Nat.le_trans (set_sum _ _ _ (Nat.sub_le _ _)) hB
theorem stn_Q (h : WQ B σ) {k s : Nat} (hk : k < (σ.2 1).length) : WQ B (stn σ k s) := by
  unfold stn
  split
  · next hc =>
    obtain ⟨hL, hV, hS, hB⟩ := h
    have v := hV k
    refine ⟨by simpa [WL, uc] using hL, fun j => ?_, hS, hB⟩
    have w := hV j
    simp only [uc_2, gD_set]
    simp only [if_false, if_true, Nat.reduceEqDiff]
    refine ⟨w.1, w.2.1, w.2.2.1, ?_, w.2.2.2.2⟩
    rw [gD_set]
    split
    · have hm := v.2.1 hk
      have h4 := v.2.2.2.1
      have : s / (σ.2 1).getD k 0 ≤ (σ.2 3).getD k 0 := Nat.div_le_of_le_mul (Nat.le_of_lt hc.2)
      omega
    · exact w.2.2.2.1
  · exact h
theorem flo_Q (h : WQ B σ) (ht : σ.1 0 < 400) : WQ B (flo σ) := by
  obtain ⟨hL, hV, hS, hB⟩ := h
  refine ⟨?_, fun j => ?_, ?_, ?_⟩
  · obtain ⟨l1, l2, l3, l4, l5, l6, l7, l8, l9, l10, l11, l12, l13, l14, l15, l16⟩ := hL
    simp [WL, flo, uc, us, flw, *]
  · have w := hV j
    simpa [flo, uc, us] using w
  · obtain ⟨s1, s2⟩ := hS
    refine ⟨?_, ?_⟩
    · simp [flo, uc, us]; omega
    · simpa [flo, uc, us] using s2
  · show (flw (σ.1 1) (σ.1 2) (σ.2 14)).sum ≤ B
    rw [flw_sum hL.2.2.2.2.2.2.2.2.2.2.2.2.2.1 hS.2.1 hS.2.2.1]
    exact hB
theorem grw_len (k b : Nat) : ((grw σ k b).2 1).length = (σ.2 1).length := by rw [grw_c _ _ _ (by decide) (by decide) (by decide) (by decide)]
theorem stn_len (k s : Nat) : ((stn σ k s).2 1).length = (σ.2 1).length := by rw [stn_c _ _ _ (by decide)]
theorem grwN_k (b : Nat) : ∀ n, (grwN σ b n).1 = σ.1 ∧ (∀ j, j ≠ 3 → j ≠ 4 → j ≠ 5 → j ≠ 14 → (grwN σ b n).2 j = σ.2 j)
  | 0 => ⟨rfl, fun _ _ _ _ _ => rfl⟩
  | n + 1 => ⟨by rw [grwN, grw_1]; exact (grwN_k b n).1, fun j a c e f => by rw [grwN, grw_c _ _ _ a c e f]; exact (grwN_k b n).2 j a c e f⟩
theorem stnN_k (s : Nat) : ∀ n, (stnN σ s n).1 = σ.1 ∧ (∀ j, j ≠ 3 → (stnN σ s n).2 j = σ.2 j)
  | 0 => ⟨rfl, fun _ _ => rfl⟩
  | n + 1 => ⟨by rw [stnN, stn_1]; exact (stnN_k s n).1, fun j a => by rw [stnN, stn_c _ _ _ a]; exact (stnN_k s n).2 j a⟩
theorem grwN_Q (h : WQ B σ) (b : Nat) : ∀ n, n ≤ (σ.2 1).length → WQ B (grwN σ b n)
  | 0, _ => h
  | n + 1, hn => grw_Q (grwN_Q h b n (by omega)) (by rw [(grwN_k b n).2 1 (by decide) (by decide) (by decide) (by decide)]; omega)
theorem stnN_Q (h : WQ B σ) (s : Nat) : ∀ n, n ≤ (σ.2 1).length → WQ B (stnN σ s n)
  | 0, _ => h
  | n + 1, hn => stn_Q (stnN_Q h s n (by omega)) (by rw [(stnN_k s n).2 1 (by decide)]; omega)
end KEEP
