/-! PLAIN LEAN, 28: the component's cells -/
def c5 (σ : AS) (rr : Nat) : MO := (0, [.ref 6, .ref 7, .ref 8, .ref 9, .ref 11, .ref rr, .ref 13, .int (nI (σ.1 1)), .int (nI (σ.1 2)), .ref 14, .ref 15, .int (nI (σ.1 0))])
def ropC (σ : AS) (k : Nat) : MO := (3, [.int (nI ((σ.2 1).getD k 0)), .int (nI ((σ.2 2).getD k 0)), .int (nI ((σ.2 3).getD k 0)), .int (nI ((σ.2 4).getD k 0)), .long (lN ((σ.2 5).getD k 0))])
def smpC (σ : AS) (i : Nat) : MO := (4, [.int (nI (sA σ i)), .int (nI (sD σ i)), .int (nI (sC σ i)), .int (nI (sT σ i))])
def plnC (σ : AS) (k : Nat) : MO := (5, [.int (nI ((σ.2 10).getD k 0)), .int (nI ((σ.2 11).getD k 0))])
/-- the cells at fixed places -/
def CF (σ : AS) (rr : Nat) (h : MH) : Prop := h.1 5 = c5 σ rr ∧ (∃ ap pl, h.1 9 = (1, [.ref 10, .int (nI (σ.1 3)), .int ap, .int pl])) ∧ h.1 10 = (22, iA (σ.2 12)) ∧ (∃ v0 v1 v2 v3, h.1 11 = (2, [v0, v1, v2, v3])) ∧ h.1 rr = (20, iA (σ.2 13)) ∧ (rr = 12 ∨ 35 ≤ rr) ∧ h.1 13 = (21, lA (σ.2 14)) ∧ h.1 14 = (20, iA (σ.2 15)) ∧ h.1 15 = (20, iA (σ.2 16)) ∧ ∃ o, h.1 34 = (21, [.long o])
/-- the lists and what lies in them -/
def CL (σ : AS) (O : List Nat) (er es ep : Nat) (ra sa pa : List Nat) (h : MH) : Prop := HN h ∧ 35 ≤ h.2.1 ∧ LA h 6 er ra ∧ LA h 7 es sa ∧ LA h 8 ep pa ∧ (er = 1 ∨ 35 ≤ er) ∧ (es = 1 ∨ 35 ≤ es) ∧ (ep = 1 ∨ 35 ≤ ep) ∧ (er = es → er = 1) ∧ (er = ep → er = 1) ∧ (es = ep → es = 1) ∧
  ra.length = (σ.2 1).length ∧ sa.length = O.length ∧ pa.length = (σ.2 10).length ∧ ra.Nodup ∧ (∀ k, k < ra.length → 35 ≤ ra.getD k 0 ∧ h.1 (ra.getD k 0) = ropC σ k) ∧ (∀ k, k < sa.length → 35 ≤ sa.getD k 0 ∧ h.1 (sa.getD k 0) = smpC σ (O.getD k 0)) ∧ (∀ k, k < pa.length → 35 ≤ pa.getD k 0 ∧ h.1 (pa.getD k 0) = plnC σ k) ∧
  h.1 1 = (24, []) ∧ h.1 2 = (8, [.ref 3, .int 0]) ∧ h.1 3 = (23, [.int 67, .int 76, .int 71, .int 87])
def CP (σ : AS) (O : List Nat) (h : MH) : Prop := ∃ rr er es ep ra sa pa, CF σ rr h ∧ CL σ O er es ep ra sa pa h
/-- nothing but the component's cells has changed -/
def FrC (h h' : MH) : Prop := (∀ a, a = 0 ∨ (16 ≤ a ∧ a ≤ 33) → h'.1 a = h.1 a) ∧ h.2.1 ≤ h'.2.1 ∧ h'.2.1 ≤ h.2.1 + 5 ∧ h'.2.2 ≤ h.2.2 + 1000
theorem LA.lt {h : MH} {al ed : Nat} {xs : List Nat} (hN : HN h) (hA : LA h al ed xs) : al < h.2.1 ∧ ed < h.2.1 := by
  obtain ⟨m, c, h1, h2, h3, h4⟩ := hA
  exact ⟨hN.lt h1 (by decide), hN.lt h3 (by decide)⟩
theorem LA.keep {h h' : MH} {al ed : Nat} {xs : List Nat} (hA : LA h al ed xs) (e1 : h'.1 al = h.1 al) (e2 : h'.1 ed = h.1 ed) : LA h' al ed xs := by
  obtain ⟨m, c, h1, h2, h3, h4⟩ := hA
  exact ⟨m, c, e1.trans h1, h2, e2.trans h3, h4⟩
section CC
variable {σ σ' : AS} {O : List Nat} {rr er es ep d : Nat} {ra sa pa : List Nat} {h h' : MH}
theorem CL.keep (H : CL σ O er es ep ra sa pa h) (hN : HN h') (hz : h.2.1 ≤ h'.2.1) (e : ∀ b, (1 ≤ b ∧ b ≤ 4) ∨ (6 ≤ b ∧ b ≤ 8) ∨ 35 ≤ b → b < h.2.1 → h'.1 b = h.1 b) (hc : ∀ j, 1 ≤ j → j ≤ 11 → σ'.2 j = σ.2 j) : CL σ' O er es ep ra sa pa h' := by
  obtain ⟨k1, k2, k3, k4, k5, k6, k7, k8, k9, k10, k11, k12, k13, k14, k15, k16, k17, k18, k19, k20, k21⟩ := H
  have l3 := k3.lt k1
  have l4 := k4.lt k1
  have l5 := k5.lt k1
  refine ⟨hN, by omega, k3.keep (e _ (by omega) (by omega)) (e _ (by omega) (by omega)), k4.keep (e _ (by omega) (by omega)) (e _ (by omega) (by omega)), k5.keep (e _ (by omega) (by omega)) (e _ (by omega) (by omega)), k6, k7, k8, k9, k10, k11, ?_, k13, ?_, k15, ?_, ?_, ?_, ?_, ?_, ?_⟩
  · rw [hc 1 (by omega) (by omega)]; exact k12
  · rw [hc 10 (by omega) (by omega)]; exact k14
  · intro k hk
    obtain ⟨a1, a2⟩ := k16 k hk
    have := k1.lt (show h.1 (ra.getD k 0) = (3, _) from a2) (by decide)
    refine ⟨a1, ?_⟩
    rw [e _ (by omega) this, a2]
    simp only [ropC, hc 1 (by omega) (by omega), hc 2 (by omega) (by omega), hc 3 (by omega) (by omega), hc 4 (by omega) (by omega), hc 5 (by omega) (by omega)]
  · intro k hk
    obtain ⟨a1, a2⟩ := k17 k hk
    have := k1.lt (show h.1 (sa.getD k 0) = (4, _) from a2) (by decide)
    refine ⟨a1, ?_⟩
    rw [e _ (by omega) this, a2]
    simp only [smpC, sA, sD, sC, sT, hc 6 (by omega) (by omega), hc 7 (by omega) (by omega), hc 8 (by omega) (by omega), hc 9 (by omega) (by omega)]
  · intro k hk
    obtain ⟨a1, a2⟩ := k18 k hk
    have := k1.lt (show h.1 (pa.getD k 0) = (5, _) from a2) (by decide)
    refine ⟨a1, ?_⟩
    rw [e _ (by omega) this, a2]
    simp only [plnC, hc 10 (by omega) (by omega), hc 11 (by omega) (by omega)]
  · rw [e _ (by omega) (by omega)]; exact k19
  · rw [e _ (by omega) (by omega)]; exact k20
  · rw [e _ (by omega) (by omega)]; exact k21
theorem CF.keep (H : CF σ rr h) (hN : HN h) (e : ∀ b, b < h.2.1 → h'.1 b = h.1 b) (h35 : 35 ≤ h.2.1) : CF σ rr h' := by
  obtain ⟨k1, ⟨ap, pl, k2⟩, k3, ⟨v0, v1, v2, v3, k4⟩, k5, k6, k7, k8, k9, o, k10⟩ := H
  have := hN.lt k5 (by decide)
  exact ⟨(e _ (by omega)).trans k1, ⟨ap, pl, (e _ (by omega)).trans k2⟩, (e _ (by omega)).trans k3, ⟨v0, v1, v2, v3, (e _ (by omega)).trans k4⟩, (e _ this).trans k5, k6, (e _ (by omega)).trans k7, (e _ (by omega)).trans k8, (e _ (by omega)).trans k9, o, (e _ (by omega)).trans k10⟩
theorem CP.x (H : CP σ O h) (k : Nat) : CP σ O (hx k h) ∧ FrC h (hx k h) ∧ HN h ∧ 35 ≤ h.2.1 := by
  obtain ⟨rr, er, es, ep, ra, sa, pa, H1, H2⟩ := H
  have hN := H2.1
  have h35 := H2.2.1
  have e : ∀ b, b < h.2.1 → (hx k h).1 b = h.1 b := fun b hb => hx_n k h b (by omega)
  refine ⟨⟨rr, er, es, ep, ra, sa, pa, H1.keep hN e h35, H2.keep ?_ ?_ (fun b _ hb => e b hb) (fun _ _ _ => rfl)⟩, ⟨fun a ha => e a (by omega), ?_, ?_, ?_⟩, hN, h35⟩
  · exact hN.new.put (by show h.2.1 < h.2.1 + 1; omega)
  · show h.2.1 ≤ h.2.1 + 1; omega
  · show h.2.1 ≤ h.2.1 + 1; omega
  · show h.2.1 + 1 ≤ h.2.1 + 5; omega
  · show h.2.2 + 6 ≤ h.2.2 + 1000; omega
/-- what a wrapper answers: thrown k; or 0 and the answer lies in out -/
def CR (h : MH) (k : Int32) (r : Int64) (σ : AS) (O : List Nat) : Option Value ⊕ Nat → MH → Prop := fun o h' => o = .inl (some (.int k)) ∧ CP σ O h' ∧ FrC h h' ∧ (k = 0 → h'.1 34 = (21, [.long r]))
theorem hx_t (k : Nat) (h : MH) (hk : k < 3) : 40 ≤ ((hx k h).1 h.2.1).1 ∧ ((hx k h).1 h.2.1).1 < 43 := by rw [hx_s]; exact ⟨by show 40 ≤ 40 + k; omega, by show 40 + k < 43; omega⟩
theorem hx_g (k : Nat) (h : MH) : ((hx k h).1 h.2.1).1 = 40 + k := by rw [hx_s]
end CC
