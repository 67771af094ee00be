/-! PLAIN LEAN, 56: one operation on both sides -/
def sc (xs : List Int32) (j : Nat) : Int32 := xs.getD j 0
theorem al_x {xs : List Int32} {j : Nat} {K : Value → Option MR} (h : j < xs.length) (hn : xs.length ≤ 2560) : alK (20, xs.map Value.int) 20 (nI j) K = K (.int (sc xs j)) := by
  unfold alK
  rw [if_pos ⟨rfl, by rw [List.length_map]; exact inb_k h (by omega)⟩, nI_clamp (by omega)]
  simp [h, sc, List.getD_eq_getElem?_getD]
theorem al_q {r : Int64} {K : Value → Option MR} : alK (21, [.long r]) 21 0 K = K (.long r) := rfl
theorem lcx (x : Int64) : lg_cmp x x = 0 := (lg_cmp_eq x x).mpr rfl
section LW
variable {xs : List Int32} {B d th : Nat} {σ σ' : AS} {O O' : List Nat} {h h1 : MH} {w t : MH → Option MR}
theorem TW.frC (T : TW th σ h) (F : FrC h h1) : TW th σ h1 := by
  obtain ⟨at_, wr, ic, op, mo, hmo, hM, a17, a18, a19, a20, a21, a22, a23, a24, a25, a26, a27, a28, a29, a30, a31, a32, a33⟩ := T
  refine ⟨at_, wr, ic, op, mo, hmo, (F.1 16 (by omega)).trans hM, ?_⟩
  exact ⟨(F.1 17 (by omega)).trans a17, (F.1 18 (by omega)).trans a18, (F.1 19 (by omega)).trans a19, (F.1 20 (by omega)).trans a20, (F.1 21 (by omega)).trans a21, (F.1 22 (by omega)).trans a22, (F.1 23 (by omega)).trans a23, (F.1 24 (by omega)).trans a24, (F.1 25 (by omega)).trans a25, (F.1 26 (by omega)).trans a26, (F.1 27 (by omega)).trans a27, (F.1 28 (by omega)).trans a28, (F.1 29 (by omega)).trans a29, (F.1 30 (by omega)).trans a30, (F.1 31 (by omega)).trans a31, (F.1 32 (by omega)).trans a32, (F.1 33 (by omega)).trans a33⟩
theorem CP.frT (H : CP σ O h) (F : FrT h h1) : CP σ O h1 := by
  obtain ⟨rr, er, es, ep, ra, sa, pa, ⟨k1, ⟨ap, pl, k2⟩, k3, ⟨v0, v1, v2, v3, k4⟩, k5, k6, k7, k8, k9, o, k10⟩, H2⟩ := H
  have hN := H2.1
  have h35 := H2.2.1
  have e2 : h1.2.1 = h.2.1 := by rw [F.1]
  refine ⟨rr, er, es, ep, ra, sa, pa, ?_, H2.keep (fun b hb => ?_) (by omega) (fun b hb _ => F.2 b (by omega)) (fun _ _ _ => rfl)⟩
  · exact ⟨(F.2 5 (by omega)).trans k1, ⟨ap, pl, (F.2 9 (by omega)).trans k2⟩, (F.2 10 (by omega)).trans k3, ⟨v0, v1, v2, v3, (F.2 11 (by omega)).trans k4⟩, (F.2 rr (by omega)).trans k5, k6, (F.2 13 (by omega)).trans k7, (F.2 14 (by omega)).trans k8, (F.2 15 (by omega)).trans k9, o, (F.2 34 (by omega)).trans k10⟩
  · rw [e2] at hb
    rw [F.2 b (by omega)]
    exact hN b hb
/-- what holds between two operations -/
def LI (xs : List Int32) (B : Nat) (σ : AS) (O : List Nat) (h : MH) : Prop := CP σ O h ∧ (∃ th, TW th σ h) ∧ h.1 0 = (20, xs.map Value.int) ∧ GD B σ O
theorem TW.tag (T : TW th σ h) : ∃ l, h.1 16 = (6, l) := by
  obtain ⟨at_, wr, ic, op, mo, hmo, hM, -⟩ := T
  exact ⟨_, hM⟩
theorem CP.tag (H : CP σ O h) : ∃ l, h.1 5 = (0, l) := by
  obtain ⟨rr, hM⟩ := H.c5
  exact ⟨_, hM⟩
theorem FrT.b (F : FrT h h1) {a b : Nat} (h2 : h.2.1 ≤ a) (h3 : h.2.2 ≤ b) : h1.2.1 ≤ a ∧ h1.2.2 ≤ b := by rw [F.1]; exact ⟨h2, h3⟩
theorem OI.go (Q : OI w t B σ O) (L : LI xs B σ O h) : ∃ (k : Nat) (x : Int32) (h1 h2 : MH) (σ' : AS) (O' : List Nat), k ≤ 3 ∧ w h = some (.inl (some (.int (nI k))), h1) ∧ t h1 = some (.inl (some (.int x)), h2) ∧ (∀ d, run d 72 0 [.ref 16] [] h2 = some (.inl (some (.int (nI k))), h2)) ∧ (k = 0 → h2.1 34 = (21, [.long x.toInt64])) ∧ h1.1 0 = (20, xs.map Value.int) ∧ h2.1 0 = (20, xs.map Value.int) ∧ (∃ l, h1.1 16 = (6, l)) ∧ (∃ l, h2.1 16 = (6, l)) ∧ LI xs (B + 1000000) σ' O' h2 ∧ h2.2.1 ≤ h.2.1 + 5 ∧ h2.2.2 ≤ h.2.2 + 1000 := by
  obtain ⟨k, kk, x, r, σ', O', rfl, hk, rfl, hw, ht, G⟩ := Q
  obtain ⟨L1, ⟨th, L2⟩, L3, L4⟩ := L
  obtain ⟨o1, h1, e1, rfl, H1, F1, q1⟩ := hw h L1
  have T1 := L2.frC F1
  obtain ⟨o2, h2, e2, rfl, T2, F2⟩ := ht th h1 T1
  have z1 := (F1.1 0 (by omega)).trans L3
  have z2 := (F2.2 0 (by omega)).trans z1
  obtain ⟨b1, b2⟩ := F2.b F1.2.2.1 F1.2.2.2
  exact ⟨k, x, h1, h2, σ', O', hk, e1, e2, fun d => t_thrown T2, fun q => (F2.2 34 (by omega)).trans (q1 (by rw [q]; rfl)), z1, z2, T1.tag, T2.tag, ⟨H1.frT F2, ⟨k, T2⟩, z2, G⟩, b1, b2⟩
theorem OB.go (Q : OB w t B σ O) (L : LI xs B σ O h) : ∃ (k : Nat) (x : Bool) (h1 h2 : MH) (σ' : AS) (O' : List Nat), k ≤ 3 ∧ w h = some (.inl (some (.int (nI k))), h1) ∧ t h1 = some (.inl (some (.int (b2i x))), h2) ∧ (∀ d, run d 72 0 [.ref 16] [] h2 = some (.inl (some (.int (nI k))), h2)) ∧ (k = 0 → h2.1 34 = (21, [.long (if x = true then 1 else 0)])) ∧ h1.1 0 = (20, xs.map Value.int) ∧ h2.1 0 = (20, xs.map Value.int) ∧ (∃ l, h1.1 16 = (6, l)) ∧ (∃ l, h2.1 16 = (6, l)) ∧ LI xs (B + 1000000) σ' O' h2 ∧ h2.2.1 ≤ h.2.1 + 5 ∧ h2.2.2 ≤ h.2.2 + 1000 := by
  obtain ⟨k, kk, x, r, σ', O', rfl, hk, rfl, hw, ht, G⟩ := Q
  obtain ⟨L1, ⟨th, L2⟩, L3, L4⟩ := L
  obtain ⟨o1, h1, e1, rfl, H1, F1, q1⟩ := hw h L1
  have T1 := L2.frC F1
  obtain ⟨o2, h2, e2, rfl, T2, F2⟩ := ht th h1 T1
  have z1 := (F1.1 0 (by omega)).trans L3
  have z2 := (F2.2 0 (by omega)).trans z1
  obtain ⟨b1, b2⟩ := F2.b F1.2.2.1 F1.2.2.2
  exact ⟨k, x, h1, h2, σ', O', hk, e1, e2, fun d => t_thrown T2, fun q => (F2.2 34 (by omega)).trans (q1 (by rw [q]; rfl)), z1, z2, T1.tag, T2.tag, ⟨H1.frT F2, ⟨k, T2⟩, z2, G⟩, b1, b2⟩
theorem OL.go (Q : OL w t B σ O) (L : LI xs B σ O h) : ∃ (k : Nat) (x : Int64) (h1 h2 : MH) (σ' : AS) (O' : List Nat), k ≤ 3 ∧ w h = some (.inl (some (.int (nI k))), h1) ∧ t h1 = some (.inl (some (.long x)), h2) ∧ (∀ d, run d 72 0 [.ref 16] [] h2 = some (.inl (some (.int (nI k))), h2)) ∧ (k = 0 → h2.1 34 = (21, [.long x])) ∧ h1.1 0 = (20, xs.map Value.int) ∧ h2.1 0 = (20, xs.map Value.int) ∧ (∃ l, h1.1 16 = (6, l)) ∧ (∃ l, h2.1 16 = (6, l)) ∧ LI xs (B + 1000000) σ' O' h2 ∧ h2.2.1 ≤ h.2.1 + 5 ∧ h2.2.2 ≤ h.2.2 + 1000 := by
  obtain ⟨k, kk, x, σ', O', rfl, hk, hw, ht, G⟩ := Q
  obtain ⟨L1, ⟨th, L2⟩, L3, L4⟩ := L
  obtain ⟨o1, h1, e1, rfl, H1, F1, q1⟩ := hw h L1
  have T1 := L2.frC F1
  obtain ⟨o2, h2, e2, rfl, T2, F2⟩ := ht th h1 T1
  have z1 := (F1.1 0 (by omega)).trans L3
  have z2 := (F2.2 0 (by omega)).trans z1
  obtain ⟨b1, b2⟩ := F2.b F1.2.2.1 F1.2.2.2
  exact ⟨k, x, h1, h2, σ', O', hk, e1, e2, fun d => t_thrown T2, fun q => (F2.2 34 (by omega)).trans (q1 (by rw [q]; rfl)), z1, z2, T1.tag, T2.tag, ⟨H1.frT F2, ⟨k, T2⟩, z2, G⟩, b1, b2⟩
theorem OQ.go (Q : OQ w t B σ O) (L : LI xs B σ O h) : ∃ (x : Int32) (h1 h2 : MH) (σ' : AS) (O' : List Nat), w h = some (.inl (some (.int x)), h1) ∧ t h1 = some (.inl (some (.int x)), h2) ∧ (∃ l, h.1 5 = (0, l)) ∧ h1.1 0 = (20, xs.map Value.int) ∧ (∃ l, h1.1 16 = (6, l)) ∧ LI xs (B + 1000000) σ' O' h2 ∧ h2.2.1 ≤ h.2.1 + 5 ∧ h2.2.2 ≤ h.2.2 + 1000 := by
  obtain ⟨x, σ', O', hw, ht, G⟩ := Q
  obtain ⟨L1, ⟨th, L2⟩, L3, L4⟩ := L
  obtain ⟨o1, h1, e1, rfl, H1, F1⟩ := hw h L1
  have T1 := L2.frC F1
  obtain ⟨o2, h2, e2, rfl, T2, F2⟩ := ht th h1 T1
  have z1 := (F1.1 0 (by omega)).trans L3
  have z2 := (F2.2 0 (by omega)).trans z1
  obtain ⟨b1, b2⟩ := F2.b F1.2.2.1 F1.2.2.2
  exact ⟨x, h1, h2, σ', O', e1, e2, L1.tag, z1, T1.tag, ⟨H1.frT F2, ⟨0, T2⟩, z2, G⟩, b1, b2⟩
theorem OF.go (Q : OF w t B σ O) (L : LI xs B σ O h) : ∃ (k : Nat) (h1 h2 : MH) (σ' : AS) (O' : List Nat), k ≤ 3 ∧ w h = some (.inl (some (.int (nI k))), h1) ∧ t h1 = some (.inl none, h2) ∧ (∀ d, run d 72 0 [.ref 16] [] h2 = some (.inl (some (.int (nI k))), h2)) ∧ h1.1 0 = (20, xs.map Value.int) ∧ (∃ l, h1.1 16 = (6, l)) ∧ (∃ l, h2.1 16 = (6, l)) ∧ LI xs (B + 1000000) σ' O' h2 ∧ h2.2.1 ≤ h.2.1 + 5 ∧ h2.2.2 ≤ h.2.2 + 1000 := by
  obtain ⟨k, kk, σ', O', rfl, hk, hw, ht, G⟩ := Q
  obtain ⟨L1, ⟨th, L2⟩, L3, L4⟩ := L
  obtain ⟨o1, h1, e1, rfl, H1, F1⟩ := hw h L1
  have T1 := L2.frC F1
  obtain ⟨o2, h2, e2, rfl, T2, F2⟩ := ht th h1 T1
  have z1 := (F1.1 0 (by omega)).trans L3
  have z2 := (F2.2 0 (by omega)).trans z1
  obtain ⟨b1, b2⟩ := F2.b F1.2.2.1 F1.2.2.2
  exact ⟨k, h1, h2, σ', O', hk, e1, e2, fun d => t_thrown T2, z1, T1.tag, T2.tag, ⟨H1.frT F2, ⟨k, T2⟩, z2, G⟩, b1, b2⟩
end LW
