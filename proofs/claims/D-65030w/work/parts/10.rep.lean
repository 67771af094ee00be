/-! SOUNDNESS OF THE MINI MACHINE, 1: its picture of the heap against the machine's heap -/
/-- ghosts: the law's first state, the script's address, the old cells' addresses, the classes' numbers and slots, the array classes, the exceptions' classes and field types, the script -/
abbrev Gh : Type := State × Nat × (Nat → Nat) × va_G × (Nat → ClassId) × (Nat → ClassId) × (Nat → Array FieldType) × List Int32
abbrev g_s (G : Gh) : State := G.1
abbrev g_b (G : Gh) : Nat := G.2.1
abbrev g_r (G : Gh) : Nat → Nat := G.2.2.1
abbrev g_D (G : Gh) : va_G := G.2.2.2.1
abbrev g_A (G : Gh) : Nat → ClassId := G.2.2.2.2.1
abbrev g_E (G : Gh) : Nat → ClassId := G.2.2.2.2.2.1
abbrev g_T (G : Gh) : Nat → Array FieldType := G.2.2.2.2.2.2.1
abbrev g_x (G : Gh) : List Int32 := G.2.2.2.2.2.2.2
abbrev b0 (G : Gh) : Nat := (g_s G).heap.size
def adr (G : Gh) (a : Nat) : Nat := if a < 5 then g_r G a else b0 G + (a - 5)
def tr (G : Gh) (v : Value) : Value := match v with | .ref a => .ref (adr G a) | v => v
/-- the old cells -/
def oldc (xs : List Int32) (a : Nat) : MO := match a with
  | 0 => (20, xs.map .int)
  | 1 => (24, [])
  | 2 => (8, [.ref 3, .int 0])
  | 3 => (23, [.int 67, .int 76, .int 71, .int 87])
  | _ => (50, [])
def mat (G : Gh) (a : Nat) (o : MO) (H : Heap) : Prop :=
  (o.1 < 8 ∧ o.2.length = NF o.1 ∧ t_OB (adr G a) ((g_D G).1 o.1) (NF o.1) ((g_D G).2 o.1) H (vp_V (o.2.map (tr G)))) ∨
  (20 ≤ o.1 ∧ o.1 ≤ 24 ∧ H[adr G a]? = some { cls := g_A G o.1, slots := (o.2.map (tr G)).toArray, vm := .none }) ∨
  (30 ≤ o.1 ∧ o.1 < 33 ∧ o.2.length = 6 ∧ H[adr G a]? = some { cls := g_E G (o.1 - 30), slots := (g_T G (o.1 - 30)).map defaultValue, vm := .none }) ∨
  (40 ≤ o.1 ∧ o.1 < 43 ∧ ∃ cell : Cell, H[adr G a]? = some cell ∧ cell.cls = g_E G (o.1 - 40) ∧ cell.vm.isStatics = false)
def Rep (G : Gh) (h : MH) (H : Heap) : Prop :=
  5 ≤ h.2.1 ∧ H.size = b0 G + (h.2.1 - 5) ∧ (∀ a, 5 ≤ a → a < h.2.1 → mat G a (h.1 a) H) ∧ (∀ a, h.2.1 ≤ a → (h.1 a).1 = 99) ∧ (∀ q : Nat, q < b0 G → H[q]? = (g_s G).heap[q]?) ∧ ∀ a, a < 5 → h.1 a = oldc (g_x G) a
section REP
variable {G : Gh} {h : MH} {H H' : Heap}
theorem adr_new {a : Nat} (ha : 5 ≤ a) : adr G a = b0 G + (a - 5) := if_neg (by omega)
theorem adr_old {a : Nat} (ha : a < 5) : adr G a = g_r G a := if_pos ha
theorem adr_inj {a b : Nat} (ha : 5 ≤ a) (hb : 5 ≤ b) (e : adr G a = adr G b) : a = b := by rw [adr_new ha, adr_new hb] at e; omega
theorem mat_kept {a : Nat} {o : MO} (h1 : mat G a o H) (e : H'[adr G a]? = H[adr G a]?) : mat G a o H' := by
  rcases h1 with ⟨q1, q2, q3⟩ | ⟨q1, q2, q3⟩ | ⟨q1, q2, q4, q3⟩ | ⟨q1, q2, cell, q3, q4⟩
  · exact Or.inl ⟨q1, q2, q3.kept e⟩
  · exact Or.inr (Or.inl ⟨q1, q2, e.trans q3⟩)
  · exact Or.inr (Or.inr (Or.inl ⟨q1, q2, q4, e.trans q3⟩))
  · exact Or.inr (Or.inr (Or.inr ⟨q1, q2, cell, e.trans q3, q4⟩))
theorem Rep.lt (hR : Rep G h H) {a : Nat} (ht : (h.1 a).1 ≠ 99) : a < h.2.1 := by
  rcases Nat.lt_or_ge a h.2.1 with q | q
  · exact q
  · exact absurd (hR.2.2.2.1 a q) ht
theorem Rep.put (hR : Rep G h H) {a : Nat} {o : MO} (ha : 5 ≤ a) (hl : a < h.2.1) (hm : mat G a o H') (hz : H'.size = H.size) (ho : ∀ q, q ≠ adr G a → H'[q]? = H[q]?) : Rep G (hput h a o) H' := by
  obtain ⟨r1, r2, r3, r4, r5, r6⟩ := hR
  refine ⟨r1, hz.trans r2, fun b h1 h2 => ?_, fun b h1 => ?_, fun q hq => ?_, fun b hb => ?_⟩
  · by_cases hba : b = a
    · subst hba
      have e : (hput h b o).1 b = o := by simp [hput]
      rw [e]; exact hm
    · have e : (hput h a o).1 b = h.1 b := by simp [hput, hba]
      rw [e]
      exact mat_kept (r3 b h1 h2) (ho _ (fun z => hba (adr_inj h1 ha z)))
  · have h1' : h.2.1 ≤ b := h1
    have e : (hput h a o).1 b = h.1 b := by simp [hput, show ¬ b = a by omega]
    rw [e]; exact r4 b h1
  · rw [ho q (by rw [adr_new ha]; omega)]; exact r5 q hq
  · have e : (hput h a o).1 b = h.1 b := by simp [hput, show ¬ b = a by omega]
    rw [e]; exact r6 b hb
theorem Rep.new (hR : Rep G h H) {o : MO} (hm : mat G h.2.1 o H') (hz : H'.size = H.size + 1) (ho : ∀ q, q < H.size → H'[q]? = H[q]?) : Rep G (hnew h o) H' := by
  obtain ⟨r1, r2, r3, r4, r5, r6⟩ := hR
  refine ⟨show 5 ≤ h.2.1 + 1 by omega, ?_, fun b h1 h2 => ?_, fun b h1 => ?_, fun q hq => ?_, fun b hb => ?_⟩
  · show H'.size = b0 G + (h.2.1 + 1 - 5)
    omega
  · have h2 : b < h.2.1 + 1 := h2
    by_cases hba : b = h.2.1
    · subst hba
      have e : (hnew h o).1 h.2.1 = o := by simp [hnew]
      rw [e]; exact hm
    · have e : (hnew h o).1 b = h.1 b := by simp [hnew, hba]
      rw [e]
      exact mat_kept (r3 b h1 (by omega)) (ho _ (by rw [adr_new h1]; omega))
  · have h1' : h.2.1 + 1 ≤ b := h1
    have e : (hnew h o).1 b = h.1 b := by simp [hnew, show ¬ b = h.2.1 by omega]
    rw [e]; exact r4 b (by omega)
  · rw [ho q (by omega)]; exact r5 q hq
  · have e : (hnew h o).1 b = h.1 b := by simp [hnew, show ¬ b = h.2.1 by omega]
    rw [e]; exact r6 b hb
theorem Rep.nextAt (hR : Rep G h H) : adr G h.2.1 = H.size := by rw [adr_new hR.1, hR.2.1]
theorem old_tag (xs : List Int32) (a : Nat) : (oldc xs a).1 = 20 ∨ (oldc xs a).1 = 24 ∨ (oldc xs a).1 = 8 ∨ (oldc xs a).1 = 23 ∨ (oldc xs a).1 = 50 := by
  unfold oldc; split <;> simp
theorem Rep.mat (hR : Rep G h H) {a : Nat} (ha : 5 ≤ a) (ht : (h.1 a).1 ≠ 99) : mat G a (h.1 a) H := hR.2.2.1 a ha (hR.lt ht)
/-- an object of a class -/
theorem Rep.obj (hR : Rep G h H) {a t : Nat} (ht : (h.1 a).1 = t) (h8 : t < 8) : 5 ≤ a ∧ a < h.2.1 ∧ (h.1 a).2.length = NF t ∧ t_OB (adr G a) ((g_D G).1 t) (NF t) ((g_D G).2 t) H (vp_V ((h.1 a).2.map (tr G))) := by
  have hl : a < h.2.1 := hR.lt (by omega)
  have h5 : 5 ≤ a := by
    rcases Nat.lt_or_ge a 5 with q | q
    · have := old_tag (g_x G) a
      rw [← hR.2.2.2.2.2 a q] at this
      omega
    · exact q
  refine ⟨h5, hl, ?_⟩
  rcases hR.2.2.1 a h5 hl with ⟨q1, q2, q3⟩ | ⟨q1, q2, q3⟩ | ⟨q1, q2, q4, q3⟩ | ⟨q1, q2, cell, q3, q4⟩
  · rw [ht] at q2 q3; exact ⟨q2, q3⟩
  · omega
  · omega
  · omega
/-- a new array -/
theorem Rep.arr (hR : Rep G h H) {a t : Nat} (ha : 5 ≤ a) (ht : (h.1 a).1 = t) (h20 : 20 ≤ t ∧ t ≤ 24) : a < h.2.1 ∧ H[adr G a]? = some { cls := g_A G t, slots := ((h.1 a).2.map (tr G)).toArray, vm := .none } := by
  have hl : a < h.2.1 := hR.lt (by omega)
  refine ⟨hl, ?_⟩
  rcases hR.2.2.1 a ha hl with ⟨q1, q2, q3⟩ | ⟨q1, q2, q3⟩ | ⟨q1, q2, q4, q3⟩ | ⟨q1, q2, cell, q3, q4⟩
  · omega
  · rw [ht] at q3; exact q3
  · omega
  · omega
end REP
/-! the locals -/
def lrel (G : Gh) (ls : Array Slot) (L : List Value) : Prop := ls.size = L.length ∧ lv_wf ls ∧ ∀ (k : Nat) (v : Value), L[k]? = some v → v ≠ .null → ls[k]? = some (.val (tr G v))
def lof (G : Gh) (L : List Value) : List (Nat × Value) := (List.range L.length).filterMap (fun (k : Nat) => match (L[k]? : Option Value) with | some Value.null => none | some v => some (k, tr G v) | none => none)
section LOC
variable {G : Gh} {ls : Array Slot} {L : List Value}
theorem lof_mem {k : Nat} {w : Value} : (k, w) ∈ lof G L ↔ ∃ v, L[k]? = some v ∧ v ≠ .null ∧ w = tr G v := by
  unfold lof
  rw [List.mem_filterMap]
  constructor
  · rintro ⟨j, -, hj⟩
    cases hv : L[j]? with
    | none => simp [hv] at hj
    | some v =>
      rw [hv] at hj
      cases v with
      | null => simp at hj
      | _ =>
        simp only [Option.some.injEq, Prod.mk.injEq] at hj
        obtain ⟨rfl, rfl⟩ := hj
        exact ⟨_, hv, by simp, rfl⟩
  · rintro ⟨v, hv, hn, rfl⟩
    refine ⟨k, List.mem_range.mpr (List.getElem?_eq_some_iff.mp hv).1, ?_⟩
    rw [hv]
    cases v <;> first | rfl | exact absurd rfl hn
theorem lrel.has (hl : lrel G ls L) : lv_has ls L.length (lof G L) := ⟨hl.1, hl.2.1, fun q hq => by
  obtain ⟨k, w⟩ := q
  obtain ⟨v, h1, h2, rfl⟩ := lof_mem.mp hq
  exact hl.2.2 k v h1 h2⟩
theorem tr_cat {v : Value} : (tr G v).category = v.category := by cases v <;> rfl
theorem nlg_cat {v : Value} (h : nlg v = true) : v.category = 1 := by cases v <;> first | rfl | (simp [nlg] at h)
theorem okp_cat {k : Nat} {v : Value} (h : okp L (k + 1) = true) (hv : L[k]? = some v) : v.category = 1 := by
  simp only [okp, hv] at h
  exact nlg_cat h
theorem lrel.st1 {k : Nat} {v : Value} (ho : okp L k = true) (hk : k < L.length) {ls' : Array Slot} (h : lv_has ls' L.length ((k, tr G v) :: (lof G L).filter (fun q => !(q.1 == k) && !(q.1 + 1 == k && q.2.category == 2)))) : lrel G ls' (L.set k v) := by
  refine ⟨by rw [List.length_set]; exact h.1, h.2.1, fun j w hj hn => ?_⟩
  by_cases e : j = k
  · subst e
    rw [List.getElem?_set_self hk] at hj
    cases hj
    exact h.2.2 (j, tr G v) List.mem_cons_self
  · rw [List.getElem?_set_ne (Ne.symm e)] at hj
    refine h.2.2 (j, tr G w) (List.mem_cons_of_mem _ (List.mem_filter.mpr ⟨lof_mem.mpr ⟨w, hj, hn, rfl⟩, ?_⟩))
    have h2 : ¬ (j + 1 = k ∧ (tr G w).category = 2) := by
      rintro ⟨rfl, hc⟩
      rw [tr_cat, okp_cat ho hj] at hc
      cases hc
    simp only [Bool.and_eq_true, Bool.not_eq_true', beq_eq_false_iff_ne, ne_eq]
    refine ⟨e, ?_⟩
    cases hz : (j + 1 == k && (tr G w).category == 2) with
    | false => rfl
    | true =>
      simp only [Bool.and_eq_true, beq_iff_eq] at hz
      exact absurd hz h2
theorem lrel.st2 {k : Nat} {v : Value} (ho : okp L k = true) (hk : k + 1 < L.length) {ls' : Array Slot} (h : lv_has ls' L.length ((k, tr G v) :: (lof G L).filter (fun q => !(q.1 == k) && (!(q.1 == k + 1) && !(q.1 + 1 == k && q.2.category == 2))))) : lrel G ls' ((L.set k v).set (k + 1) .null) := by
  refine ⟨by rw [List.length_set, List.length_set]; exact h.1, h.2.1, fun j w hj hn => ?_⟩
  by_cases e1 : j = k + 1
  · subst e1
    rw [List.getElem?_set_self (by rw [List.length_set]; exact hk)] at hj
    cases hj
    exact absurd rfl hn
  · rw [List.getElem?_set_ne (Ne.symm e1)] at hj
    by_cases e : j = k
    · subst e
      rw [List.getElem?_set_self (by omega)] at hj
      cases hj
      exact h.2.2 (j, tr G v) List.mem_cons_self
    · rw [List.getElem?_set_ne (Ne.symm e)] at hj
      refine h.2.2 (j, tr G w) (List.mem_cons_of_mem _ (List.mem_filter.mpr ⟨lof_mem.mpr ⟨w, hj, hn, rfl⟩, ?_⟩))
      have h2 : ¬ (j + 1 = k ∧ (tr G w).category = 2) := by
        rintro ⟨rfl, hc⟩
        rw [tr_cat, okp_cat ho hj] at hc
        cases hc
      simp only [Bool.and_eq_true, Bool.not_eq_true', beq_eq_false_iff_ne, ne_eq]
      refine ⟨e, e1, ?_⟩
      cases hz : (j + 1 == k && (tr G w).category == 2) with
      | false => rfl
      | true =>
        simp only [Bool.and_eq_true, beq_iff_eq] at hz
        exact absurd hz h2
end LOC
