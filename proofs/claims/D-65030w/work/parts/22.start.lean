/-! SOUNDNESS, 12: what is known at the law's start -/
def ixi : List (Nat × Nat) := [(12, 54), (4, 88), (4, 110), (5, 458), (4, 663), (2, 929), (29, 984), (3, 62), (4, 403)]
set_option maxRecDepth 100000 in
theorem ichk_ok : allz (fun t q => wat (.instantiable (on t) q.1) q.2) (List.range 9) ixi = true := by decide +kernel
def ixv : List Nat := [421, 439, 289]
set_option maxRecDepth 100000 in
theorem vchk2_ok : allz (fun k q => wat (.instantiable (en k) 6) q) (List.range 3) ixv = true := by decide +kernel
def fl1 : List Jvm.Cond := flatC (Jvm.Cond.and given_1 narrow_1)
def fat (w : Jvm.Cond) (n : Nat) : Bool := decide (fl1[n]? = some w)
theorem fat_mem {w : Jvm.Cond} {n : Nat} (h : fat w n = true) : w ∈ fl1 := List.mem_of_getElem? (of_decide_eq_true h)
def nck : List ((Nat × Nat) × Nat) := [((0, 2), 227), ((1, 2), 228), ((1, 0), 239), ((2, 0), 240), ((0, 1), 252), ((2, 1), 253)]
set_option maxRecDepth 100000 in
theorem nck_ok : nck.all (fun q => fat (.not (.castable (en q.1.1) (en q.1.2))) q.2) = true := by decide +kernel
abbrev tE : Term := .static "java/util/ArrayList" "DEFAULTCAPACITY_EMPTY_ELEMENTDATA" "[Ljava/lang/Object;"
abbrev tS : Term := .string "RopeClosures$Reader" 36
abbrev tV : Term := .field (.string "RopeClosures$Reader" 36) "java/lang/String" "value" "[B"
set_option maxRecDepth 100000 in
theorem f_eo : Jvm.Cond.arrayOf tE (.object "java/lang/Object") ∈ fl1 := fat_mem (n := 5) (by decide +kernel)
set_option maxRecDepth 100000 in
theorem f_el : Jvm.Cond.eq (.length tE) (.int 0) ∈ fl1 := fat_mem (n := 7) (by decide +kernel)
set_option maxRecDepth 100000 in
theorem f_cs : Jvm.Cond.eq (.static "java/lang/String" "COMPACT_STRINGS" "Z") (.int 1) ∈ fl1 := fat_mem (n := 8) (by decide +kernel)
set_option maxRecDepth 100000 in
theorem f_un : Jvm.Cond.isRef (.static "java/lang/Throwable" "UNASSIGNED_STACK" "[Ljava/lang/StackTraceElement;") ∈ fl1 := fat_mem (n := 13) (by decide +kernel)
set_option maxRecDepth 100000 in
theorem f_se : Jvm.Cond.isRef (.static "java/lang/Throwable" "SUPPRESSED_SENTINEL" "Ljava/util/List;") ∈ fl1 := fat_mem (n := 14) (by decide +kernel)
set_option maxRecDepth 100000 in
theorem f_mi : Jvm.Cond.isRef (.mirror "[Ljava/lang/Object;") ∈ fl1 := fat_mem (n := 259) (by decide +kernel)
set_option maxRecDepth 100000 in
theorem f_s0 : Jvm.Cond.exactly tS "java/lang/String" ∈ fl1 := fat_mem (n := 260) (by decide +kernel)
set_option maxRecDepth 100000 in
theorem f_s1 : Jvm.Cond.eq (.field tS "java/lang/String" "coder" "B") (.int 0) ∈ fl1 := fat_mem (n := 261) (by decide +kernel)
set_option maxRecDepth 100000 in
theorem f_s2 : Jvm.Cond.arrayOf tV .byte ∈ fl1 := fat_mem (n := 262) (by decide +kernel)
set_option maxRecDepth 100000 in
theorem f_s3 : Jvm.Cond.eq (.length tV) (.int 4) ∈ fl1 := fat_mem (n := 263) (by decide +kernel)
set_option maxRecDepth 100000 in
theorem f_b0 : Jvm.Cond.eq (.elem tV (.int 0)) (.int 67) ∈ fl1 := fat_mem (n := 264) (by decide +kernel)
set_option maxRecDepth 100000 in
theorem f_b1 : Jvm.Cond.eq (.elem tV (.int 1)) (.int 76) ∈ fl1 := fat_mem (n := 265) (by decide +kernel)
set_option maxRecDepth 100000 in
theorem f_b2 : Jvm.Cond.eq (.elem tV (.int 2)) (.int 71) ∈ fl1 := fat_mem (n := 266) (by decide +kernel)
set_option maxRecDepth 100000 in
theorem f_b3 : Jvm.Cond.eq (.elem tV (.int 3)) (.int 87) ∈ fl1 := fat_mem (n := 267) (by decide +kernel)
theorem w_le : Jvm.Cond.laysStatic "java/util/ArrayList" "DEFAULTCAPACITY_EMPTY_ELEMENTDATA" "[Ljava/lang/Object;" ∈ lw_tbl := wat_mem (n := 74) (by decide +kernel)
theorem w_lc : Jvm.Cond.laysStatic "java/lang/String" "COMPACT_STRINGS" "Z" ∈ lw_tbl := wat_mem (n := 211) (by decide +kernel)
theorem w_ie : Jvm.Cond.initialized "java/util/ArrayList" ∈ lw_tbl := wat_mem (n := 26) (by decide +kernel)
theorem w_is : Jvm.Cond.initialized "java/lang/String" ∈ lw_tbl := wat_mem (n := 35) (by decide +kernel)
theorem w_sr : Jvm.Cond.stringRef "RopeClosures$Reader" 36 "CLGW" ∈ lw_tbl := wat_mem (n := 193) (by decide +kernel)
theorem acl_of {G : Gh} {t : Nat} {vs : List Value} {q : Nat} {ty : FieldType} {N : Nat} {f : Nat → Value} {A : Nat → Prop} (hT : va_T ty q N f A (g_s G) (g_s G).heap) (e1 : aty t = ty) (e2 : vs.length = N) (hv : ∀ j, j < N → vs[j]? = some (f j)) (htr : ∀ j, j < N → tr G (f j) = f j) : acl G t vs q (g_s G).heap := by
  obtain ⟨cell, h1, h2, h3, h4, h5, h6, -⟩ := hT
  refine ⟨cell, h1, by rw [e1]; exact h2, h3, by rw [e2]; exact h4, by rw [e2]; exact h5, fun j v hj => ?_⟩
  have hlt : j < N := by rw [← e2]; exact (List.getElem?_eq_some_iff.mp hj).1
  rw [hv j hlt] at hj
  cases hj
  rw [htr j hlt]
  exact h6 j hlt
theorem base0 {l : Launch} {s : State} {b L : Nat} {xs : Nat → Int32} (hfl : l.flags = pinnedFlags ++ [noTraceFlag]) (hL : L ≤ 2560) (hts : ∀ w ∈ lw_tbl, w.before #[Value.ref b] s = true) (hX : va_X b L xs s s.heap) (hg : (Jvm.Cond.and given_1 narrow_1).before #[Value.ref b] s = true) :
    ∃ G : Gh, g_s G = s ∧ g_r G 0 = b ∧ g_x G = (List.range L).map xs ∧ Base l G := by
  have hf : ∀ w ∈ fl1, w.before #[Value.ref b] s = true := flat_of_before _ hg
  have hA : ∀ a : Nat, a < s.heap.size → ¬ (s.heap.size ≤ a) := fun a h => Nat.not_le.mpr h
  have hcl : ∀ t, ∃ q : ClassId × (Nat → Nat), t < 9 → u_Kn s (on t) (FT t) (NF t) q.1 q.2 := by
    intro t
    by_cases ht : t < 9
    · obtain ⟨q, hq⟩ := allz_mem ichk_ok t (List.mem_range.mpr ht)
      obtain ⟨cC, iS, h⟩ := u_known (T := FT t) (N := NF t) hts (fun w hw => (o_words ht w hw).1) (hts _ (wat_mem hq))
      exact ⟨(cC, iS), fun _ => h⟩
    · exact ⟨(0, fun _ => 0), fun h => absurd h ht⟩
  obtain ⟨D, hD⟩ := Classical.axiomOfChoice hcl
  have har : ∀ ty, (Jvm.Cond.arrayClass ty).before #[Value.ref b] s = true → (∀ n, ty ≠ .object n) → ∃ cA, ArrOfT s cA ty ∧ va_RA s cA ty := by
    intro ty h hn
    obtain ⟨c, k, comp, h1, h2, h3⟩ := Cond.arrayClass_spec h
    refine ⟨c, fun n z => ⟨fun q hq => (by cases hq), k, h2, comp, h3⟩, ?_⟩
    cases ty with
    | object n => exact absurd rfl (hn n)
    | _ => exact h1
  obtain ⟨cI, hI⟩ := har .int (hts _ w_ai) (fun n h => by cases h)
  obtain ⟨cJ, hJ⟩ := har .long (hts _ w_al) (fun n h => by cases h)
  obtain ⟨cC, hC⟩ := har .char (hts _ w_ac) (fun n h => by cases h)
  obtain ⟨cB, hB⟩ := har .byte (hts _ w_ab) (fun n h => by cases h)
  obtain ⟨comp, cO, kO, o1, o2, o3, o4, o5⟩ := Cond.arrayOver_spec (hts _ w_ao)
  have hex : ∀ k, ∃ q : ClassId × Array FieldType, k < 3 → s.vm.findClass (en k) = some q.1 ∧ ∃ kX : Class, s.vm.classes[q.1]? = some kX ∧ kX.instanceTypes = q.2 ∧ q.2.size = 6 := by
    intro k
    by_cases hk : k < 3
    · obtain ⟨q, hq⟩ := allz_mem vchk2_ok k (List.mem_range.mpr hk)
      obtain ⟨c1, kX, h1, h2, h3, -, -, h6⟩ := Cond.instantiable_spec (hts _ (wat_mem hq))
      exact ⟨(c1, kX.instanceTypes), fun _ => ⟨h1, kX, h2, rfl, h6⟩⟩
    · exact ⟨(0, #[]), fun h => absurd h hk⟩
  obtain ⟨E, hE⟩ := Classical.axiomOfChoice hex
  obtain ⟨aE, hEv, hET⟩ := va_Tof (f := fun _ => .null) (N := 0) (A := fun q => s.heap.size ≤ q) (by decide) (hf _ f_eo) (va_eqt (hf _ f_el)) (fun j hj => absurd hj (Nat.not_lt_zero j)) hA
  obtain ⟨aS, cS, cellS, kS, s1, s2, s3, s4, s5, s6, -⟩ := Cond.exactly_spec (args := #[Value.ref b]) (first := s) (o := none) (s := s) (idx := []) (t := tS) (hf _ f_s0)
  obtain ⟨aV, hVv, hVT⟩ := va_Tof (f := fun j => .int ([67, 76, 71, 87].getD j 0)) (N := 4) (A := fun q => s.heap.size ≤ q) (by decide) (hf _ f_s2) (va_eqt (hf _ f_s3)) (fun j hj => by
    match j, hj with
    | 0, _ => exact va_eqt (hf _ f_b0)
    | 1, _ => exact va_eqt (hf _ f_b1)
    | 2, _ => exact va_eqt (hf _ f_b2)
    | 3, _ => exact va_eqt (hf _ f_b3)) hA
  obtain ⟨mi, hmi⟩ := va_Mi.of (hf _ f_mi)
  obtain ⟨scr, x1, x2, x3, x4, x5⟩ := hX
  have hbl : b < s.heap.size := (Array.getElem?_eq_some_iff.mp x1).1
  have hEl : aE < s.heap.size := by obtain ⟨c, h, -⟩ := hET; exact (Array.getElem?_eq_some_iff.mp h).1
  have hSl : aS < s.heap.size := (Array.getElem?_eq_some_iff.mp s3).1
  have hVl : aV < s.heap.size := by obtain ⟨c, h, -⟩ := hVT; exact (Array.getElem?_eq_some_iff.mp h).1
  let G : Gh := (s, b, fun a => match a with | 0 => b | 1 => aE | 2 => aS | 3 => aV | _ => mi, (fun t => (D t).1, fun t => (D t).2), fun t => match t with | 20 => cI | 21 => cJ | 22 => cC | 23 => cB | _ => cO, fun k => (E k).1, fun k => (E k).2, (List.range L).map xs)
  refine ⟨G, rfl, rfl, rfl, hfl, hts, ⟨?_, ?_⟩, fun k hk => hE k hk, ?_, ?_, ?_, ⟨?_, ?_, ?_⟩, ?_, ?_, ?_, ?_, hf _ f_un, hf _ f_se⟩
  · intro t q hq
    have ht : t < 9 := (List.getElem?_eq_some_iff.mp hq).1
    rw [cls_at t ht] at hq
    cases hq
    exact hD t ht
  · intro k q hq
    have hk : k < 5 := (List.getElem?_eq_some_iff.mp hq).1
    match k, hk, hq with
    | 0, _, hq => cases hq; exact hI
    | 1, _, hq => cases hq; exact hJ
    | 2, _, hq => cases hq; exact hC
    | 3, _, hq => cases hq; exact hB
    | 4, _, hq => cases hq; exact ⟨fun n z => ⟨fun q hq => (by cases hq), kO, o3, comp, o4⟩, kO, comp, o3, o4, o1, o5⟩
  · intro j k hj hk hjk
    obtain ⟨n, hn⟩ : ∃ n, ((j, k), n) ∈ nck := by
      match j, k, hj, hk, hjk with
      | 0, 1, _, _, _ => exact ⟨252, by decide⟩
      | 0, 2, _, _, _ => exact ⟨227, by decide⟩
      | 1, 0, _, _, _ => exact ⟨239, by decide⟩
      | 1, 2, _, _, _ => exact ⟨228, by decide⟩
      | 2, 0, _, _, _ => exact ⟨240, by decide⟩
      | 2, 1, _, _, _ => exact ⟨253, by decide⟩
      | 0, 0, _, _, h => exact absurd rfl h
      | 1, 1, _, _, h => exact absurd rfl h
      | 2, 2, _, _, h => exact absurd rfl h
    have hv := Cond.holds_not_iff.mp (hf _ (fat_mem (List.all_eq_true.mp nck_ok _ hn)))
    simp only [Cond.value, (hE j hj).1, (hE k hk).1] at hv
    exact Option.some.inj hv
  · intro a ha
    match a, ha with
    | 0, _ => exact hbl
    | 1, _ => exact hEl
    | 2, _ => exact hSl
    | 3, _ => exact hVl
  · intro a ha
    rcases ha with rfl | rfl | rfl
    · refine ⟨scr, x1, x2, x3, ?_, ?_, fun j v hj => ?_⟩
      · simp [oldc, g_x, G, x4]
      · simp [oldc, g_x, G, x4, nI]
      · have hj' : j < L := by
          have := (List.getElem?_eq_some_iff.mp hj).1
          simpa [oldc, g_x, G] using this
        have : v = .int (xs j) := by
          simp [oldc, g_x, G, hj'] at hj
          exact hj.symm
        rw [this]
        exact x5 j hj'
    · exact acl_of (G := G) hET rfl rfl (fun j hj => absurd hj (Nat.not_lt_zero j)) (fun j hj => absurd hj (Nat.not_lt_zero j))
    · exact acl_of (G := G) hVT rfl rfl (fun j hj => by
        match j, hj with
        | 0, _ => rfl
        | 1, _ => rfl
        | 2, _ => rfl
        | 3, _ => rfl) (fun j hj => rfl)
  · exact ⟨cellS, s3, s5, by rw [s6]; exact s2, hA _ hSl⟩
  · exact vk_OFof s1 hVv hA
  · exact vk_OFof s1 (va_eqt (hf _ f_s1)) hA
  · exact vk_R.of (hts _ w_sr) s1
  · exact hmi
  · exact va_Zof (hts _ w_le) (hts _ w_ie) hEv hA
  · exact va_Zof (hts _ w_lc) (hts _ w_is) (va_eqt (hf _ f_cs)) hA
