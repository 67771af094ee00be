/-! SOUNDNESS, 11: returns, a method's entry, the whole -/
theorem apH_grow (h : MH) (act : HA) : h.2.1 ≤ (apH h act).2.1 ∧ h.2.2 ≤ (apH h act).2.2 := by
  match act with
  | .inl none => exact ⟨Nat.le_refl _, Nat.le_refl _⟩
  | .inl (some (a, o)) => exact ⟨Nat.le_refl _, Nat.le_refl _⟩
  | .inr o => exact ⟨Nat.le_succ _, Nat.le_add_right _ _⟩
theorem exec_inv {n d i pc : Nat} {L S : List Value} {h : MH} {r : MR} (e : exec (n + 1) d i pc L S h = some r) : ∃ ins len, decode (mcode i) pc = .ok (ins, len) ∧ okl ins len = true ∧
    ((∃ pc' L' S' act, stepA i ins pc L S h = some (.inl (pc', L', S', act)) ∧ exec n d i pc' L' S' (apH h act) = some r) ∨
     (∃ v, stepA i ins pc L S h = some (.inr (.inl v)) ∧ r = (.inl v, h)) ∨
     (∃ j as S' d' out h1, stepA i ins pc L S h = some (.inr (.inr (.inl (j, as, S')))) ∧ d = d' + 1 ∧ exec n d' j 0 (mlocs j as) [] h = some (out, h1) ∧
       ((∃ v, out = .inl v ∧ exec n d i (pc + len) L (v.toList ++ S') h1 = some r) ∨ (∃ a, out = .inr a ∧ hnd i pc (h1.1 a).1 = some none ∧ r = (.inr a, h1)) ∨ (∃ a q, out = .inr a ∧ hnd i pc (h1.1 a).1 = some (some q) ∧ exec n d i q L [.ref a] h1 = some r))) ∨
     (∃ a, stepA i ins pc L S h = some (.inr (.inr (.inr a))) ∧ ((hnd i pc (h.1 a).1 = some none ∧ r = (.inr a, h)) ∨ ∃ q, hnd i pc (h.1 a).1 = some (some q) ∧ exec n d i q L [.ref a] h = some r))) := by
  rw [exec] at e
  cases hd : decode (mcode i) pc with
  | error x => simp [hd] at e
  | ok q =>
    obtain ⟨ins, len⟩ := q
    simp only [hd] at e
    by_cases hk : okl ins len = true
    · refine ⟨ins, len, rfl, hk, ?_⟩
      rw [if_pos hk] at e
      cases hs : stepA i ins pc L S h with
      | none => simp [hs] at e
      | some a =>
        simp only [hs] at e
        match a, e with
        | .inl (pc', L', S', act), e => exact Or.inl ⟨pc', L', S', act, rfl, e⟩
        | .inr (.inl v), e => exact Or.inr (Or.inl ⟨v, rfl, (Option.some.inj e).symm⟩)
        | .inr (.inr (.inl (j, as, S'))), e =>
          refine Or.inr (Or.inr (Or.inl ?_))
          cases d with
          | zero => cases e
          | succ d' =>
            dsimp only at e
            cases hc : exec n d' j 0 (mlocs j as) [] h with
            | none => simp [hc] at e
            | some q =>
              obtain ⟨out, h1⟩ := q
              refine ⟨j, as, S', d', out, h1, rfl, rfl, hc, ?_⟩
              simp only [hc] at e
              match out, e with
              | .inl v, e => exact Or.inl ⟨v, rfl, e⟩
              | .inr a, e =>
                dsimp only at e
                cases hh : hnd i pc (h1.1 a).1 with
                | none => simp [hh] at e
                | some w =>
                  simp only [hh] at e
                  cases w with
                  | none => exact Or.inr (Or.inl ⟨a, rfl, hh, (Option.some.inj e).symm⟩)
                  | some q => exact Or.inr (Or.inr ⟨a, q, rfl, hh, e⟩)
        | .inr (.inr (.inr a)), e =>
          refine Or.inr (Or.inr (Or.inr ⟨a, rfl, ?_⟩))
          dsimp only at e
          cases hh : hnd i pc (h.1 a).1 with
          | none => simp [hh] at e
          | some w =>
            simp only [hh] at e
            cases w with
            | none => exact Or.inl ⟨rfl, (Option.some.inj e).symm⟩
            | some q => exact Or.inr ⟨q, rfl, e⟩
    · rw [if_neg hk] at e
      simp at e
theorem exec_grow : ∀ (n d i pc : Nat) (L S : List Value) (h : MH) (r : MR), exec n d i pc L S h = some r → h.2.1 ≤ r.2.2.1 ∧ h.2.2 ≤ r.2.2.2 := by
  intro n
  induction n with
  | zero => intro d i pc L S h r e; simp [exec] at e
  | succ n ih =>
    intro d i pc L S h r e
    obtain ⟨ins, len, -, -, q⟩ := exec_inv e
    rcases q with ⟨pc', L', S', act, -, e1⟩ | ⟨v, -, rfl⟩ | ⟨j, as, S', d', out, h1, -, -, e1, q⟩ | ⟨a, -, q⟩
    · have g1 := apH_grow h act
      have g2 := ih _ _ _ _ _ _ _ e1
      exact ⟨Nat.le_trans g1.1 g2.1, Nat.le_trans g1.2 g2.2⟩
    · exact ⟨Nat.le_refl _, Nat.le_refl _⟩
    · have g1 : h.2.1 ≤ h1.2.1 ∧ h.2.2 ≤ h1.2.2 := ih _ _ _ _ _ _ _ e1
      rcases q with ⟨v, -, e2⟩ | ⟨a, -, -, rfl⟩ | ⟨a, q, -, -, e2⟩
      · have g2 := ih _ _ _ _ _ _ _ e2
        exact ⟨Nat.le_trans g1.1 g2.1, Nat.le_trans g1.2 g2.2⟩
      · exact g1
      · have g2 := ih _ _ _ _ _ _ _ e2
        exact ⟨Nat.le_trans g1.1 g2.1, Nat.le_trans g1.2 g2.2⟩
    · rcases q with ⟨-, rfl⟩ | ⟨q, -, e2⟩
      · exact ⟨Nat.le_refl _, Nat.le_refl _⟩
      · exact ih _ _ _ _ _ _ _ e2
theorem expA_len (G : Gh) : ∀ as : List Value, (lg_sl (as.map (tr G))).length = (expA as).length
  | [] => rfl
  | v :: as => by
    have ih := expA_len G as
    have hc : (tr G v).category = v.category := tr_cat
    simp only [List.map_cons, lg_sl, List.flatMap_cons, List.length_append, expA, hc]
    simp only [lg_sl] at ih
    by_cases h2 : v.category = 2
    · simp only [h2, if_true, List.length_cons, List.length_nil]; omega
    · simp only [h2, if_false, List.length_cons, List.length_nil]; omega
theorem expA_at (G : Gh) : ∀ (as : List Value) (n k : Nat) (v : Value), (expA as)[k]? = some v → v ≠ .null → (n + k, tr G v) ∈ lv_args n (as.map (tr G))
  | [], n, k, v, h, _ => by simp [expA] at h
  | w :: as, n, k, v, h, hv => by
    have hc : (tr G w).category = w.category := tr_cat
    simp only [List.map_cons, lv_args, hc]
    simp only [expA] at h
    by_cases h2 : w.category = 2
    · simp only [h2, if_true] at h ⊢
      match k, h with
      | 0, h => cases Option.some.inj h; exact List.mem_cons_self
      | 1, h => exact absurd (Option.some.inj h).symm hv
      | k + 2, h =>
        have := expA_at G as (n + 2) k v h hv
        refine List.mem_cons_of_mem _ ?_
        rwa [show n + 2 + k = n + (k + 2) by omega] at this
    · simp only [h2, if_false] at h ⊢
      match k, h with
      | 0, h => cases Option.some.inj h; exact List.mem_cons_self
      | k + 1, h =>
        have := expA_at G as (n + 1) k v h hv
        refine List.mem_cons_of_mem _ ?_
        rwa [show n + 1 + k = n + (k + 1) by omega] at this
theorem entry_lrel (G : Gh) {j : Nat} {as : List Value} (hz : (mlocs j as).length = mloc j) : lrel G ((lg_sl (as.map (tr G)) ++ List.replicate (mloc j - (lg_sl (as.map (tr G))).length) Slot.unset).toArray) (mlocs j as) := by
  have hle : (lg_sl (as.map (tr G))).length ≤ mloc j := by
    rw [expA_len]
    simp only [mlocs, List.length_append, List.length_replicate] at hz
    omega
  have hE := lv_entry (as.map (tr G)) hle
  refine ⟨hE.1.trans hz.symm, hE.2.1, fun k v hk hv => ?_⟩
  have h1 : (expA as)[k]? = some v := by
    unfold mlocs at hk
    rcases Nat.lt_or_ge k (expA as).length with q | q
    · rwa [List.getElem?_append_left q] at hk
    · rw [List.getElem?_append_right q] at hk
      exact absurd (List.eq_of_mem_replicate (List.mem_of_getElem? hk)) hv
  have := hE.2.2 _ (expA_at G as 0 k v h1 hv)
  rwa [Nat.zero_add] at this
theorem natS_ng {kind T pc : Nat} {L S : List Value} {h : MH} {x : Option Value ⊕ ((Nat × List Value × List Value) ⊕ Nat)} (hs : natS kind T pc L S h = some (.inr x)) : False := by
  unfold natS goK goP goN at hs
  repeat' split at hs
  all_goals cases hs
set_option maxHeartbeats 1000000 in
/-- the steps that don't go on in the same frame -/
theorem step_inr {i pc : Nat} {L S : List Value} {h : MH} {ins : Instr} {x : Option Value ⊕ ((Nat × List Value × List Value) ⊕ Nat)} (hs : stepA i ins pc L S h = some (.inr x)) :
    (ins = .ireturn ∨ ins = .lreturn ∨ ins = .areturn ∨ ins = .return_) ∨ (∃ a S1, ins = .athrow ∧ S = .ref a :: S1 ∧ (40 ≤ (h.1 a).1 ∧ (h.1 a).1 < 43) ∧ x = .inr (.inr a)) ∨
    (∃ n j T as S1, ins = .invokestatic n ∧ lkp ctab (mown i) n = some (0, j, T) ∧ popN (mpar j) [] S = some (as, S1) ∧ okC j as S1 = true ∧ x = .inr (.inl (j, as, S1))) ∨
    (∃ n j T as b S1, ins = .invokevirtual n ∧ lkp ctab (mown i) n = some (1, j, T) ∧ popN (mpar j) [] S = some (as, .ref b :: S1) ∧ okC j (.ref b :: as) S1 = true ∧ (h.1 b).1 = T ∧ x = .inr (.inl (j, .ref b :: as, S1))) ∨
    (∃ n j T as b S1 kind, ins = .invokespecial n ∧ (kind = 2 ∨ kind = 3) ∧ lkp ctab (mown i) n = some (kind, j, T) ∧ popN (mpar j) [] S = some (as, .ref b :: S1) ∧ okC j (.ref b :: as) S1 = true ∧ x = .inr (.inl (j, .ref b :: as, S1))) := by
  cases ins with
  | ireturn => exact Or.inl (Or.inl rfl)
  | lreturn => exact Or.inl (Or.inr (Or.inl rfl))
  | areturn => exact Or.inl (Or.inr (Or.inr (Or.inl rfl)))
  | return_ => exact Or.inl (Or.inr (Or.inr (Or.inr rfl)))
  | athrow =>
    dsimp only [stepA] at hs
    split at hs
    · next a S1 =>
      split at hs
      · next hc => exact Or.inr (Or.inl ⟨a, S1, rfl, rfl, hc, by simpa using hs.symm⟩)
      · cases hs
    · cases hs
  | invokestatic n =>
    dsimp only [stepA] at hs
    split at hs
    · next kind j T hl =>
      split at hs
      · next hkd =>
        rcases hkd with rfl | rfl
        · obtain ⟨as, S1, h1, h2, hr⟩ := mc0 hs
          exact Or.inr (Or.inr (Or.inl ⟨n, j, T, as, S1, rfl, hl, h1, h2, by simpa using hr⟩))
        · exact (natS_ng (show natS 6 T pc L S h = _ from hs)).elim
      · cases hs
    · cases hs
  | invokevirtual n =>
    dsimp only [stepA] at hs
    split at hs
    · next kind j T hl =>
      split at hs
      · next hkd =>
        rcases hkd with rfl | rfl | rfl
        · obtain ⟨as, b, S1, h1, h2, h3, hr⟩ := mc1 hs
          exact Or.inr (Or.inr (Or.inr (Or.inl ⟨n, j, T, as, b, S1, rfl, hl, h1, h2, h3, by simpa using hr⟩)))
        · exact (natS_ng (show natS 7 T pc L S h = _ from hs)).elim
        · exact (natS_ng (show natS 8 T pc L S h = _ from hs)).elim
      · cases hs
    · cases hs
  | invokespecial n =>
    dsimp only [stepA] at hs
    split at hs
    · next kind j T hl =>
      split at hs
      · next hkd =>
        rcases hkd with rfl | rfl | rfl | rfl
        · obtain ⟨as, b, S1, h1, h2, hr⟩ := mc2 (by simp) hs
          exact Or.inr (Or.inr (Or.inr (Or.inr ⟨n, j, T, as, b, S1, 2, rfl, Or.inl rfl, hl, h1, h2, by simpa using hr⟩)))
        · obtain ⟨as, b, S1, h1, h2, hr⟩ := mc2 (by simp) hs
          exact Or.inr (Or.inr (Or.inr (Or.inr ⟨n, j, T, as, b, S1, 3, rfl, Or.inr rfl, hl, h1, h2, by simpa using hr⟩)))
        · exact (natS_ng (show natS 4 T pc L S h = _ from hs)).elim
        · exact (natS_ng (show natS 5 T pc L S h = _ from hs)).elim
      · cases hs
    · cases hs
  | _ =>
    exfalso
    dsimp only [stepA, ldI, ldL, ldA, stI, stL, stA, bI, bL, bIz, bLz, goT, goB, ald, ast, goK, goP, goN] at hs
    try (repeat' split at hs)
    all_goals cases hs
section MAIN
variable {p : Program} {l : Launch} {e : Env} {R : Room} {s : State} {m : MethodId} {args : Array Value} {below : List Frame} {meth : Method} {c : Code} {G : Gh} {d i c0 z0 : Nat}
variable {h : MH} {pc : Nat} {L S : List Value}
theorem mq_x {H : Heap} {locs : List Loc} {k z : Nat} {v : Option Value} {g : JFrame} (hv : W p l e R s m args below meth c H locs k z (MQ below (fun _ _ o t => o = .returned (v.map (tr G)) ∧ Rep G h t.heap) args s k z (fun q => b0 G ≤ q)) g) : W p l e R s m args below meth c H locs k z (MQX below G (.inl v) h args s k z) g := fun T hT X => by
  obtain ⟨t, a1, o, b1, b2, b3, L, b4, b5⟩ := hv T hT X
  exact ⟨t, a1, o, b1, b2, b3.1, b3.2, L, b4.2, b5⟩
theorem step_ret (C : Ctx p l R s m meth c G d i) {ins : Instr} {len : Nat} {v : Option Value} (hd : decode (mcode i) pc = .ok (ins, len)) (hk : okl ins len = true) (hs : stepA i ins pc L S h = some (.inr (.inl v))) :
    Kt p l e R s m args below meth c (MQX below G (.inl v) h args s (h.2.1 - c0) (h.2.2 - z0)) G c0 z0 h pc L S := fun H locs ls hR hL hq => by
  have hrt := C.r
  have hx := C.x
  have hy := C.y
  have hlk := C.lk
  refine mq_x ?_
  cases ins with
  | ireturn =>
    have e : len = 1 := eq_of_beq hk
    subst e
    dsimp only [stepA] at hs
    split at hs
    · next w ty hr =>
      split at hs
      · next hn =>
        have e1 : v = some (.int w) := by simpa using hs.symm
        subst e1
        exact W.zret hx hy (hrt.trans hr) hn (fun t ht hW => ⟨rfl, by rw [ht]; exact hR⟩) hq hd hlk
      · cases hs
    · cases hs
  | lreturn =>
    have e : len = 1 := eq_of_beq hk
    subst e
    dsimp only [stepA] at hs
    split at hs
    · next w hr =>
      have e1 : v = some (.long w) := by simpa using hs.symm
      subst e1
      exact W.lret hx hy (hrt.trans hr) (fun t ht hW => ⟨rfl, by rw [ht]; exact hR⟩) hq hd hlk
    · cases hs
  | areturn =>
    have e : len = 1 := eq_of_beq hk
    subst e
    dsimp only [stepA] at hs
    split at hs
    · next w nm hr =>
      have e1 : v = some (.ref w) := by simpa using hs.symm
      subst e1
      exact W.aret (v := .ref (adr G w)) hx hy (hrt.trans hr) (Or.inl ⟨_, rfl⟩) (Or.inr ⟨_, rfl⟩) (fun t ht hW => ⟨rfl, by rw [ht]; exact hR⟩) hq hd hlk
    · next w nm hr =>
      have e1 : v = some (.ref w) := by simpa using hs.symm
      subst e1
      exact W.aret (v := .ref (adr G w)) hx hy (hrt.trans hr) (Or.inr ⟨_, rfl⟩) (Or.inr ⟨_, rfl⟩) (fun t ht hW => ⟨rfl, by rw [ht]; exact hR⟩) hq hd hlk
    · cases hs
  | return_ =>
    have e : len = 1 := eq_of_beq hk
    subst e
    dsimp only [stepA] at hs
    split at hs
    · next hr =>
      have e1 : v = none := by simpa using hs.symm
      subst e1
      exact W.vret hx hy (hrt.trans hr) (fun t ht hW => ⟨rfl, by rw [ht]; exact hR⟩) hq hd hlk
    · cases hs
  | _ =>
    exfalso
    rcases step_inr hs with q | ⟨a, S1, -, -, -, q⟩ | ⟨n, j, T, as, S1, -, -, -, -, q⟩ | ⟨n, j, T, as, b, S1, -, -, -, -, -, q⟩ | ⟨n, j, T, as, b, S1, kind, -, -, -, -, -, q⟩
    · simp at q
    all_goals cases q
theorem hnd_none {k : Nat} (h : hnd i pc k = some none) : mhan i = [] := by
  unfold hnd at h
  split at h
  · split at h
    · assumption
    · exfalso
      have key : ∀ es : List (Nat × Nat × Nat × Nat), hgo (mown i) (k - 40) pc es ≠ some none := by
        intro es
        induction es with
        | nil => simp [hgo]
        | cons x es ih =>
          obtain ⟨a, b, q, c⟩ := x
          simp only [hgo]
          split
          · split
            · split
              · simp
              · exact ih
            · simp
          · exact ih
      exact key _ h
  · cases h
theorem hnd_some {k q : Nat} (h : hnd i pc k = some (some q)) : (40 ≤ k ∧ k < 43) ∧ hgo (mown i) (k - 40) pc (mhan i) = some (some q) := by
  unfold hnd at h
  split at h
  · next hk =>
    split at h
    · cases h
    · exact ⟨hk, h⟩
  · cases h
/-- a method's contract out of its body -/
theorem mx_of (hB : Base l G) {j : Nat} {as : List Value} {h h' : MH} {out : Option Value ⊕ Nat} (h1 : 1 ≤ j) (h2 : j < 132) (hz : (mlocs j as).length = mloc j)
    (body : ∀ (p : Program) (e : Env) (s : State) (m : MethodId) (args : Array Value) (below : List Frame) (meth : Method) (c : Code), Ctx p l (rmX d h h') s m meth c G d j → Kt p l e (rmX d h h') s m args below meth c (MQX below G out h' args s (h'.2.1 - h.2.1) (h'.2.2 - h.2.2)) G h.2.1 h.2.2 h 0 (mlocs j as) []) : MX l G d j as h h' out := by
  refine MetFree.of_bodySF (code := mcode j) (maxLocals := mloc j) (ret := mret j) (m_pl h2) ?_ ?_
  · intro args s m hp hn
    obtain ⟨m', meth, c, q1, q2, q3, q4, q5, -, q7, q8, -⟩ := cwd_spec (atoms_spec (ws := [cwd j]) hp _ List.mem_cons_self)
    cases hn.symm.trans q1
    exact ⟨meth, c, q2, q3, q4, q5, q7, q8⟩
  · intro p e s m args below meth c s₁ B hml hP _
    obtain ⟨hw, hR, ha⟩ := hP
    have hh0 : s₁.heap = s.heap := by rw [B.state]; rfl
    have X0 : Stand p l e (rmX d h h') s m args below meth c s₁ [] 0 0 := Stand.of_body B
    obtain ⟨m', meth', c', q1, q2, q3, q4, q5, q6, q7, q8, q9⟩ := cwd_spec (atoms_spec (ws := [cwd j]) B.pre _ List.mem_cons_self)
    cases B.named.symm.trans q1
    cases B.method.symm.trans q2
    cases X0.code.symm.trans q3
    obtain ⟨qm, hqm⟩ := m_ok h1 h2
    simp only [mchk, Bool.and_eq_true, decide_eq_true_eq] at hqm
    obtain ⟨⟨⟨⟨n1, n2⟩, n3⟩, n4⟩, n5⟩ := hqm
    have hnm : meth.name = (mnam j).name := by
      exact (name_of_methodNamed B.named B.method).1
    have hsz := hR.2.1
    have hC : Ctx p l (rmX d h h') s m meth c G d j := ⟨hB, B.exec, q4, q5, q7, q8, by rw [← n1]; exact findClass_of_methodNamed B.named, hw, q6, hnm, Nat.le_refl _, Nat.le_refl _, by omega, hR.2.2.2.2.1⟩
    have k := body p e s m args below meth c hC s.heap [] _ hR (entry_lrel G hz) (fun q hq => by cases hq) s₁ hh0 (by rw [Nat.sub_self, Nat.sub_self]; exact X0)
    obtain ⟨t, a1, o, b1, b2, b3⟩ := k
    refine ⟨t, o, ?_, b1, b2, b3⟩
    rw [ha, lg_entry_eq]
    exact a1
theorem okC_ok {j : Nat} {as S : List Value} (h : okC j as S = true) : okN 8 S = true ∧ (mlocs j as).length = mloc j := by
  simpa only [okC, Bool.and_eq_true, beq_iff_eq] using h
end MAIN
/-- THE MINI MACHINE IS SOUND -/
theorem snd : ∀ (n d i pc : Nat) (L S : List Value) (h h' : MH) (out : Option Value ⊕ Nat), exec n d i pc L S h = some (out, h') →
    ∀ (p : Program) (l : Launch) (e : Env) (R : Room) (s : State) (m : MethodId) (args : Array Value) (below : List Frame) (meth : Method) (c : Code) (G : Gh) (c0 z0 : Nat), Ctx p l R s m meth c G d i → L.length = mloc i → c0 ≤ h.2.1 → z0 ≤ h.2.2 → h'.2.1 - c0 ≤ R.cells → h'.2.2 - z0 ≤ R.slots →
      Kt p l e R s m args below meth c (MQX below G out h' args s (h'.2.1 - c0) (h'.2.2 - z0)) G c0 z0 h pc L S := by
  intro n
  induction n with
  | zero => intro d i pc L S h h' out he; simp [exec] at he
  | succ n ih =>
    intro d i pc L S h h' out he p l e R s m args below meth c G c0 z0 C hLn hc0 hz0 hc hz
    have hgr := exec_grow _ _ _ _ _ _ _ _ he
    dsimp only at hgr
    obtain ⟨ins, len, hd, hk, q⟩ := exec_inv he
    rcases q with ⟨pc', L', S', act, hs, e1⟩ | ⟨v, hs, hr⟩ | ⟨j, as, S', d', out1, h1, hs, rfl, e1, q⟩ | ⟨a, hs, q⟩
    · have g1 := apH_grow h act
      have g2 := exec_grow _ _ _ _ _ _ _ _ e1
      dsimp only at g2
      exact step_go C hLn hd hk hs hc0 hz0 (by omega) (by omega) (fun hL' => ih _ _ _ _ _ _ _ _ e1 p l e R s m args below meth c G c0 z0 C hL' (by omega) (by omega) hc hz)
    · obtain ⟨rfl, rfl⟩ := Prod.mk.inj hr
      exact step_ret C hd hk hs
    · have g1 : h.2.1 ≤ h1.2.1 ∧ h.2.2 ≤ h1.2.2 := exec_grow _ _ _ _ _ _ _ _ e1
      have g2 : h1.2.1 ≤ h'.2.1 ∧ h1.2.2 ≤ h'.2.2 := by
        rcases q with ⟨v, -, e2⟩ | ⟨a, -, -, hr⟩ | ⟨a, q, -, -, e2⟩
        · exact exec_grow _ _ _ _ _ _ _ _ e2
        · obtain ⟨rfl, rfl⟩ := Prod.mk.inj hr
          exact ⟨Nat.le_refl _, Nat.le_refl _⟩
        · exact exec_grow _ _ _ _ _ _ _ _ e2
      have hM : ∀ (h1j : 1 ≤ j) (h2j : j < 132), (mlocs j as).length = mloc j → MX l G d' j as h h1 out1 := fun h1j h2j hzz => mx_of C.b h1j h2j hzz (fun p e s m args below meth c C' => ih _ _ _ _ _ _ _ _ e1 p l e (rmX d' h h1) s m args below meth c G h.2.1 h.2.2 C' hzz (Nat.le_refl _) (Nat.le_refl _) (Nat.le_refl _) (Nat.le_refl _))
      have hcn : len = 3 → Cn p l e R s m args below meth c (MQX below G out h' args s (h'.2.1 - c0) (h'.2.2 - z0)) G c0 z0 h1 pc L S' out1 := by
        intro e3
        subst e3
        rcases q with ⟨v, rfl, e2⟩ | ⟨a, rfl, hh, hr⟩ | ⟨a, q, rfl, hh, e2⟩
        · exact ih _ _ _ _ _ _ _ _ e2 p l e R s m args below meth c G c0 z0 C hLn (by omega) (by omega) hc hz
        · obtain ⟨rfl, rfl⟩ := Prod.mk.inj hr
          exact k_out C (hnd_none hh)
        · obtain ⟨ht, hg⟩ := hnd_some hh
          exact k_caught C ht hg (ih _ _ _ _ _ _ _ _ e2 p l e R s m args below meth c G c0 z0 C hLn (by omega) (by omega) hc hz)
      rcases step_inr hs with q1 | ⟨a, S1, -, -, -, q1⟩ | ⟨n1, j1, T, as1, S1, rfl, hl, hp, ho, q1⟩ | ⟨n1, j1, T, as1, b, S1, rfl, hl, hp, ho, ht, q1⟩ | ⟨n1, j1, T, as1, b, S1, kind, rfl, hkd, hl, hp, ho, q1⟩
      · exfalso
        rcases q1 with rfl | rfl | rfl | rfl
        all_goals
          dsimp only [stepA] at hs
          repeat' split at hs
        all_goals cases hs
      · cases q1
      · simp only [Sum.inr.injEq, Sum.inl.injEq, Prod.mk.injEq] at q1
        obtain ⟨rfl, rfl, rfl⟩ := q1
        have e3 : len = 3 := eq_of_beq hk
        subst e3
        obtain ⟨o1, o2⟩ := okC_ok ho
        obtain ⟨qq, hck⟩ := c_ok hl
        simp only [cchk, Bool.and_eq_true, decide_eq_true_eq] at hck
        exact k_callS C hd hl hLn hp o1 (hM hck.1.1.1 hck.1.1.2 o2) hc0 hz0 g1.1 g1.2 (by omega) (by omega) (hcn rfl)
      · simp only [Sum.inr.injEq, Sum.inl.injEq, Prod.mk.injEq] at q1
        obtain ⟨rfl, rfl, rfl⟩ := q1
        have e3 : len = 3 := eq_of_beq hk
        subst e3
        obtain ⟨o1, o2⟩ := okC_ok ho
        obtain ⟨qq, hck⟩ := c_ok hl
        simp only [cchk, Bool.and_eq_true, decide_eq_true_eq] at hck
        exact k_callV C hd hl hLn hp o1 ht (hM hck.1.1.1.1.1 hck.1.1.1.1.2 o2) hc0 hz0 g1.1 g1.2 (by omega) (by omega) (hcn rfl)
      · simp only [Sum.inr.injEq, Sum.inl.injEq, Prod.mk.injEq] at q1
        obtain ⟨rfl, rfl, rfl⟩ := q1
        have e3 : len = 3 := eq_of_beq hk
        subst e3
        obtain ⟨o1, o2⟩ := okC_ok ho
        obtain ⟨qq, hck⟩ := c_ok hl
        rcases hkd with rfl | rfl
        · simp only [cchk, Bool.and_eq_true, decide_eq_true_eq] at hck
          exact k_callI C hd hl hLn hp o1 (hM hck.1.1.1.1.1.1 hck.1.1.1.1.1.2 o2) hc0 hz0 g1.1 g1.2 (by omega) (by omega) (hcn rfl)
        · simp only [cchk, Bool.and_eq_true, decide_eq_true_eq] at hck
          exact k_callN C hd hl hLn hp o1 (hM hck.1.1.1.1.1.1 hck.1.1.1.1.1.2 o2) hc0 hz0 g1.1 g1.2 (by omega) (by omega) (hcn rfl)
    · rcases step_inr hs with q1 | ⟨a1, S1, rfl, rfl, ht, q1⟩ | ⟨n1, j1, T, as1, S1, rfl, hl, hp, ho, q1⟩ | ⟨n1, j1, T, as1, b, S1, rfl, hl, hp, ho, ht, q1⟩ | ⟨n1, j1, T, as1, b, S1, kind, rfl, hkd, hl, hp, ho, q1⟩
      · exfalso
        rcases q1 with rfl | rfl | rfl | rfl
        all_goals
          dsimp only [stepA] at hs
          repeat' split at hs
        all_goals cases hs
      · simp only [Sum.inr.injEq] at q1
        subst q1
        have e3 : len = 1 := eq_of_beq hk
        subst e3
        refine k_thr C hd ?_
        rcases q with ⟨hh, hr⟩ | ⟨q, hh, e2⟩
        · obtain ⟨rfl, rfl⟩ := Prod.mk.inj hr
          exact k_out C (hnd_none hh)
        · obtain ⟨ht', hg⟩ := hnd_some hh
          exact k_caught C ht' hg (ih _ _ _ _ _ _ _ _ e2 p l e R s m args below meth c G c0 z0 C hLn hc0 hz0 hc hz)
      · cases q1
      · cases q1
      · cases q1
