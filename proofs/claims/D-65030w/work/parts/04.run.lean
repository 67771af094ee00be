/-! THE MINI MACHINE's RUN WITHOUT FUEL, and its laws: an equation for each kind of instruction -/
theorem exec_mono (n : Nat) : ∀ (d i pc : Nat) (L S : List Value) (h : MH) (r : MR), exec n d i pc L S h = some r → exec (n + 1) d i pc L S h = some r := by
  induction n with
  | zero => intro d i pc L S h r e; simp [exec] at e
  | succ n ih =>
    intro d i pc L S h r e
    rw [exec] at e ⊢
    cases hd : decode (mcode i) pc with
    | error x => simp [hd] at e
    | ok q =>
      obtain ⟨ins, len⟩ := q
      simp only [hd] at e ⊢
      cases hs : (if okl ins len = true then stepA i ins pc L S h else none) with
      | none => simp [hs] at e
      | some a =>
        simp only [hs] at e ⊢
        match a, e with
        | .inl (pc', L', S', act), e => exact ih _ _ _ _ _ _ _ e
        | .inr (.inl v), e => exact e
        | .inr (.inr (.inl (j, as, S'))), e =>
          cases d with
          | zero => exact e
          | succ d' =>
            dsimp only at e ⊢
            cases hc : exec n d' j 0 (mlocs j as) [] h with
            | none => simp [hc] at e
            | some q =>
              rw [ih _ _ _ _ _ _ _ hc]
              simp only [hc] at e
              match q, e with
              | (.inl v, h'), e => exact ih _ _ _ _ _ _ _ e
              | (.inr a, h'), e =>
                dsimp only at e ⊢
                cases hh : hnd i pc (h'.1 a).1 with
                | none => simp [hh] at e
                | some w =>
                  simp only [hh] at e ⊢
                  cases w with
                  | none => exact e
                  | some q => exact ih _ _ _ _ _ _ _ e
        | .inr (.inr (.inr a)), e =>
          dsimp only at e ⊢
          cases hh : hnd i pc (h.1 a).1 with
          | none => simp [hh] at e
          | some w =>
            simp only [hh] at e ⊢
            cases w with
            | none => exact e
            | some q => exact ih _ _ _ _ _ _ _ e
theorem exec_le {n m d i pc : Nat} {L S : List Value} {h : MH} {r : MR} (hnm : n ≤ m) (e : exec n d i pc L S h = some r) : exec m d i pc L S h = some r := by
  induction hnm with
  | refl => exact e
  | step _ ih => exact exec_mono _ _ _ _ _ _ _ _ ih
theorem exec_det {n m d i pc : Nat} {L S : List Value} {h : MH} {r r' : MR} (e : exec n d i pc L S h = some r) (e' : exec m d i pc L S h = some r') : r = r' := by
  have h1 := exec_le (Nat.le_max_left n m) e
  have h2 := exec_le (Nat.le_max_right n m) e'
  exact Option.some.inj (h1.symm.trans h2)
noncomputable def run (d i pc : Nat) (L S : List Value) (h : MH) : Option MR := @dite _ (∃ r, ∃ n, exec n d i pc L S h = some r) (Classical.propDecidable _) (fun hh => some (Classical.choose hh)) (fun _ => none)
theorem run_iff {d i pc : Nat} {L S : List Value} {h : MH} {r : MR} : run d i pc L S h = some r ↔ ∃ n, exec n d i pc L S h = some r := by
  unfold run
  by_cases hh : ∃ r, ∃ n, exec n d i pc L S h = some r
  · rw [dif_pos hh]
    obtain ⟨n, hn⟩ := Classical.choose_spec hh
    constructor
    · intro e
      cases e
      exact ⟨n, hn⟩
    · rintro ⟨m, hm⟩
      rw [exec_det hn hm]
  · rw [dif_neg hh]
    constructor
    · intro e; cases e
    · intro e; exact absurd ⟨r, e⟩ hh
section RUN
variable {d i pc : Nat} {L S : List Value} {h : MH} {ins : Instr} {len : Nat}
theorem run_go (hd : decode (mcode i) pc = .ok (ins, len)) {pc' : Nat} {L' S' : List Value} {act : HA} (hs : stepA i ins pc L S h = some (.inl (pc', L', S', act))) (hk : okl ins len = true := by rfl) : run d i pc L S h = run d i pc' L' S' (apH h act) := by
  refine Option.ext fun r => ?_
  have key : run d i pc L S h = some r ↔ run d i pc' L' S' (apH h act) = some r := by
    rw [run_iff, run_iff]
    constructor
    · rintro ⟨n, e⟩
      cases n with
      | zero => simp [exec] at e
      | succ n =>
        rw [exec] at e
        simp only [hd, if_pos hk, hs] at e
        exact ⟨n, e⟩
    · rintro ⟨n, e⟩
      refine ⟨n + 1, ?_⟩
      rw [exec]
      simp only [hd, if_pos hk, hs]
      exact e
  exact key
theorem run_ret (hd : decode (mcode i) pc = .ok (ins, len)) {v : Option Value} (hs : stepA i ins pc L S h = some (.inr (.inl v))) (hk : okl ins len = true := by rfl) : run d i pc L S h = some (.inl v, h) := by
  rw [run_iff]
  refine ⟨1, ?_⟩
  rw [exec]
  simp only [hd, if_pos hk, hs]
/-- behind a throw -/
noncomputable def thrK (d i pc : Nat) (L : List Value) (a : Nat) (h : MH) : Option MR := match hnd i pc (h.1 a).1 with
  | none => none
  | some none => some (.inr a, h)
  | some (some q) => run d i q L [.ref a] h
/-- behind a call -/
noncomputable def aft (d i pc q : Nat) (L S : List Value) (r : Option MR) : Option MR := match r with
  | none => none
  | some (.inl v, h') => run d i q L (v.toList ++ S) h'
  | some (.inr a, h') => thrK d i pc L a h'
theorem aft_v {d i pc q : Nat} {L S : List Value} {v : Value} {h : MH} : aft d i pc q L S (some (.inl (some v), h)) = run d i q L (v :: S) h := rfl
theorem aft_n {d i pc q : Nat} {L S : List Value} {h : MH} : aft d i pc q L S (some (.inl none, h)) = run d i q L S h := rfl
theorem aft_t {d i pc q a : Nat} {L S : List Value} {h : MH} : aft d i pc q L S (some (.inr a, h)) = thrK d i pc L a h := rfl
theorem run_thr (hd : decode (mcode i) pc = .ok (ins, len)) {a : Nat} (hs : stepA i ins pc L S h = some (.inr (.inr (.inr a)))) (hk : okl ins len = true := by rfl) : run d i pc L S h = thrK d i pc L a h := by
  refine Option.ext fun r => ?_
  have key : run d i pc L S h = some r ↔ thrK d i pc L a h = some r := by
    unfold thrK
    cases hh : hnd i pc (h.1 a).1 with
    | none =>
      simp only
      rw [run_iff]
      constructor
      · rintro ⟨n, e⟩
        cases n with
        | zero => simp [exec] at e
        | succ n =>
          rw [exec] at e
          simp only [hd, if_pos hk, hs, hh] at e
          cases e
      · intro e; cases e
    | some w =>
      cases w with
      | none =>
        simp only
        rw [run_iff]
        constructor
        · rintro ⟨n, e⟩
          cases n with
          | zero => simp [exec] at e
          | succ n =>
            rw [exec] at e
            simp only [hd, if_pos hk, hs, hh] at e
            exact e
        · intro e
          refine ⟨1, ?_⟩
          rw [exec]
          simp only [hd, if_pos hk, hs, hh]
          exact e
      | some q =>
        simp only
        rw [run_iff, run_iff]
        constructor
        · rintro ⟨n, e⟩
          cases n with
          | zero => simp [exec] at e
          | succ n =>
            rw [exec] at e
            simp only [hd, if_pos hk, hs, hh] at e
            exact ⟨n, e⟩
        · rintro ⟨n, e⟩
          refine ⟨n + 1, ?_⟩
          rw [exec]
          simp only [hd, if_pos hk, hs, hh]
          exact e
  exact key
theorem run_call (hd : decode (mcode i) pc = .ok (ins, len)) {j : Nat} {as S' : List Value} (hs : stepA i ins pc L S h = some (.inr (.inr (.inl (j, as, S'))))) (hk : okl ins len = true := by rfl) : run (d + 1) i pc L S h = aft (d + 1) i pc (pc + len) L S' (run d j 0 (mlocs j as) [] h) := by
  refine Option.ext fun r => ?_
  have key : run (d + 1) i pc L S h = some r ↔ aft (d + 1) i pc (pc + len) L S' (run d j 0 (mlocs j as) [] h) = some r := by
    constructor
    · intro e
      obtain ⟨n, e⟩ := run_iff.mp e
      cases n with
      | zero => simp [exec] at e
      | succ n =>
        rw [exec] at e
        simp only [hd, if_pos hk, hs] at e
        cases hc : exec n d j 0 (mlocs j as) [] h with
        | none => simp [hc] at e
        | some q =>
          simp only [hc] at e
          rw [run_iff.mpr ⟨n, hc⟩]
          match q, e with
          | (.inl v, h'), e => exact run_iff.mpr ⟨n, e⟩
          | (.inr a, h'), e =>
            show thrK (d + 1) i pc L a h' = some r
            unfold thrK
            dsimp only at e
            cases hh : hnd i pc (h'.1 a).1 with
            | none => simp [hh] at e
            | some w =>
              simp only [hh] at e
              cases w with
              | none => exact e
              | some q => exact run_iff.mpr ⟨n, e⟩
    · intro e
      cases hc : run d j 0 (mlocs j as) [] h with
      | none => rw [hc] at e; cases e
      | some q =>
        rw [hc] at e
        obtain ⟨n, hn⟩ := run_iff.mp hc
        match q, e, hn with
        | (.inl v, h'), e, hn =>
          obtain ⟨m, hm⟩ := run_iff.mp (show run (d + 1) i (pc + len) L (v.toList ++ S') h' = some r from e)
          refine run_iff.mpr ⟨max n m + 1, ?_⟩
          rw [exec]
          simp only [hd, if_pos hk, hs, exec_le (Nat.le_max_left n m) hn]
          exact exec_le (Nat.le_max_right n m) hm
        | (.inr a, h'), e, hn =>
          have e : thrK (d + 1) i pc L a h' = some r := e
          unfold thrK at e
          cases hh : hnd i pc (h'.1 a).1 with
          | none => simp [hh] at e
          | some w =>
            simp only [hh] at e
            cases w with
            | none =>
              refine run_iff.mpr ⟨n + 1, ?_⟩
              rw [exec]
              simp only [hd, if_pos hk, hs, hn, hh]
              exact e
            | some q =>
              obtain ⟨m, hm⟩ := run_iff.mp (show run (d + 1) i q L [.ref a] h' = some r from e)
              refine run_iff.mpr ⟨max n m + 1, ?_⟩
              rw [exec]
              simp only [hd, if_pos hk, hs, exec_le (Nat.le_max_left n m) hn, hh]
              exact exec_le (Nat.le_max_right n m) hm
  exact key
end RUN
