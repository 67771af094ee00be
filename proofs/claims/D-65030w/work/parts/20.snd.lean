/-! SOUNDNESS, 10: a step of the mini machine is a step of the machine; printed by gen_snd.py -/
section INV
variable {q pc' n pc : Nat} {L S L' S' : List Value} {act : HA} {h : MH}
theorem gk (e : goK q L S = some (.inl (pc', L', S', act))) : pc' = q ∧ L' = L ∧ S' = S ∧ act = .inl none := by
  simp only [goK, Option.some.injEq, Sum.inl.injEq, Prod.mk.injEq] at e
  exact ⟨e.1.symm, e.2.1.symm, e.2.2.1.symm, e.2.2.2.symm⟩
theorem gp {a : Nat} {o : MO} (e : goP q L S a o = some (.inl (pc', L', S', act))) : pc' = q ∧ L' = L ∧ S' = S ∧ act = .inl (some (a, o)) := by
  simp only [goP, Option.some.injEq, Sum.inl.injEq, Prod.mk.injEq] at e
  exact ⟨e.1.symm, e.2.1.symm, e.2.2.1.symm, e.2.2.2.symm⟩
theorem gn {o : MO} (e : goN q L S o = some (.inl (pc', L', S', act))) : pc' = q ∧ L' = L ∧ S' = S ∧ act = .inr o := by
  simp only [goN, Option.some.injEq, Sum.inl.injEq, Prod.mk.injEq] at e
  exact ⟨e.1.symm, e.2.1.symm, e.2.2.1.symm, e.2.2.2.symm⟩
theorem ldI_inv (e : ldI n q L S = some (.inl (pc', L', S', act))) : ∃ x : Int32, L[n]? = some (.int x) ∧ pc' = q ∧ L' = L ∧ S' = .int x :: S ∧ act = .inl none := by
  unfold ldI at e
  split at e
  · next x hv => exact ⟨x, hv, gk e⟩
  · cases e
theorem stI_inv (e : stI n q L S = some (.inl (pc', L', S', act))) : ∃ (x : Int32) (S1 : List Value), S = .int x :: S1 ∧ n < L.length ∧ okp L n = true ∧ pc' = q ∧ L' = L.set n (.int x) ∧ S' = S1 ∧ act = .inl none := by
  unfold stI at e
  split at e
  · next x S1 =>
    split at e
    · next hh => exact ⟨x, S1, rfl, hh.1, hh.2, gk e⟩
    · cases e
  · cases e
theorem ldL_inv (e : ldL n q L S = some (.inl (pc', L', S', act))) : ∃ x : Int64, L[n]? = some (.long x) ∧ pc' = q ∧ L' = L ∧ S' = .long x :: S ∧ act = .inl none := by
  unfold ldL at e
  split at e
  · next x hv => exact ⟨x, hv, gk e⟩
  · cases e
theorem stL_inv (e : stL n q L S = some (.inl (pc', L', S', act))) : ∃ (x : Int64) (S1 : List Value), S = .long x :: S1 ∧ n + 1 < L.length ∧ okp L n = true ∧ pc' = q ∧ L' = (L.set n (.long x)).set (n + 1) .null ∧ S' = S1 ∧ act = .inl none := by
  unfold stL at e
  split at e
  · next x S1 =>
    split at e
    · next hh => exact ⟨x, S1, rfl, hh.1, hh.2, gk e⟩
    · cases e
  · cases e
theorem ldA_inv (e : ldA n q L S = some (.inl (pc', L', S', act))) : ∃ x : Nat, L[n]? = some (.ref x) ∧ pc' = q ∧ L' = L ∧ S' = .ref x :: S ∧ act = .inl none := by
  unfold ldA at e
  split at e
  · next x hv => exact ⟨x, hv, gk e⟩
  · cases e
theorem stA_inv (e : stA n q L S = some (.inl (pc', L', S', act))) : ∃ (x : Nat) (S1 : List Value), S = .ref x :: S1 ∧ n < L.length ∧ okp L n = true ∧ pc' = q ∧ L' = L.set n (.ref x) ∧ S' = S1 ∧ act = .inl none := by
  unfold stA at e
  split at e
  · next x S1 =>
    split at e
    · next hh => exact ⟨x, S1, rfl, hh.1, hh.2, gk e⟩
    · cases e
  · cases e
theorem bI_inv {f : Int32 → Int32 → Int32} (e : bI f pc L S = some (.inl (pc', L', S', act))) : ∃ (x y : Int32) (S1 : List Value), S = .int y :: .int x :: S1 ∧ pc' = pc + 1 ∧ L' = L ∧ S' = .int (f x y) :: S1 ∧ act = .inl none := by
  unfold bI at e
  split at e
  · next y x S1 => exact ⟨x, y, S1, rfl, gk e⟩
  · cases e
theorem bIz_inv {f : Int32 → Int32 → Int32} (e : bIz f pc L S = some (.inl (pc', L', S', act))) : ∃ (x y : Int32) (S1 : List Value), S = .int y :: .int x :: S1 ∧ ¬ y = 0 ∧ pc' = pc + 1 ∧ L' = L ∧ S' = .int (f x y) :: S1 ∧ act = .inl none := by
  unfold bIz at e
  split at e
  · next y x S1 =>
    split at e
    · cases e
    · next hy => exact ⟨x, y, S1, rfl, hy, gk e⟩
  · cases e
theorem bL_inv {f : Int64 → Int64 → Int64} (e : bL f pc L S = some (.inl (pc', L', S', act))) : ∃ (x y : Int64) (S1 : List Value), S = .long y :: .long x :: S1 ∧ pc' = pc + 1 ∧ L' = L ∧ S' = .long (f x y) :: S1 ∧ act = .inl none := by
  unfold bL at e
  split at e
  · next y x S1 => exact ⟨x, y, S1, rfl, gk e⟩
  · cases e
theorem bLz_inv {f : Int64 → Int64 → Int64} (e : bLz f pc L S = some (.inl (pc', L', S', act))) : ∃ (x y : Int64) (S1 : List Value), S = .long y :: .long x :: S1 ∧ ¬ y = 0 ∧ pc' = pc + 1 ∧ L' = L ∧ S' = .long (f x y) :: S1 ∧ act = .inl none := by
  unfold bLz at e
  split at e
  · next y x S1 =>
    split at e
    · cases e
    · next hy => exact ⟨x, y, S1, rfl, hy, gk e⟩
  · cases e
theorem goT_inv {off : Int} (e : goT pc off L S = some (.inl (pc', L', S', act))) : 0 ≤ (pc : Int) + off ∧ pc' = tgt pc off ∧ L' = L ∧ S' = S ∧ act = .inl none := by
  unfold goT at e
  split at e
  · next h0 => exact ⟨h0, gk e⟩
  · cases e
theorem goB_inv {b : Bool} {off : Int} (e : goB b pc off L S = some (.inl (pc', L', S', act))) : 0 ≤ (pc : Int) + off ∧ pc' = (if b = true then tgt pc off else pc + 3) ∧ L' = L ∧ S' = S ∧ act = .inl none := by
  unfold goB at e
  split at e
  · next h0 =>
    refine ⟨h0, ?_⟩
    split at e
    · next hb => rw [if_pos hb]; exact gk e
    · next hb => rw [if_neg hb]; exact gk e
  · cases e
theorem ald_inv {t : Nat} (e : ald t pc L S h = some (.inl (pc', L', S', act))) : ∃ (j : Int32) (a : Nat) (S1 : List Value) (v : Value), S = .int j :: .ref a :: S1 ∧ (h.1 a).1 = t ∧ inb j (h.1 a).2.length = true ∧ (h.1 a).2[j.toNatClampNeg]? = some v ∧ pc' = pc + 1 ∧ L' = L ∧ S' = v :: S1 ∧ act = .inl none := by
  unfold ald at e
  split at e
  · next j a S1 =>
    split at e
    · next hc =>
      split at e
      · next v hv => exact ⟨j, a, S1, v, rfl, hc.1, hc.2, hv, gk e⟩
      · cases e
    · cases e
  · cases e
theorem mc0 {j T : Nat} {r : MA} (e : mcall 0 j T pc L S h = some r) : ∃ as S', popN (mpar j) [] S = some (as, S') ∧ okC j as S' = true ∧ r = .inr (.inr (.inl (j, as, S'))) := by
  change (match popN (mpar j) [] S with | some (as, S') => if okC j as S' = true then some (.inr (.inr (.inl (j, as, S')))) else none | none => none) = some r at e
  split at e
  · next as S1 hp =>
    split at e
    · next ho => exact ⟨as, S1, hp, ho, (Option.some.inj e).symm⟩
    · cases e
  · cases e
theorem mc1 {j T : Nat} {r : MA} (e : mcall 1 j T pc L S h = some r) : ∃ as b S', popN (mpar j) [] S = some (as, .ref b :: S') ∧ okC j (.ref b :: as) S' = true ∧ (h.1 b).1 = T ∧ r = .inr (.inr (.inl (j, .ref b :: as, S'))) := by
  change (match popN (mpar j) [] S with | some (as, .ref b :: S') => if okC j (.ref b :: as) S' = true ∧ (h.1 b).1 = T then some (.inr (.inr (.inl (j, .ref b :: as, S')))) else none | _ => none) = some r at e
  split at e
  · next as b S1 hp =>
    split at e
    · next ho => exact ⟨as, b, S1, hp, ho.1, ho.2, (Option.some.inj e).symm⟩
    · cases e
  · cases e
theorem mc2 {kind j T : Nat} {r : MA} (hk : kind = 2 ∨ kind = 3) (e : mcall kind j T pc L S h = some r) : ∃ as b S', popN (mpar j) [] S = some (as, .ref b :: S') ∧ okC j (.ref b :: as) S' = true ∧ r = .inr (.inr (.inl (j, .ref b :: as, S'))) := by
  have e : (match popN (mpar j) [] S with | some (as, .ref b :: S') => if okC j (.ref b :: as) S' = true then some (.inr (.inr (.inl (j, .ref b :: as, S')))) else none | _ => none) = some r := by
    rcases hk with rfl | rfl
    · exact e
    · exact e
  split at e
  · next as b S1 hp =>
    split at e
    · next ho => exact ⟨as, b, S1, hp, ho, (Option.some.inj e).symm⟩
    · cases e
  · cases e
end INV
section SND
variable {p : Program} {l : Launch} {e : Env} {R : Room} {s : State} {m : MethodId} {args : Array Value} {below : List Frame} {meth : Method} {c : Code} {Q : State → Prop} {G : Gh} {d i c0 z0 : Nat}
variable {h : MH} {pc : Nat} {L S : List Value}
set_option maxHeartbeats 1000000 in
theorem step_go (C : Ctx p l R s m meth c G d i) (hLn : L.length = mloc i) {ins : Instr} {len pc' : Nat} {L' S' : List Value} {act : HA} (hd : decode (mcode i) pc = .ok (ins, len)) (hk : okl ins len = true) (hs : stepA i ins pc L S h = some (.inl (pc', L', S', act)))
    (hc0 : c0 ≤ h.2.1) (hz0 : z0 ≤ h.2.2) (h1 : (apH h act).2.1 - c0 ≤ R.cells) (h2 : (apH h act).2.2 - z0 ≤ R.slots) (k : L'.length = mloc i → Kt p l e R s m args below meth c Q G c0 z0 (apH h act) (pc') (L') (S')) : Kt p l e R s m args below meth c Q G c0 z0 (h) (pc) (L) (S) := by
  cases ins with
  | aconst_null =>
    have e : len = 1 := eq_of_beq hk
    subst e
    obtain ⟨rfl, rfl, rfl, rfl⟩ := gk (show goK (pc + 1) L (.null :: S) = _ from hs)
    exact k_null C hd (k hLn)
  | iload n =>
    have e : len = 2 := eq_of_beq hk
    subst e
    obtain ⟨x, hv, rfl, rfl, rfl, rfl⟩ := ldI_inv (show ldI n (pc + 2) L S = _ from hs)
    exact k_iload C hd hv (k hLn)
  | iload_n n =>
    have e : len = 1 := eq_of_beq hk
    subst e
    obtain ⟨x, hv, rfl, rfl, rfl, rfl⟩ := ldI_inv (show ldI n.val (pc + 1) L S = _ from hs)
    exact k_iloadn C hd hv (k hLn)
  | istore n =>
    have e : len = 2 := eq_of_beq hk
    subst e
    obtain ⟨x, S1, rfl, b1, b2, rfl, rfl, rfl, rfl⟩ := stI_inv (show stI n (pc + 2) L S = _ from hs)
    exact k_istore C hd b1 b2 (k (by rw [List.length_set]; exact hLn))
  | istore_n n =>
    have e : len = 1 := eq_of_beq hk
    subst e
    obtain ⟨x, S1, rfl, b1, b2, rfl, rfl, rfl, rfl⟩ := stI_inv (show stI n.val (pc + 1) L S = _ from hs)
    exact k_istoren C hd b1 b2 (k (by rw [List.length_set]; exact hLn))
  | lload n =>
    have e : len = 2 := eq_of_beq hk
    subst e
    obtain ⟨x, hv, rfl, rfl, rfl, rfl⟩ := ldL_inv (show ldL n (pc + 2) L S = _ from hs)
    exact k_lload C hd hv (k hLn)
  | lload_n n =>
    have e : len = 1 := eq_of_beq hk
    subst e
    obtain ⟨x, hv, rfl, rfl, rfl, rfl⟩ := ldL_inv (show ldL n.val (pc + 1) L S = _ from hs)
    exact k_lloadn C hd hv (k hLn)
  | lstore n =>
    have e : len = 2 := eq_of_beq hk
    subst e
    obtain ⟨x, S1, rfl, b1, b2, rfl, rfl, rfl, rfl⟩ := stL_inv (show stL n (pc + 2) L S = _ from hs)
    exact k_lstore C hd b1 b2 (k (by rw [List.length_set, List.length_set]; exact hLn))
  | lstore_n n =>
    have e : len = 1 := eq_of_beq hk
    subst e
    obtain ⟨x, S1, rfl, b1, b2, rfl, rfl, rfl, rfl⟩ := stL_inv (show stL n.val (pc + 1) L S = _ from hs)
    exact k_lstoren C hd b1 b2 (k (by rw [List.length_set, List.length_set]; exact hLn))
  | aload n =>
    have e : len = 2 := eq_of_beq hk
    subst e
    obtain ⟨x, hv, rfl, rfl, rfl, rfl⟩ := ldA_inv (show ldA n (pc + 2) L S = _ from hs)
    exact k_aload C hd hv (k hLn)
  | aload_n n =>
    have e : len = 1 := eq_of_beq hk
    subst e
    obtain ⟨x, hv, rfl, rfl, rfl, rfl⟩ := ldA_inv (show ldA n.val (pc + 1) L S = _ from hs)
    exact k_aloadn C hd hv (k hLn)
  | astore n =>
    have e : len = 2 := eq_of_beq hk
    subst e
    obtain ⟨x, S1, rfl, b1, b2, rfl, rfl, rfl, rfl⟩ := stA_inv (show stA n (pc + 2) L S = _ from hs)
    exact k_astore C hd b1 b2 (k (by rw [List.length_set]; exact hLn))
  | astore_n n =>
    have e : len = 1 := eq_of_beq hk
    subst e
    obtain ⟨x, S1, rfl, b1, b2, rfl, rfl, rfl, rfl⟩ := stA_inv (show stA n.val (pc + 1) L S = _ from hs)
    exact k_astoren C hd b1 b2 (k (by rw [List.length_set]; exact hLn))
  | iconst n =>
    have e : len = 1 := eq_of_beq hk
    subst e
    obtain ⟨rfl, rfl, rfl, rfl⟩ := gk (show goK (pc + 1) L (.int (Int32.ofInt n) :: S) = _ from hs)
    exact k_iconst C hd (k hLn)
  | bipush n =>
    have e : len = 2 := eq_of_beq hk
    subst e
    obtain ⟨rfl, rfl, rfl, rfl⟩ := gk (show goK (pc + 2) L (.int (Int8.ofInt n).toInt32 :: S) = _ from hs)
    exact k_bipush C hd (k hLn)
  | sipush n =>
    have e : len = 3 := eq_of_beq hk
    subst e
    obtain ⟨rfl, rfl, rfl, rfl⟩ := gk (show goK (pc + 3) L (.int (Int16.ofInt n).toInt32 :: S) = _ from hs)
    exact k_sipush C hd (k hLn)
  | lconst n =>
    have e : len = 1 := eq_of_beq hk
    subst e
    obtain ⟨rfl, rfl, rfl, rfl⟩ := gk (show goK (pc + 1) L (.long (Int64.ofNat n.val) :: S) = _ from hs)
    exact k_lconst C hd (k hLn)
  | iinc n z =>
    have e : len = 3 := eq_of_beq hk
    subst e
    dsimp only [stepA] at hs
    split at hs
    · next x hv =>
      split at hs
      · next ho =>
        obtain ⟨rfl, rfl, rfl, rfl⟩ := gk hs
        exact k_iinc C hd hv ho (k (by rw [List.length_set]; exact hLn))
      · cases hs
    · cases hs
  | iadd =>
    have e : len = 1 := eq_of_beq hk
    subst e
    obtain ⟨x, y, S1, rfl, rfl, rfl, rfl, rfl⟩ := bI_inv (show bI (fun x y => x + y) pc L S = _ from hs)
    exact k_iadd C hd (k hLn)
  | isub =>
    have e : len = 1 := eq_of_beq hk
    subst e
    obtain ⟨x, y, S1, rfl, rfl, rfl, rfl, rfl⟩ := bI_inv (show bI (fun x y => x - y) pc L S = _ from hs)
    exact k_isub C hd (k hLn)
  | imul =>
    have e : len = 1 := eq_of_beq hk
    subst e
    obtain ⟨x, y, S1, rfl, rfl, rfl, rfl, rfl⟩ := bI_inv (show bI (fun x y => x * y) pc L S = _ from hs)
    exact k_imul C hd (k hLn)
  | iand =>
    have e : len = 1 := eq_of_beq hk
    subst e
    obtain ⟨x, y, S1, rfl, rfl, rfl, rfl, rfl⟩ := bI_inv (show bI (fun x y => x &&& y) pc L S = _ from hs)
    exact k_iand C hd (k hLn)
  | ishr =>
    have e : len = 1 := eq_of_beq hk
    subst e
    obtain ⟨x, y, S1, rfl, rfl, rfl, rfl, rfl⟩ := bI_inv (show bI (fun x y => x >>> (y &&& 31)) pc L S = _ from hs)
    exact k_ishr C hd (k hLn)
  | idiv =>
    have e : len = 1 := eq_of_beq hk
    subst e
    obtain ⟨x, y, S1, rfl, hy, rfl, rfl, rfl, rfl⟩ := bIz_inv (show bIz (fun x y => x / y) pc L S = _ from hs)
    exact k_idiv C hd hy (k hLn)
  | irem =>
    have e : len = 1 := eq_of_beq hk
    subst e
    obtain ⟨x, y, S1, rfl, hy, rfl, rfl, rfl, rfl⟩ := bIz_inv (show bIz (fun x y => x - x / y * y) pc L S = _ from hs)
    exact k_irem C hd hy (k hLn)
  | ladd =>
    have e : len = 1 := eq_of_beq hk
    subst e
    obtain ⟨x, y, S1, rfl, rfl, rfl, rfl, rfl⟩ := bL_inv (show bL (fun x y => x + y) pc L S = _ from hs)
    exact k_ladd C hd (k hLn)
  | lsub =>
    have e : len = 1 := eq_of_beq hk
    subst e
    obtain ⟨x, y, S1, rfl, rfl, rfl, rfl, rfl⟩ := bL_inv (show bL (fun x y => x - y) pc L S = _ from hs)
    exact k_lsub C hd (k hLn)
  | lmul =>
    have e : len = 1 := eq_of_beq hk
    subst e
    obtain ⟨x, y, S1, rfl, rfl, rfl, rfl, rfl⟩ := bL_inv (show bL (fun x y => x * y) pc L S = _ from hs)
    exact k_lmul C hd (k hLn)
  | ldiv =>
    have e : len = 1 := eq_of_beq hk
    subst e
    obtain ⟨x, y, S1, rfl, hy, rfl, rfl, rfl, rfl⟩ := bLz_inv (show bLz (fun x y => x / y) pc L S = _ from hs)
    exact k_ldiv C hd hy (k hLn)
  | lrem =>
    have e : len = 1 := eq_of_beq hk
    subst e
    obtain ⟨x, y, S1, rfl, hy, rfl, rfl, rfl, rfl⟩ := bLz_inv (show bLz (fun x y => x - x / y * y) pc L S = _ from hs)
    exact k_lrem C hd hy (k hLn)
  | lcmp =>
    have e : len = 1 := eq_of_beq hk
    subst e
    dsimp only [stepA] at hs
    split at hs
    · obtain ⟨rfl, rfl, rfl, rfl⟩ := gk hs
      exact k_lcmp C hd (k hLn)
    · cases hs
  | i2l =>
    have e : len = 1 := eq_of_beq hk
    subst e
    dsimp only [stepA] at hs
    split at hs
    · obtain ⟨rfl, rfl, rfl, rfl⟩ := gk hs
      exact k_i2l C hd (k hLn)
    · cases hs
  | l2i =>
    have e : len = 1 := eq_of_beq hk
    subst e
    dsimp only [stepA] at hs
    split at hs
    · obtain ⟨rfl, rfl, rfl, rfl⟩ := gk hs
      exact k_l2i C hd (k hLn)
    · cases hs
  | i2b =>
    have e : len = 1 := eq_of_beq hk
    subst e
    dsimp only [stepA] at hs
    split at hs
    · obtain ⟨rfl, rfl, rfl, rfl⟩ := gk hs
      exact k_i2b C hd (k hLn)
    · cases hs
  | i2c =>
    have e : len = 1 := eq_of_beq hk
    subst e
    dsimp only [stepA] at hs
    split at hs
    · obtain ⟨rfl, rfl, rfl, rfl⟩ := gk hs
      exact k_i2c C hd (k hLn)
    · cases hs
  | dup =>
    have e : len = 1 := eq_of_beq hk
    subst e
    dsimp only [stepA] at hs
    split at hs
    · split at hs
      · next hv =>
        obtain ⟨rfl, rfl, rfl, rfl⟩ := gk hs
        exact k_dup C hd hv (k hLn)
      · cases hs
    · cases hs
  | pop =>
    have e : len = 1 := eq_of_beq hk
    subst e
    dsimp only [stepA] at hs
    split at hs
    · split at hs
      · next hv =>
        obtain ⟨rfl, rfl, rfl, rfl⟩ := gk hs
        exact k_pop C hd hv (k hLn)
      · cases hs
    · cases hs
  | dup_x1 =>
    have e : len = 1 := eq_of_beq hk
    subst e
    dsimp only [stepA] at hs
    split at hs
    · split at hs
      · next hv =>
        obtain ⟨rfl, rfl, rfl, rfl⟩ := gk hs
        exact k_dupx C hd hv.1 hv.2 (k hLn)
      · cases hs
    · cases hs
  | dup2 =>
    have e : len = 1 := eq_of_beq hk
    subst e
    dsimp only [stepA] at hs
    split at hs
    · split at hs
      · next hv =>
        obtain ⟨rfl, rfl, rfl, rfl⟩ := gk hs
        exact k_dup2 C hd hv.1 hv.2 (k hLn)
      · cases hs
    · cases hs
  | goto off =>
    have e : len = 3 := eq_of_beq hk
    subst e
    obtain ⟨h0, rfl, rfl, rfl, rfl⟩ := goT_inv (show goT pc off L S = _ from hs)
    exact k_goto C hd h0 (k hLn)
  | ifCond b off =>
    have e : len = 3 := eq_of_beq hk
    subst e
    dsimp only [stepA] at hs
    split at hs
    · obtain ⟨h0, rfl, rfl, rfl, rfl⟩ := goB_inv hs
      refine k_if C hd h0 (fun q => ?_) (fun q => ?_)
      · have k := k hLn; rw [if_pos q] at k; exact k
      · have k := k hLn; rw [if_neg (by rw [q]; decide)] at k; exact k
    · cases hs
  | if_icmp b off =>
    have e : len = 3 := eq_of_beq hk
    subst e
    dsimp only [stepA] at hs
    split at hs
    · obtain ⟨h0, rfl, rfl, rfl, rfl⟩ := goB_inv hs
      refine k_icmp C hd h0 (fun q => ?_) (fun q => ?_)
      · have k := k hLn; rw [if_pos q] at k; exact k
      · have k := k hLn; rw [if_neg (by rw [q]; decide)] at k; exact k
    · cases hs
  | if_acmp b off =>
    have e : len = 3 := eq_of_beq hk
    subst e
    dsimp only [stepA] at hs
    split at hs
    · next y x S1 =>
      split at hs
      · next hxy =>
        obtain ⟨h0, rfl, rfl, rfl, rfl⟩ := goB_inv hs
        refine k_acmp C hd h0 (Or.inl hxy) ?_
        have k := k hLn
        simp only [decide_eq_true_eq] at k
        simpa [hxy, apH] using k
      · next hxy =>
        split at hs
        · next hh =>
          obtain ⟨h0, rfl, rfl, rfl, rfl⟩ := goB_inv hs
          refine k_acmp C hd h0 (Or.inr hh) ?_
          have k := k hLn
          cases b with
          | eq => simpa [hxy, apH] using k
          | ne => simpa [hxy, apH] using k
        · cases hs
    · cases hs
  | tableswitch dd lo hi offs =>
    dsimp only [stepA] at hs
    split at hs
    · obtain ⟨h0, rfl, rfl, rfl, rfl⟩ := goT_inv hs
      exact k_tsw C hd h0 (k hLn)
    · cases hs
  | lookupswitch dd ps =>
    dsimp only [stepA] at hs
    split at hs
    · split at hs
      · next ho =>
        obtain ⟨h0, rfl, rfl, rfl, rfl⟩ := goT_inv hs
        exact k_lsw C hd ho h0 (k hLn)
      · cases hs
    · cases hs
  | iaload =>
    have e : len = 1 := eq_of_beq hk
    subst e
    obtain ⟨j, a, S1, v, rfl, b1, b2, b3, rfl, rfl, rfl, rfl⟩ := ald_inv (show ald 20 pc L S h = _ from hs)
    exact k_ald (t := 20) C hd (by simp) b1 b2 b3 (k hLn)
  | laload =>
    have e : len = 1 := eq_of_beq hk
    subst e
    obtain ⟨j, a, S1, v, rfl, b1, b2, b3, rfl, rfl, rfl, rfl⟩ := ald_inv (show ald 21 pc L S h = _ from hs)
    exact k_ald (t := 21) C hd (by simp) b1 b2 b3 (k hLn)
  | caload =>
    have e : len = 1 := eq_of_beq hk
    subst e
    obtain ⟨j, a, S1, v, rfl, b1, b2, b3, rfl, rfl, rfl, rfl⟩ := ald_inv (show ald 22 pc L S h = _ from hs)
    exact k_ald (t := 22) C hd (by simp) b1 b2 b3 (k hLn)
  | baload =>
    have e : len = 1 := eq_of_beq hk
    subst e
    obtain ⟨j, a, S1, v, rfl, b1, b2, b3, rfl, rfl, rfl, rfl⟩ := ald_inv (show ald 23 pc L S h = _ from hs)
    exact k_ald (t := 23) C hd (by simp) b1 b2 b3 (k hLn)
  | aaload =>
    have e : len = 1 := eq_of_beq hk
    subst e
    obtain ⟨j, a, S1, v, rfl, b1, b2, b3, rfl, rfl, rfl, rfl⟩ := ald_inv (show ald 24 pc L S h = _ from hs)
    exact k_ald (t := 24) C hd (by simp) b1 b2 b3 (k hLn)
  | iastore =>
    have e : len = 1 := eq_of_beq hk
    subst e
    dsimp only [stepA] at hs
    unfold ast at hs
    split at hs
    · next v j a S1 =>
      split at hs
      · next hc =>
        cases v with
        | int x =>
          change goP (pc + 1) L S1 a (20, (h.1 a).2.set j.toNatClampNeg (.int x)) = _ at hs
          obtain ⟨rfl, rfl, rfl, rfl⟩ := gp hs
          exact k_iast C hd hc.1 hc.2.1 hc.2.2 (k hLn)
        | _ => exact absurd (show (none : Option MA) = _ from hs) (fun z => by cases z)
      · cases hs
    · cases hs
  | lastore =>
    have e : len = 1 := eq_of_beq hk
    subst e
    dsimp only [stepA] at hs
    unfold ast at hs
    split at hs
    · next v j a S1 =>
      split at hs
      · next hc =>
        cases v with
        | long x =>
          change goP (pc + 1) L S1 a (21, (h.1 a).2.set j.toNatClampNeg (.long x)) = _ at hs
          obtain ⟨rfl, rfl, rfl, rfl⟩ := gp hs
          exact k_last C hd hc.1 hc.2.1 hc.2.2 (k hLn)
        | _ => exact absurd (show (none : Option MA) = _ from hs) (fun z => by cases z)
      · cases hs
    · cases hs
  | castore =>
    have e : len = 1 := eq_of_beq hk
    subst e
    dsimp only [stepA] at hs
    unfold ast at hs
    split at hs
    · next v j a S1 =>
      split at hs
      · next hc =>
        cases v with
        | int x =>
          change goP (pc + 1) L S1 a (22, (h.1 a).2.set j.toNatClampNeg (.int (vp_nar .char x))) = _ at hs
          obtain ⟨rfl, rfl, rfl, rfl⟩ := gp hs
          exact k_cast C hd hc.1 hc.2.1 hc.2.2 (k hLn)
        | _ => exact absurd (show (none : Option MA) = _ from hs) (fun z => by cases z)
      · cases hs
    · cases hs
  | aastore =>
    have e : len = 1 := eq_of_beq hk
    subst e
    dsimp only [stepA] at hs
    unfold ast at hs
    split at hs
    · next v j a S1 =>
      split at hs
      · next hc =>
        cases v with
        | ref y =>
          change (if okE h (.ref y) = true then goP (pc + 1) L S1 a (24, (h.1 a).2.set j.toNatClampNeg (.ref y)) else none) = _ at hs
          split at hs
          · next hy =>
            obtain ⟨rfl, rfl, rfl, rfl⟩ := gp hs
            exact k_aast C hd hc.1 hc.2.1 hc.2.2 hy (k hLn)
          · cases hs
        | _ => exact absurd (show (none : Option MA) = _ from hs) (fun z => by cases z)
      · cases hs
    · cases hs
  | arraylength =>
    have e : len = 1 := eq_of_beq hk
    subst e
    dsimp only [stepA] at hs
    split at hs
    · split at hs
      · next hv =>
        obtain ⟨rfl, rfl, rfl, rfl⟩ := gk hs
        exact k_alen C hd rfl hv (k hLn)
      · cases hs
    · cases hs
  | newarray at_ =>
    have e : len = 2 := eq_of_beq hk
    subst e
    dsimp only [stepA] at hs
    split at hs
    · next n S1 =>
      split at hs
      · next hc =>
        split at hs
        · obtain ⟨rfl, rfl, rfl, rfl⟩ := gn hs
          exact k_newa C hd hc.1 hc.2 (Or.inl ⟨rfl, rfl, rfl⟩) hc0 hz0 h1 (by simpa [apH, hnew] using h2) (k hLn)
        · obtain ⟨rfl, rfl, rfl, rfl⟩ := gn hs
          exact k_newa C hd hc.1 hc.2 (Or.inr (Or.inl ⟨rfl, rfl, rfl⟩)) hc0 hz0 h1 (by simpa [apH, hnew] using h2) (k hLn)
        · obtain ⟨rfl, rfl, rfl, rfl⟩ := gn hs
          exact k_newa C hd hc.1 hc.2 (Or.inr (Or.inr ⟨rfl, rfl, rfl⟩)) hc0 hz0 h1 (by simpa [apH, hnew] using h2) (k hLn)
        · cases hs
      · cases hs
    · cases hs
  | anewarray n =>
    have e : len = 3 := eq_of_beq hk
    subst e
    dsimp only [stepA] at hs
    split at hs
    · next n1 S1 w hl =>
      split at hs
      · next hc =>
        obtain ⟨rfl, rfl, rfl, rfl⟩ := gn hs
        exact k_anew C hd hl hc.1 hc.2 hc0 hz0 h1 (by simpa [apH, hnew] using h2) (k hLn)
      · cases hs
    · cases hs
  | new n =>
    have e : len = 3 := eq_of_beq hk
    subst e
    dsimp only [stepA] at hs
    split at hs
    · next t hl =>
      split at hs
      · next h8 =>
        obtain ⟨rfl, rfl, rfl, rfl⟩ := gn hs
        exact k_new C hd hl h8 hc0 hz0 h1 h2 (k hLn)
      · split at hs
        · next h30 =>
          obtain ⟨rfl, rfl, rfl, rfl⟩ := gn hs
          exact k_newX C hd hl h30 hc0 hz0 h1 h2 (k hLn)
        · cases hs
    · cases hs
  | getfield n =>
    have e : len = 3 := eq_of_beq hk
    subst e
    dsimp only [stepA] at hs
    split at hs
    · next a S1 t f b ref hl =>
      split at hs
      · next ht =>
        split at hs
        · next v hv =>
          obtain ⟨rfl, rfl, rfl, rfl⟩ := gk hs
          exact k_getf C hd hl ht hv (k hLn)
        · cases hs
      · cases hs
    · cases hs
  | putfield n =>
    have e : len = 3 := eq_of_beq hk
    subst e
    dsimp only [stepA] at hs
    split at hs
    · next v a S1 t f b ref hl =>
      split at hs
      · next hc =>
        obtain ⟨rfl, rfl, rfl, rfl⟩ := gp hs
        exact k_putf C hd hl hc.1 hc.2.1 hc.2.2.1 hc.2.2.2.1 hc.2.2.2.2 (k hLn)
      · cases hs
    · cases hs
  | getstatic n =>
    have e : len = 3 := eq_of_beq hk
    subst e
    dsimp only [stepA] at hs
    split at hs
    · next v hl =>
      obtain ⟨rfl, rfl, rfl, rfl⟩ := gk hs
      exact k_gets C hd hl (k hLn)
    · cases hs
  | ldc n =>
    have e : len = 2 := eq_of_beq hk
    subst e
    dsimp only [stepA] at hs
    split at hs
    · next x hl =>
      obtain ⟨rfl, rfl, rfl, rfl⟩ := gk hs
      exact k_ldcI C hd hl (k hLn)
    · next x hl =>
      obtain ⟨rfl, rfl, rfl, rfl⟩ := gk hs
      exact k_ldcA C hd hl (k hLn)
    · cases hs
  | ldc2_w n =>
    have e : len = 3 := eq_of_beq hk
    subst e
    dsimp only [stepA] at hs
    split at hs
    · next x hl =>
      obtain ⟨rfl, rfl, rfl, rfl⟩ := gk hs
      exact k_ldcL C hd hl (k hLn)
    · cases hs
  | checkcast n =>
    have e : len = 3 := eq_of_beq hk
    subst e
    dsimp only [stepA] at hs
    split at hs
    · next a S1 t hl =>
      split at hs
      · next hc =>
        obtain ⟨rfl, rfl, rfl, rfl⟩ := gk hs
        exact k_ccast C hd hl hc.1 hc.2 (k hLn)
      · cases hs
    · cases hs
  | invokestatic n =>
    have e : len = 3 := eq_of_beq hk
    subst e
    dsimp only [stepA] at hs
    split at hs
    · next kind j T hl =>
      split at hs
      · next hkd =>
        rcases hkd with rfl | rfl
        · obtain ⟨as, S1, -, -, hr⟩ := mc0 hs
          cases hr
        · change natS 6 T pc L S h = _ at hs
          unfold natS at hs
          split at hs
          all_goals first | (rename_i hz; exact absurd hz (by decide)) | skip
          · split at hs
            · next hc =>
              obtain ⟨rfl, rfl, rfl, rfl⟩ := gp hs
              exact k_copy C hd hl hLn hc.2.2.2.2.2.2.2.2.2.2 hc.1 hc.2.1 hc.2.2.1 hc.2.2.2.1 hc.2.2.2.2.1 hc.2.2.2.2.2.1 hc.2.2.2.2.2.2.1 hc.2.2.2.2.2.2.2.1 hc.2.2.2.2.2.2.2.2.1 hc.2.2.2.2.2.2.2.2.2.1 (k hLn)
            · cases hs
          · cases hs
      · cases hs
    · cases hs
  | invokevirtual n =>
    have e : len = 3 := eq_of_beq hk
    subst e
    dsimp only [stepA] at hs
    split at hs
    · next kind j T hl =>
      split at hs
      · next hkd =>
        rcases hkd with rfl | rfl | rfl
        · obtain ⟨as, b, S1, -, -, -, hr⟩ := mc1 hs
          cases hr
        · change natS 7 T pc L S h = _ at hs
          unfold natS at hs
          split at hs
          all_goals first | (rename_i hz; exact absurd hz (by decide)) | skip
          · split at hs
            · next hc =>
              obtain ⟨rfl, rfl, rfl, rfl⟩ := gn hs
              exact k_clone C hd hl hLn hc.2.2.2 hc.1 hc.2.1 hc.2.2.1 hc0 hz0 h1 h2 (k hLn)
            · cases hs
          · cases hs
        · change natS 8 T pc L S h = _ at hs
          unfold natS at hs
          split at hs
          all_goals first | (rename_i hz; exact absurd hz (by decide)) | skip
          · split at hs
            · next hc =>
              obtain ⟨rfl, rfl, rfl, rfl⟩ := gk hs
              exact k_gcls C hd hl hLn hc.2.2 hc.1 hc.2.1 (k hLn)
            · cases hs
          · cases hs
      · cases hs
    · cases hs
  | invokespecial n =>
    have e : len = 3 := eq_of_beq hk
    subst e
    dsimp only [stepA] at hs
    split at hs
    · next kind j T hl =>
      split at hs
      · next hkd =>
        rcases hkd with rfl | rfl | rfl | rfl
        · obtain ⟨as, b, S1, -, -, hr⟩ := mc2 (by simp) hs
          cases hr
        · obtain ⟨as, b, S1, -, -, hr⟩ := mc2 (by simp) hs
          cases hr
        · change natS 4 T pc L S h = _ at hs
          unfold natS at hs
          split at hs
          all_goals first | (rename_i hz; exact absurd hz (by decide)) | skip
          · split at hs
            · next hc =>
              obtain ⟨rfl, rfl, rfl, rfl⟩ := gk hs
              exact k_obj C hd hl hLn hc (k hLn)
            · cases hs
          · cases hs
        · change natS 5 T pc L S h = _ at hs
          unfold natS at hs
          split at hs
          all_goals first | (rename_i hz; exact absurd hz (by decide)) | skip
          · split at hs
            · next hc =>
              obtain ⟨rfl, rfl, rfl, rfl⟩ := gp hs
              exact k_exc C hd hl hLn hc.2.2 hc.1 hc.2.1 (k hLn)
            · cases hs
          · cases hs
      · cases hs
    · cases hs
  | athrow =>
    exfalso
    dsimp only [stepA] at hs
    repeat' split at hs
    all_goals cases hs
  | ireturn =>
    exfalso
    dsimp only [stepA] at hs
    repeat' split at hs
    all_goals cases hs
  | lreturn =>
    exfalso
    dsimp only [stepA] at hs
    repeat' split at hs
    all_goals cases hs
  | areturn =>
    exfalso
    dsimp only [stepA] at hs
    repeat' split at hs
    all_goals cases hs
  | return_ =>
    exfalso
    dsimp only [stepA] at hs
    repeat' split at hs
    all_goals cases hs
  | _ => exact absurd (show (none : Option MA) = _ from hs) (fun z => by cases z)
end SND
