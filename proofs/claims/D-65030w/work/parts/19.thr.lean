/-! SOUNDNESS, 9: the call instructions; throws -/
/-- the machine, with an exception's note over the frame, comes to its end -/
def Th (p : Program) (l : Launch) (e : Env) (R : Room) (s : State) (m : MethodId) (args : Array Value) (below : List Frame) (meth : Method) (c : Code) (Q : State → Prop) (G : Gh) (c0 z0 : Nat) (h : MH) (pc : Nat) (L S : List Value) (a : Nat) : Prop :=
  ∀ (T : State) (locs : List Loc) (ls : Array Slot), Rep G h T.heap → lrel G ls L → (∀ q ∈ locs, b0 G ≤ q.base) → Stand p l e R s m args below meth c T locs (h.2.1 - c0) (h.2.2 - z0) → ∃ t, Steps p.tables e below ((T.setTop (F0 m pc ls (S.map (tr G)))).pushFrame (.throwing (adr G a))) t ∧ Q t
def Cn (p : Program) (l : Launch) (e : Env) (R : Room) (s : State) (m : MethodId) (args : Array Value) (below : List Frame) (meth : Method) (c : Code) (Q : State → Prop) (G : Gh) (c0 z0 : Nat) (h : MH) (pc : Nat) (L S : List Value) (out : Option Value ⊕ Nat) : Prop := match out with
  | .inl v => Kt p l e R s m args below meth c Q G c0 z0 (h) (pc + 3) (L) (v.toList ++ S)
  | .inr a => Th p l e R s m args below meth c Q G c0 z0 h pc L S a
theorem popN_spec : ∀ {n : Nat} {acc S as S' : List Value}, popN n acc S = some (as, S') → ∃ xs : List Value, xs.length = n ∧ S = xs ++ S' ∧ as = xs.reverse ++ acc
  | 0, acc, S, as, S', h => by
    simp only [popN, Option.some.injEq, Prod.mk.injEq] at h
    exact ⟨[], rfl, by rw [h.2]; rfl, by rw [← h.1]; rfl⟩
  | n + 1, acc, [], as, S', h => by simp [popN] at h
  | n + 1, acc, v :: S, as, S', h => by
    obtain ⟨xs, h1, h2, h3⟩ := popN_spec (show popN n (v :: acc) S = some (as, S') from h)
    exact ⟨v :: xs, by simp [h1], by rw [h2]; rfl, by rw [h3]; simp⟩
theorem popN_ok {j : Nat} {S as S' : List Value} (h : popN (mpar j) [] S = some (as, S')) (G : Gh) : S.map (tr G) = (as.map (tr G)).reverse ++ S'.map (tr G) ∧ ∀ sig, parseMethodDescriptor (mnam j).desc = some sig → (as.map (tr G)).length = sig.parameters.length := by
  obtain ⟨xs, h1, h2, h3⟩ := popN_spec h
  rw [List.append_nil] at h3
  subst h2 h3
  refine ⟨by simp, fun sig hs => ?_⟩
  simp only [List.length_map, List.length_reverse, h1, mpar, hs]
  rfl
section CALL
variable {p : Program} {l : Launch} {e : Env} {R : Room} {s : State} {m : MethodId} {args : Array Value} {below : List Frame} {meth : Method} {c : Code} {Q : State → Prop} {G : Gh} {d i c0 z0 : Nat}
variable {h : MH} {pc : Nat} {L S : List Value}
theorem cn_go {h' : MH} {out : Option Value ⊕ Nat} (k : Cn p l e R s m args below meth c Q G c0 z0 h' pc L S out) {B : State} {locs : List Loc} {ls : Array Slot} (hR : Rep G h' B.heap) (hl : lrel G ls L) (hq : ∀ q ∈ locs, b0 G ≤ q.base) (X : Stand p l e R s m args below meth c B locs (h'.2.1 - c0) (h'.2.2 - z0)) :
    ∃ t, Steps p.tables e below (endB G out B (F0 m pc ls (S.map (tr G))) 3) t ∧ Q t := by
  cases out with
  | inl v =>
    obtain ⟨t, a1, b1⟩ := (show Kt p l e R s m args below meth c Q G c0 z0 (h') (pc + 3) (L) (v.toList ++ S) from k) _ locs ls hR hl hq B rfl X
    refine ⟨t, ?_, b1⟩
    have : (v.toList ++ S).map (tr G) = (v.map (tr G)).toList ++ S.map (tr G) := by cases v <;> simp
    rw [this] at a1
    exact a1
  | inr a => exact (show Th p l e R s m args below meth c Q G c0 z0 h' pc L S a from k) B locs ls hR hl hq X
/-- what the three kinds of call share -/
theorem k_back (C : Ctx p l R s m meth c G (d + 1) i) {j : Nat} {as : List Value} {h' : MH} {out : Option Value ⊕ Nat} (hM : MX l G d j as h h' out) (h1 : 1 ≤ j) (h2 : j < 132) (hLn : L.length = mloc i) (h8 : okN 8 S = true)
    (hc0 : c0 ≤ h.2.1) (hz0 : z0 ≤ h.2.2) (hcc : h.2.1 ≤ h'.2.1) (hzz : h.2.2 ≤ h'.2.2) (hc : h'.2.1 - c0 ≤ R.cells) (hz : h'.2.2 - z0 ≤ R.slots) (k : Cn p l e R s m args below meth c Q G c0 z0 h' pc L S out) {T : State} {locs : List Loc} {ls : Array Slot} (hR : Rep G h T.heap) (hl : lrel G ls L) (hq : ∀ q ∈ locs, b0 G ≤ q.base) (X : Stand p l e R s m args below meth c T locs (h.2.1 - c0) (h.2.2 - z0))
    {ig : Instr} {mk : MethodId} (hdg : decode c.code pc = .ok (ig, 3)) (hn : T.methodNamed? (mnam j) = some mk) : ∃ t, Steps p.tables e below (doInvoke e (T.setTop (F0 m pc ls (S.map (tr G)))) [] mk (as.map (tr G)).toArray).1 t ∧ Q t := by
  have h9 := okN_sum h8 G
  have hf := C.fr
  have hlo := C.lo
  obtain ⟨B, L', X', hR', hL', st⟩ := backX X hM h1 h2 C.b (C.w.trans X.warmed) hR (by omega) (by omega) (by omega) (by omega) (g := F0 m pc ls (S.map (tr G))) rfl (C.szl hLn hl) hdg (by show 2 * 0 + ((S.map (tr G)).map fun v => v.category).sum ≤ 8; omega) hn
  have e1 : h.2.1 - c0 + (h'.2.1 - h.2.1) = h'.2.1 - c0 := by omega
  have e2 : h.2.2 - z0 + (h'.2.2 - h.2.2) = h'.2.2 - z0 := by omega
  rw [e1, e2] at X'
  obtain ⟨t, a1, b1⟩ := cn_go k hR' hl (fun q hq' => by rcases List.mem_append.mp hq' with z | z; exact hq q z; exact hL' q z) X'
  exact ⟨t, st.trans a1, b1⟩
theorem k_callS (C : Ctx p l R s m meth c G (d + 1) i) {n j T : Nat} {as S0 : List Value} {h' : MH} {out : Option Value ⊕ Nat} (hd : decode (mcode i) pc = .ok (.invokestatic n, 3)) (hl : lkp ctab (mown i) n = some (0, j, T)) (hLn : L.length = mloc i) (hp : popN (mpar j) [] S0 = some (as, S)) (h8 : okN 8 S = true) (hM : MX l G d j as h h' out)
    (hc0 : c0 ≤ h.2.1) (hz0 : z0 ≤ h.2.2) (hcc : h.2.1 ≤ h'.2.1) (hzz : h.2.2 ≤ h'.2.2) (hc : h'.2.1 - c0 ≤ R.cells) (hz : h'.2.2 - z0 ≤ R.slots) (k : Cn p l e R s m args below meth c Q G c0 z0 h' pc L S out) : Kt p l e R s m args below meth c Q G c0 z0 (h) (pc) (L) (S0) := fun H locs ls hR hL hq X hX X0 => by
  obtain ⟨q, hck⟩ := c_ok hl
  simp only [cchk, Bool.and_eq_true, decide_eq_true_eq] at hck
  obtain ⟨⟨⟨j1, j2⟩, w1⟩, w2⟩ := hck
  obtain ⟨qm, hqm⟩ := m_ok j1 j2
  simp only [mchk, Bool.and_eq_true, decide_eq_true_eq] at hqm
  obtain ⟨⟨⟨⟨q1, q2⟩, q3⟩, q4⟩, q5⟩ := hqm
  obtain ⟨hst, hlen⟩ := popN_ok hp G
  obtain ⟨mk, methM, cM, hnamed, hmethM, -, -, -, -, -, -, hsigM⟩ := cwd_spec (C.wd (args := args) (cw_all j1 j2) (cwd_good j))
  have hstatic : methM.isStatic = true := Cond.static_spec hnamed hmethM (C.wd (args := args) (wat_mem w2) rfl)
  obtain ⟨kP, hkP, -⟩ := className_of_methodNamed hnamed
  have hinitP : kP.init = .initialized := Cond.initialized_spec (findClass_of_methodNamed hnamed) hkP (C.wd (args := args) (wat_mem q2) rfl)
  obtain ⟨vm₁, X₁, hstep₁⟩ := X0.invokestatic C.x C.o (C.wd (wat_mem w1) rfl) hnamed hmethM hstatic hkP hinitP q3 (g := F0 m pc ls (S0.map (tr G))) rfl (argsL := as.map (tr G)) (rest := S.map (tr G)) (hlen _ hsigM) hst (by rw [C.y]; exact hd)
  subst hX
  obtain ⟨t, a1, b1⟩ := k_back C hM j1 j2 hLn h8 hc0 hz0 hcc hzz hc hz k (T := X.setVm vm₁) hR hL hq X₁ (by rw [C.y]; exact hd) (X₁.named hnamed)
  exact ⟨t, hstep₁ t (fun acts => by rw [doInvoke_state]; exact a1), b1⟩
theorem Rep.cls {H : Heap} (hR : Rep G h H) (hB : Base l G) {b T : Nat} (hT : T < 9) (ht : (h.1 b).1 = T) : ∃ cell : Cell, H[adr G b]? = some cell ∧ cell.vm.isStatics = false ∧ (g_s G).vm.findClass (on T) = some cell.cls := by
  rcases Nat.lt_or_ge T 8 with h8 | h8
  · obtain ⟨-, -, -, cell, q1, q2, q3, -⟩ := hR.obj ht h8
    obtain ⟨-, hfc, -⟩ := hB.K.1 T _ (cls_at T hT)
    exact ⟨cell, q1, by rw [q3]; rfl, by rw [q2]; exact hfc⟩
  · have e8 : T = 8 := by omega
    subst e8
    obtain ⟨⟨cell, o1, o2, o3, -⟩, -, -⟩ := hB.str
    have hlt : b < h.2.1 := hR.lt (by omega)
    have eb : b = 2 := by
      rcases Nat.lt_or_ge b 5 with hb | hb
      · have hz := hR.2.2.2.2.2 b hb
        rw [hz] at ht
        match b, hb, ht with
        | 0, _, z => exact absurd z (by simp [oldc])
        | 1, _, z => exact absurd z (by simp [oldc])
        | 2, _, _ => rfl
        | 3, _, z => exact absurd z (by simp [oldc])
        | 4, _, z => exact absurd z (by simp [oldc])
      · rcases hR.2.2.1 b hb hlt with ⟨q1, -⟩ | ⟨q1, -⟩ | ⟨q1, -⟩ | ⟨q1, -⟩ <;> omega
    subst eb
    rw [adr_old (by omega)]
    exact ⟨cell, (hR.2.2.2.2.1 _ (hB.rl 2 (by omega))).trans o1, o2, o3⟩
theorem k_callV (C : Ctx p l R s m meth c G (d + 1) i) {n j T b : Nat} {as S0 : List Value} {h' : MH} {out : Option Value ⊕ Nat} (hd : decode (mcode i) pc = .ok (.invokevirtual n, 3)) (hl : lkp ctab (mown i) n = some (1, j, T)) (hLn : L.length = mloc i) (hp : popN (mpar j) [] S0 = some (as, .ref b :: S)) (h8 : okN 8 S = true) (ht : (h.1 b).1 = T) (hM : MX l G d j (.ref b :: as) h h' out)
    (hc0 : c0 ≤ h.2.1) (hz0 : z0 ≤ h.2.2) (hcc : h.2.1 ≤ h'.2.1) (hzz : h.2.2 ≤ h'.2.2) (hc : h'.2.1 - c0 ≤ R.cells) (hz : h'.2.2 - z0 ≤ R.slots) (k : Cn p l e R s m args below meth c Q G c0 z0 h' pc L S out) : Kt p l e R s m args below meth c Q G c0 z0 (h) (pc) (L) (S0) := fun H locs ls hR hL hq X hX X0 => by
  obtain ⟨q, hck⟩ := c_ok hl
  simp only [cchk, Bool.and_eq_true, decide_eq_true_eq] at hck
  obtain ⟨⟨⟨⟨⟨j1, j2⟩, w1⟩, w2⟩, w3⟩, hT⟩ := hck
  obtain ⟨qm, hqm⟩ := m_ok j1 j2
  simp only [mchk, Bool.and_eq_true, decide_eq_true_eq] at hqm
  obtain ⟨⟨⟨⟨q1, q2⟩, q3⟩, q4⟩, q5⟩ := hqm
  obtain ⟨hst, hlen⟩ := popN_ok hp G
  obtain ⟨cellB, hcell, hobj, hcls⟩ := hR.cls C.b hT ht
  have hcls : s.vm.findClass (on T) = some cellB.cls := by rw [C.w.alike.findClass]; exact hcls
  obtain ⟨mk, methM, hnamed, hmethM, hstM, habM⟩ := Cond.instanceMethod_spec (C.wd (args := args) (wat_mem w2) rfl)
  obtain ⟨mk', methM', cM, hnamed', hmethM', -, -, -, -, -, -, hsigM⟩ := cwd_spec (C.wd (args := args) (cw_all j1 j2) (cwd_good j))
  cases hnamed.symm.trans hnamed'
  cases hmethM.symm.trans hmethM'
  obtain ⟨c2, r2, m2, z1, z2, z3, z4, kP, hkP, hkPi⟩ := Cond.selects_spec (C.wd (args := args) (wat_mem w3) rfl)
  cases hcls.symm.trans z1
  cases (State.methodFound?_of_named hnamed q3).symm.trans z2
  cases hnamed.symm.trans z3
  have hselP : selectMethod e.platform s.vm cellB.cls mk = .method mk := by rw [Launch.admits_selectMethod X0.admits]; exact z4
  obtain ⟨vm₁, X₁, hstep₁⟩ := X0.invokevirtual C.x C.o (C.wd (wat_mem w1) rfl) hnamed hmethM hstM hkP hkPi q3 (a := adr G b) (cell := cellB) (by rw [hX]; exact hcell)
    (fun z h => by rw [h] at hobj; cases hobj) hselP hmethM habM hkP hkPi (g := F0 m pc ls (S0.map (tr G))) rfl (argsL := as.map (tr G)) (rest := S.map (tr G)) (hlen _ hsigM) hst (by rw [C.y]; exact hd)
  subst hX
  obtain ⟨t, a1, b1⟩ := k_back C hM j1 j2 hLn h8 hc0 hz0 hcc hzz hc hz k (T := X.setVm vm₁) hR hL hq X₁ (by rw [C.y]; exact hd) (X₁.named hnamed)
  exact ⟨t, hstep₁ t (fun acts => by rw [doInvoke_state]; exact a1), b1⟩
theorem k_callI (C : Ctx p l R s m meth c G (d + 1) i) {n j T b : Nat} {as S0 : List Value} {h' : MH} {out : Option Value ⊕ Nat} (hd : decode (mcode i) pc = .ok (.invokespecial n, 3)) (hl : lkp ctab (mown i) n = some (2, j, T)) (hLn : L.length = mloc i) (hp : popN (mpar j) [] S0 = some (as, .ref b :: S)) (h8 : okN 8 S = true) (hM : MX l G d j (.ref b :: as) h h' out)
    (hc0 : c0 ≤ h.2.1) (hz0 : z0 ≤ h.2.2) (hcc : h.2.1 ≤ h'.2.1) (hzz : h.2.2 ≤ h'.2.2) (hc : h'.2.1 - c0 ≤ R.cells) (hz : h'.2.2 - z0 ≤ R.slots) (k : Cn p l e R s m args below meth c Q G c0 z0 h' pc L S out) : Kt p l e R s m args below meth c Q G c0 z0 (h) (pc) (L) (S0) := fun H locs ls hR hL hq X hX X0 => by
  obtain ⟨q, hck⟩ := c_ok hl
  simp only [cchk, Bool.and_eq_true, decide_eq_true_eq] at hck
  obtain ⟨⟨⟨⟨⟨⟨j1, j2⟩, w1⟩, w2⟩, hnm⟩, hrt⟩, hhn⟩ := hck
  obtain ⟨qm, hqm⟩ := m_ok j1 j2
  simp only [mchk, Bool.and_eq_true, decide_eq_true_eq] at hqm
  obtain ⟨⟨⟨⟨q1, q2⟩, q3⟩, q4⟩, q5⟩ := hqm
  obtain ⟨hst, hlen⟩ := popN_ok hp G
  have hcode : (Cond.code (mnam j) (mcode j) (mloc j) none).before args s = true := by
    have := C.wd (args := args) (cw_all j1 j2) (cwd_good j)
    rwa [cwd, if_pos hhn, hrt] at this
  have hpl : e.platform.magicAccessors = ({} : Platform).magicAccessors := by rw [X0.admits.platform]
  obtain ⟨mk, methM, cM, kP, vm₁, hnamed, -, -, -, -, -, -, -, hW₁, hstep₁⟩ := Steps.initColdArgs (e := e) X0.here C.x X0.warmed hpl C.o hnm q3 (C.wd (wat_mem w1) rfl) (C.wd (wat_mem w2) rfl) hcode (f := F0 m pc ls (S0.map (tr G))) rfl hlen hst (by rw [C.y]; exact hd)
  have X₁ := X0.noted hW₁
  subst hX
  obtain ⟨t, a1, b1⟩ := k_back C hM j1 j2 hLn h8 hc0 hz0 hcc hzz hc hz k (T := X.setVm vm₁) hR hL hq X₁ (by rw [C.y]; exact hd) (X₁.named hnamed)
  exact ⟨t, hstep₁ t (fun acts => by rw [doInvoke_state]; exact a1), b1⟩
theorem k_callN (C : Ctx p l R s m meth c G (d + 1) i) {n j T b : Nat} {as S0 : List Value} {h' : MH} {out : Option Value ⊕ Nat} (hd : decode (mcode i) pc = .ok (.invokespecial n, 3)) (hl : lkp ctab (mown i) n = some (3, j, T)) (hLn : L.length = mloc i) (hp : popN (mpar j) [] S0 = some (as, .ref b :: S)) (h8 : okN 8 S = true) (hM : MX l G d j (.ref b :: as) h h' out)
    (hc0 : c0 ≤ h.2.1) (hz0 : z0 ≤ h.2.2) (hcc : h.2.1 ≤ h'.2.1) (hzz : h.2.2 ≤ h'.2.2) (hc : h'.2.1 - c0 ≤ R.cells) (hz : h'.2.2 - z0 ≤ R.slots) (k : Cn p l e R s m args below meth c Q G c0 z0 h' pc L S out) : Kt p l e R s m args below meth c Q G c0 z0 (h) (pc) (L) (S0) := fun H locs ls hR hL hq X hX X0 => by
  obtain ⟨q, hck⟩ := c_ok hl
  simp only [cchk, Bool.and_eq_true, decide_eq_true_eq] at hck
  obtain ⟨⟨⟨⟨⟨⟨j1, j2⟩, w1⟩, w2⟩, hnm⟩, hrt⟩, hhn⟩ := hck
  obtain ⟨qm, hqm⟩ := m_ok j1 j2
  simp only [mchk, Bool.and_eq_true, decide_eq_true_eq] at hqm
  obtain ⟨⟨⟨⟨q1, q2⟩, q3⟩, q4⟩, q5⟩ := hqm
  obtain ⟨hst, hlen⟩ := popN_ok hp G
  have hcode : (Cond.code (mnam j) (mcode j) (mloc j) none).before args s = true := by
    have := C.wd (args := args) (cw_all j1 j2) (cwd_good j)
    rwa [cwd, if_pos hhn, hrt] at this
  have hlk : (Cond.methodLinkNest (cn (mown i)) n (mnam j) "RopeClosures").before args s = true := va_Nw.use rfl (va_Nw.warmM C.w (va_Nw.of rfl (C.b.w _ (wat_mem w1))))
  have hpl : e.platform.magicAccessors = ({} : Platform).magicAccessors := by rw [X0.admits.platform]
  obtain ⟨mk, methM, cM, kP, vm₁, hnamed, -, -, -, -, -, -, -, hW₁, hstep₁⟩ := Steps.initColdArgsNest (e := e) X0.here C.x X0.warmed hpl C.o hnm q3 hlk (C.wd (wat_mem w2) rfl) hcode (f := F0 m pc ls (S0.map (tr G))) rfl hlen hst (by rw [C.y]; exact hd)
  have X₁ := X0.noted hW₁
  subst hX
  obtain ⟨t, a1, b1⟩ := k_back C hM j1 j2 hLn h8 hc0 hz0 hcc hzz hc hz k (T := X.setVm vm₁) hR hL hq X₁ (by rw [C.y]; exact hd) (X₁.named hnamed)
  exact ⟨t, hstep₁ t (fun acts => by rw [doInvoke_state]; exact a1), b1⟩
/-! throws -/
theorem Rep.exc {H : Heap} (hR : Rep G h H) {a : Nat} (ht : 40 ≤ (h.1 a).1 ∧ (h.1 a).1 < 43) : ∃ cell : Cell, H[adr G a]? = some cell ∧ cell.cls = g_E G ((h.1 a).1 - 40) ∧ cell.vm.isStatics = false := by
  have hlt : a < h.2.1 := hR.lt (by omega)
  have h5 : 5 ≤ a := by
    rcases Nat.lt_or_ge a 5 with q | q
    · have hz := hR.2.2.2.2.2 a q
      have := old_tag (g_x G) a
      rw [← hz] at this
      omega
    · exact q
  rcases hR.2.2.1 a h5 hlt with ⟨q1, -⟩ | ⟨q1, q2, -⟩ | ⟨q1, q2, -⟩ | ⟨q1, q2, cell, q3, q4, q5⟩
  · omega
  · omega
  · omega
  · exact ⟨cell, q3, q4, q5⟩
theorem k_out (C : Ctx p l R s m meth c G d i) {a : Nat} (hh : mhan i = []) : Th p l e R s m args below meth c (MQX below G (.inr a) h args s (h.2.1 - c0) (h.2.2 - z0)) G c0 z0 h pc L S a := fun T locs ls hR hL hq X => by
  have hex : c.exceptionTable.toList = [] := by
    have := C.ex
    rw [hh] at this
    exact List.map_eq_nil_iff.mp this
  obtain ⟨hwalk, hrun, hend, hW, hsame⟩ := X.leaveThrown (adr G a) (g := F0 m pc ls (S.map (tr G))) rfl rfl rfl (fun x hx => by rw [hex] at hx; cases hx) C.lk
  exact ⟨_, hwalk, .threw (adr G a), hrun, hend, rfl, hR, locs, ⟨hW, hsame⟩, hq⟩
/-- what a search of the handlers does, once a row of the table takes the exception -/
theorem hgo_finds (C : Ctx p l R s m meth c G d i) {k q : Nat} (hpl : e.platform.magicAccessors = ({} : Platform).magicAccessors) {f : JFrame} (hf : f.method = m) {a : Addr} {cell : Cell} (hcl : cell.cls = g_E G k) (hk3 : k < 3) (hobj : ∀ z, cell.vm ≠ .statics z) : ∀ (es : List ExceptionTableEntry), hgo (mown i) k f.pc (es.map (fun x => (x.startPc, x.endPc, x.handlerPc, x.catchType))) = some (some q) → ∀ U : State, s.WarmedH U.vm → U.heap[a]? = some cell →
    ∃ vm', s.WarmedH vm' ∧ ∀ (Q : Handler → Pre) (E : CtlPost) (dd : Bool) (acts : List Action), wp (findHandler.go f a es) Q E e dd acts U ↔ Q (.found q) dd acts (U.setVm vm') := by
  intro es
  induction es with
  | nil => intro hg; simp [hgo] at hg
  | cons x es ih =>
    intro hg U hW hcell
    simp only [List.map_cons, hgo] at hg
    by_cases hcov : x.startPc ≤ f.pc ∧ f.pc < x.endPc
    · rw [if_pos hcov] at hg
      have hx : covers x f.pc = true := by simp [covers, hcov.1, hcov.2]
      cases hl : lkp htab (mown i) x.catchType with
      | none => simp [hl] at hg
      | some e' =>
        simp only [hl] at hg
        obtain ⟨qq, hck⟩ := allz_mem hchk_ok _ (lkp_mem hl)
        simp only [Bool.and_eq_true, decide_eq_true_eq] at hck
        obtain ⟨⟨he3, h0⟩, w1⟩ := hck
        obtain ⟨cT, hcT, hcl'⟩ := Cond.classLink_spec C.o (C.wd (args := #[]) (wat_mem w1) rfl) e.platform hpl
        have ecT : cT = g_E G e' := by
          have hfc : s.vm.findClass (en e') = some (g_E G e') := by rw [C.w.alike.findClass]; exact (C.b.exc e' he3).1
          exact Option.some.inj (hcT.symm.trans hfc)
        subst ecT
        obtain ⟨-, kX, hkX, -⟩ := C.b.exc k hk3
        obtain ⟨kX1, hkX1, -⟩ := C.w.alike.2.2 _ _ hkX
        obtain ⟨kX2, hkX2, -⟩ := hW.alike.2.2 _ _ hkX1
        obtain ⟨dk, _, _, kt, hd, _, _, _, _, hkt, _, hopen⟩ := hcl'.here
        obtain ⟨kt', hkt', -⟩ := hW.alike.2.2 _ _ hkt
        have hlU := hW.classLinks hcl'
        have hWn : s.WarmedH (U.vm.noted m.cls x.catchType (.cls (g_E G e'))) := hW.noted hd hopen (State.rightAt_cls hcl')
        have hal : U.vm.Alike (U.vm.noted m.cls x.catchType (.cls (g_E G e'))) := (Vm.Alike.refl U.vm).noted _ _ _
        obtain ⟨kX3, hkX3, -⟩ := hal.2.2 _ _ hkX2
        obtain ⟨kt3, hkt3, -⟩ := hal.2.2 _ _ hkt'
        obtain ⟨ha, ht⟩ := (resolveClass_links e.toSetting hlU).op (op := VmOp.resolveClass m.cls x.catchType) rfl
        rw [← hcl] at hkX3
        subst hf
        have hxx := hx
        simp only [covers] at hxx
        by_cases hek : e' = k
        · rw [if_pos hek] at hg
          have hq : x.handlerPc = q := by simpa using hg
          subst hek
          have hfit : (U.vm.noted f.method.cls x.catchType (.cls (g_E G e'))).assignable cell.cls (g_E G e') = true := by rw [hcl]; exact va_asg _ _
          refine ⟨_, hWn, fun Q E dd acts => ?_⟩
          rw [← hq]
          simp [findHandler.go, hxx, h0, ha, ht, hcell, hobj, hkX3, hkt3, hfit, VmOp.dirties, VmOp.acts]
        · rw [if_neg hek] at hg
          have hno : (U.vm.noted f.method.cls x.catchType (.cls (g_E G e'))).assignable cell.cls (g_E G e') = false := by
            rw [hal.assignable, hW.alike.assignable, C.w.alike.assignable, hcl]
            exact C.b.nc k e' hk3 he3 (fun z => hek z.symm)
          obtain ⟨vm', hW', hq⟩ := ih hg (U.setVm (U.vm.noted f.method.cls x.catchType (.cls (g_E G e')))) hWn hcell
          refine ⟨vm', hW', fun Q E dd acts => ?_⟩
          refine Iff.trans ?_ (hq Q E dd acts)
          simp [findHandler.go, hxx, h0, ha, ht, hcell, hobj, hkX3, hkt3, hno, VmOp.dirties, VmOp.acts]
    · rw [if_neg hcov] at hg
      obtain ⟨vm', hW', hq⟩ := ih hg U hW hcell
      have hx : covers x f.pc = false := by
        rcases Nat.lt_or_ge f.pc x.startPc with z | z
        · simp [covers]; omega
        · simp [covers]; omega
      exact ⟨vm', hW', fun Q E dd acts => by rw [W.findHandler_go_skip hx]; exact hq Q E dd acts⟩
theorem k_caught (C : Ctx p l R s m meth c G d i) {a q : Nat} (ht : 40 ≤ (h.1 a).1 ∧ (h.1 a).1 < 43) (hh : hgo (mown i) ((h.1 a).1 - 40) pc (mhan i) = some (some q)) (k : Kt p l e R s m args below meth c Q G c0 z0 (h) (q) (L) ([.ref a])) : Th p l e R s m args below meth c Q G c0 z0 h pc L S a := fun T locs ls hR hL hq X => by
  have hpl : e.platform.magicAccessors = ({} : Platform).magicAccessors := by rw [X.admits.platform]
  obtain ⟨cell, hcell, hcl, hobj⟩ := hR.exc ht
  obtain ⟨vm', hW', hfi⟩ := hgo_finds (e := e) C (k := (h.1 a).1 - 40) (q := q) hpl (f := F0 m pc ls (S.map (tr G))) rfl (a := adr G a) hcl (by omega) (VmData.ne_statics_of hobj) c.exceptionTable.toList (by rw [C.ex]; exact hh) ((T.setTop (F0 m pc ls (S.map (tr G)))).pushFrame (.throwing (adr G a))) X.warmed hcell
  obtain ⟨t, a1, b1⟩ := k _ locs ls hR hL hq (T.setVm vm') rfl (X.noted hW')
  refine ⟨t, ?_, b1⟩
  have hA : At T m c below := X.here
  obtain ⟨hgo, hw⟩ := At.throwing (g := F0 m pc ls (S.map (tr G))) hA (adr G a)
  refine Steps.head hgo hw ?_
  have hm' : ((T.setTop (F0 m pc ls (S.map (tr G)))).pushFrame (.throwing (adr G a))).vm.method? m = some meth := X.method'
  have hst : ∀ (r : List Frame), (stepThrowing e ((T.setTop (F0 m pc ls (S.map (tr G)))).pushFrame (.throwing (adr G a))) (adr G a) (.java (F0 m pc ls (S.map (tr G))) :: r)).Is ((((T.setTop (F0 m pc ls (S.map (tr G)))).pushFrame (.throwing (adr G a))).setVm vm').setFrames (.java { F0 m pc ls (S.map (tr G)) with pc := q, stack := [.ref (adr G a)] } :: r)) [] := fun r => by
    simp only [stepThrowing, searchFrame, vmDo]
    generalize hr : Sem.go _ e false [] _ = res
    obtain ⟨as, rfl, ha⟩ := Sem.eq_ok_of hr (a := Handler.found q) (s' := ((T.setTop (F0 m pc ls (S.map (tr G)))).pushFrame (.throwing (adr G a))).setVm vm') (acts' := []) (by
      have key := fun Q E dd acts => (W.findHandler_eq (f := F0 m pc ls (S.map (tr G))) (a := adr G a) (e := e) (d := dd) (acts := acts) (Q := Q) (E := E) (s := (T.setTop (F0 m pc ls (S.map (tr G)))).pushFrame (.throwing (adr G a))) hm' X.code).trans (hfi Q E dd acts)
      simp [key])
    exact ⟨rfl, ha⟩
  rw [stepThread_throwing (frames_entered hA.top _), (hst _).1]
  obtain ⟨g₀, hg⟩ := Option.isSome_iff_exists.mp hA.top
  obtain ⟨r, hr⟩ := State.topJava?_eq_some.mp hg
  have hr' : (T.setVm vm').frames = .java g₀ :: r := hr
  have a1' : Steps p.tables e below ((T.setVm vm').setTop { F0 m pc ls (S.map (tr G)) with pc := q, stack := [.ref (adr G a)] }) t := a1
  rw [State.setTop_of_frames _ hr'] at a1'
  have e0 : ∀ (u : State) (F F' : List Frame), ((u.setFrames F).setVm vm').setFrames F' = (u.setVm vm').setFrames F' := fun u F F' => by
    rw [show (u.setFrames F).setVm vm' = (u.setVm vm').setFrames F from rfl, State.setFrames_setFrames]
  rw [hr, List.tail_cons, State.pushFrame, e0, State.setTop_of_frames _ hr, e0]
  exact a1'
theorem k_thr (C : Ctx p l R s m meth c G d i) {a : Nat} (hd : decode (mcode i) pc = .ok (.athrow, 1)) (k : Th p l e R s m args below meth c Q G c0 z0 h pc L S a) : Kt p l e R s m args below meth c Q G c0 z0 (h) (pc) (L) (.ref a :: S) := fun H locs ls hR hL hq T hT X => by
  subst hT
  obtain ⟨t, a1, b1⟩ := k T locs ls hR hL hq X
  refine ⟨t, ?_, b1⟩
  have hdg : decode c.code pc = .ok (.athrow, 1) := by rw [C.y]; exact hd
  have hx := C.x
  jvm_step X.here [hx, hdg, athrow.wp_sem, tr]
  exact a1
end CALL
