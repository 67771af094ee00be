/-! SOUNDNESS, 8: calls that come back or throw; throws out of a method and into a handler -/
def omt (G : Gh) (out : Option Value ⊕ Nat) (o : Outcome) : Prop := match out with | .inl v => o = .returned (v.map (tr G)) | .inr a => o = .threw (adr G a)
def FX (st t : State) (L : List Loc) (k n : Nat) : Prop := st.WarmedH t.vm ∧ st.sameButNew ({ t with vm := st.vm } : State) L k n
def QX (G : Gh) (out : Option Value ⊕ Nat) (h' : MH) (mc ms : Nat) : Array Value → State → Outcome → State → Prop := fun _ st o t => omt G out o ∧ Rep G h' t.heap ∧ ∃ L, FX st t L mc ms ∧ ∀ q ∈ L, b0 G ≤ q.base
def MQX (below : List Frame) (G : Gh) (out : Option Value ⊕ Nat) (h' : MH) (args : Array Value) (s : State) (mc ms : Nat) : State → Prop := fun t => ∃ o, t.status = .running ∧ Ended t below o ∧ QX G out h' mc ms args s o t
def PX (G : Gh) (h : MH) (as : List Value) : Array Value → State → Prop := fun args s => (g_s G).WarmedH s.vm ∧ Rep G h s.heap ∧ args = (as.map (tr G)).toArray
abbrev rmX (d : Nat) (h h' : MH) : Room := { frames := d + 10, cells := h'.2.1 - h.2.1, slots := h'.2.2 - h.2.2, locals := 100 * d + 200 }
/-- the contract of a method of the mini machine -/
def MX (l : Launch) (G : Gh) (d j : Nat) (as : List Value) (h h' : MH) (out : Option Value ⊕ Nat) : Prop :=
  MetFree l (mnam j) (headSpec [cwd j] (rmX d h h')) (PX G h as) (fun _ _ _ _ _ => True) (QX G out h' (h'.2.1 - h.2.1) (h'.2.2 - h.2.2))
theorem cwd_good (j : Nat) : ((cwd j).onTables && (cwd j).keeps) = true := by unfold cwd; split <;> rfl
theorem cwd_spec {j : Nat} {a : Array Value} {U : State} (h : (cwd j).before a U = true) : ∃ m meth c, U.methodNamed? (mnam j) = some m ∧ U.vm.method? m = some meth ∧ meth.code = some c ∧ c.code = mcode j ∧ c.maxLocals = mloc j ∧
    c.exceptionTable.toList.map (fun x => (x.startPc, x.endPc, x.handlerPc, x.catchType)) = mhan j ∧ meth.sig.returnType = mret j ∧ meth.locks = false ∧ parseMethodDescriptor (mnam j).desc = some meth.sig := by
  unfold cwd at h
  split at h
  · rename_i e
    obtain ⟨m, hn⟩ := Cond.code_named h
    obtain ⟨meth, c, h1, h2, h3, h4, h5, h6, h7, h8⟩ := Cond.code_spec hn h
    refine ⟨m, meth, c, hn, h1, h2, h3, h4, ?_, h5, h6, h8⟩
    rw [e]
    have : c.exceptionTable = #[] := by simpa using h7
    rw [this]; rfl
  · obtain ⟨m, meth, c, h1, h2, h3, h4, h5, h6, h7, h8, h9⟩ := Cond.codeWith_spec h
    exact ⟨m, meth, c, h1, h2, h3, h4, h5, h6, h7, h8, h9⟩
def endB (G : Gh) (out : Option Value ⊕ Nat) (B : State) (g : JFrame) (len : Nat) : State := match out with
  | .inl v => B.setTop { g with pc := g.pc + len, stack := (v.map (tr G)).toList ++ g.stack }
  | .inr x => (B.setTop g).pushFrame (.throwing (adr G x))
section BX
variable {p : Program} {l : Launch} {e : Env} {R : Room} {s : State} {m : MethodId} {args : Array Value} {below : List Frame} {meth : Method} {c : Code} {T : State} {locs : List Loc} {cells slots : Nat} {G : Gh}
theorem backX (X : Stand p l e R s m args below meth c T locs cells slots) {j d : Nat} {as : List Value} {h h' : MH} {out : Option Value ⊕ Nat} (hM : MX l G d j as h h' out) (h1 : 1 ≤ j) (h2 : j < 132) (hB : Base l G) (hw : (g_s G).WarmedH T.vm) (hR : Rep G h T.heap)
    (hfr : d + 11 ≤ R.frames) (hlo : 100 * d + 300 ≤ R.locals) (hc : cells + (h'.2.1 - h.2.1) ≤ R.cells) (hs : slots + (h'.2.2 - h.2.2) ≤ R.slots) {g : JFrame} {ig : Instr} {len : Nat} {mk : MethodId} (hg : g.method = m) (hsize : g.locals.size = c.maxLocals) (hdg : decode c.code g.pc = .ok (ig, len))
    (hW : 2 * g.monitorRoom + (g.stack.map fun v => v.category).sum ≤ 8) (hn : T.methodNamed? (mnam j) = some mk) :
    ∃ (B : State) (L : List Loc), Stand p l e R s m args below meth c B (locs ++ L) (cells + (h'.2.1 - h.2.1)) (slots + (h'.2.2 - h.2.2)) ∧ Rep G h' B.heap ∧ (∀ q ∈ L, b0 G ≤ q.base) ∧
      Steps p.tables e below (doInvoke e (T.setTop g) [] mk (as.map (tr G)).toArray).1 (endB G out B g len) := by
  generalize ha : (as.map (tr G)).toArray = a
  have hcw : (cwd j).before a T = true := hB.wd hw (cw_all h1 h2) (cwd_good j)
  obtain ⟨q, hq⟩ := m_ok h1 h2
  simp only [mchk, Bool.and_eq_true, decide_eq_true_eq] at hq
  obtain ⟨⟨⟨⟨q1, q2⟩, q3⟩, q4⟩, q5⟩ := hq
  obtain ⟨mk', methY, cY, hnY, hmY, hcY, -, hlY, -, -, -, -⟩ := cwd_spec hcw
  cases hn.symm.trans hnY
  obtain ⟨kY, hkY, -⟩ := className_of_methodNamed hn
  have hini : (Cond.initialized (mnam j).cls).before a T = true := hB.wd hw (wat_mem q2) rfl
  have hinitY : kY.init = .initialized := Cond.initialized_spec (findClass_of_methodNamed hn) hkY hini
  have hA : At T g.method c below := by rw [hg]; exact X.here
  have happ : (headSpec [cwd j] (rmX d h h')).appliesLoose (mnam j) e.platform (T.calling g mk a) = true :=
    Spec.appliesLoose_calling (g := g) hA hdg hn hkY hinitY
      (X.room_calling (g := g) (R' := rmX d h h') hsize hmY hcY hfr (by rw [hlY]; show _ + _ + (100 * d + 200) ≤ _; omega) hc hs) (atoms_intro (fun w hw' => by rw [List.mem_singleton.mp hw']; exact hcw))
  obtain ⟨mid, hmid⟩ := hA.above
  have hfrm : (T.setTop g).frames = (.java g :: mid) ++ below := by rw [State.frames_setTop' g hA.top, hmid]; rfl
  obtain ⟨o, s₂, hsteps, -, hend, hq⟩ := Steps.callFree hM p X.admits X.cas X.clock (acts := []) hfrm happ ⟨hw, hR, ha.symm⟩ trivial
  have hq' : QX G out h' (h'.2.1 - h.2.1) (h'.2.2 - h.2.2) a (T.calling g mk a) o s₂ := hq
  obtain ⟨ho, hR', L, ⟨hW₂, e2, r2, r3, r4, r5, r6⟩, hL⟩ := hq'
  rw [State.frames_setTop' g hA.top] at hend
  have e3 : s₂ = ({ (T.calling g mk a).setFrames s₂.frames with heap := s₂.heap, slotsUsed := s₂.slotsUsed } : State).setVm s₂.vm := by
    have : s₂ = ({ s₂ with vm := (T.calling g mk a).vm } : State).setVm s₂.vm := rfl
    rw [e2] at this
    exact this
  have hW' : T.WarmedH s₂.vm := hW₂
  obtain ⟨g₀, hg0⟩ := Option.isSome_iff_exists.mp hA.top
  obtain ⟨r, hr⟩ := State.topJava?_eq_some.mp hg0
  have hr' : (({ T with heap := s₂.heap, slotsUsed := s₂.slotsUsed } : State).setVm s₂.vm).frames = .java g₀ :: r := hr
  have hsame : T.sameButNew ({ T with heap := s₂.heap, slotsUsed := s₂.slotsUsed } : State) L (h'.2.1 - h.2.1) (h'.2.2 - h.2.2) := by
    refine ⟨?_, r2, r3, r4, r5, r6⟩
    obtain ⟨t, ht, -⟩ := State.frames_cons hr
    show ({ T with heap := s₂.heap, slotsUsed := s₂.slotsUsed } : State) = { T.setFrames T.frames with heap := s₂.heap, slotsUsed := s₂.slotsUsed }
    rw [State.setFrames_self ht]
  have hfin : s₂ = endB G out (({ T with heap := s₂.heap, slotsUsed := s₂.slotsUsed } : State).setVm s₂.vm) g len := by
    cases out with
    | inl v =>
      have ho : o = .returned (v.map (tr G)) := ho
      subst ho
      obtain ⟨c₂, i₂, len₂, hc₂, hd₂, hf₂⟩ := hend
      have hcc : c₂ = c := by
        have h1 : s₂.code? g.method = T.code? g.method := by
          rw [State.code?_eq, State.code?_eq, hW'.alike.method?]
        exact Option.some.inj (hc₂.symm.trans (h1.trans hA.code))
      subst hcc
      have hlen : len₂ = len := by rw [hdg] at hd₂; cases hd₂; rfl
      subst hlen
      refine e3.trans ?_
      show _ = (({ T with heap := s₂.heap, slotsUsed := s₂.slotsUsed } : State).setVm s₂.vm).setTop _
      rw [hf₂, State.calling_eq hA.top, State.setFrames_setFrames, State.setTop_of_frames _ hr', hr]
      rfl
    | inr x =>
      have ho : o = .threw (adr G x) := ho
      subst ho
      have hf₂ : s₂.frames = .throwing (adr G x) :: .java g :: T.frames.tail := hend
      refine e3.trans ?_
      show _ = ((({ T with heap := s₂.heap, slotsUsed := s₂.slotsUsed } : State).setVm s₂.vm).setTop g).pushFrame (.throwing (adr G x))
      rw [hf₂, State.calling_eq hA.top, State.setFrames_setFrames, State.pushFrame, State.frames_setTop _ hr', State.setTop_of_frames _ hr', State.setFrames_setFrames, hr]
      rfl
  subst hg
  refine ⟨({ T with heap := s₂.heap, slotsUsed := s₂.slotsUsed } : State).setVm s₂.vm, L,
    ⟨X.admits, X.cas, X.clock, X.frames, X.room, X.hears, X.method, X.code, (X.here.setHeapUsed s₂.heap s₂.slotsUsed).setVm hW'.alike, X.tail, State.WarmedH.trans X.warmed hW', X.limits, X.bytes, X.same.trans (hsame.setVm s.vm)⟩, hR', hL, ?_⟩
  rw [← hfin]
  exact hsteps
end BX
