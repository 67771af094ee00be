/-! SOUNDNESS, 7: an exception's constructor (no stack traces) -/
theorem Rep.nst {G : Gh} {h : MH} {H : Heap} (hR : Rep G h H) {q : Nat} (hq : b0 G ≤ q) {cell : Cell} (hc : H[q]? = some cell) : cell.vm.isStatics = false := by
  have hl : q < H.size := (Array.getElem?_eq_some_iff.mp hc).1
  have hz := hR.2.1
  have h5 := hR.1
  have ea : adr G (q - b0 G + 5) = q := by rw [adr_new (by omega)]; omega
  rcases hR.2.2.1 (q - b0 G + 5) (by omega) (by omega) with ⟨q1, q2, cell', q3, q4, q5, -⟩ | ⟨q1, q2, q3⟩ | ⟨q1, q2, q4, q3⟩ | ⟨q1, q2, cell', q3, q4, q5⟩
  · rw [ea] at q3; cases hc.symm.trans q3; rw [q5]; rfl
  · rw [ea] at q3; cases hc.symm.trans q3; rfl
  · rw [ea] at q3; cases hc.symm.trans q3; rfl
  · rw [ea] at q3; cases hc.symm.trans q3; exact q5
def mvb (w : Jvm.Cond) : Bool := match w with
  | .castable .. => true | .declares _ => true | .laysStatic .. => true | w => (w.onTables && w.keeps) || decide (w ∈ tRefs)
def vchk (e : (Nat × Nat) × (Nat × Nat × Nat)) : Bool := if e.2.1 = 5 then (Bundle.ownAtoms0 (cn e.1.1) e.1.2 (en e.2.2.2) exs).all mvb && Bundle.fit (en e.2.2.2) else true
set_option maxRecDepth 100000 in
theorem vchk_ok : ctab.all vchk = true := by decide +kernel
theorem fit_exs : ∀ n ∈ exs, Bundle.fit n = true := by decide +kernel
theorem lays_to {s u : State} {A B : Array Value} (hal : u.vm.Alike s.vm) (hp : ∀ q : Nat, q < u.heap.size → s.heap[q]? = u.heap[q]?) {O f d : String} (h : (Cond.laysStatic O f d).before A u = true) : (Cond.laysStatic O f d).before B s = true := by
  obtain ⟨c, k, i, fd, a, cell, hc, hi, hst, ha, hcell, hs, hcls, hlt, hty⟩ := Cond.laysStatic_spec h
  obtain ⟨k', hi', hek⟩ := State.fieldFound?_setVm hal hi
  exact Cond.laysStatic_of (s := s) (by rw [hal.findClass]; exact hc) (hi' : s.fieldFound? O f d = _) hst (by rw [hek]; exact ha) ((hp a (Array.getElem?_eq_some_iff.mp hcell).1).trans hcell) hs hcls hlt (by rw [hek]; exact hty)
theorem isr_to {s u : State} {A B : Array Value} (hal : u.vm.Alike s.vm) (hp : ∀ q : Nat, q < u.heap.size → s.heap[q]? = u.heap[q]?) {O f d : String} (hl : (Cond.laysStatic O f d).before A u = true) (h : (Cond.isRef (.static O f d)).before A u = true) : (Cond.isRef (.static O f d)).before B s = true := by
  obtain ⟨c, k, i, fd, a, cell, hc, hi, hst, ha, hcell, hs, hcls, hlt, hty⟩ := Cond.laysStatic_spec hl
  obtain ⟨k', hi', hek⟩ := State.fieldFound?_setVm hal hi
  obtain ⟨u0, hu⟩ := Cond.staticRefV hi hst ha hcell hs h
  have he : ∀ (o : Option Outcome) (idx : List Nat) (z : State), (Term.static O f d).eval B z o idx s = cell.slots[fd.slot]? := fun o idx z => by
    have hi'' : s.fieldFound? O f d = some (c, k', i, fd) := hi'
    have ha' : k'.statics = some a := by rw [hek]; exact ha
    have hc' : s.heap[a]? = some cell := (hp a (Array.getElem?_eq_some_iff.mp hcell).1).trans hcell
    simp [Term.eval, State.fieldNamed?, hi'', hst, ha', hc', hs]
  obtain ⟨v, hv⟩ := u0
  have hu : cell.slots[fd.slot]? = some v := hu
  simp only [Cond.before, Cond.holds, Cond.value, he, hu]
  cases v <;> first | rfl | cases hv
section EXC
variable {p : Program} {l : Launch} {e : Env} {R : Room} {s : State} {m : MethodId} {args : Array Value} {below : List Frame} {meth : Method} {c : Code} {Q : State → Prop} {G : Gh} {d i c0 z0 : Nat}
variable {h : MH} {pc : Nat} {L S : List Value}
theorem w_un : Jvm.Cond.laysStatic "java/lang/Throwable" "UNASSIGNED_STACK" "[Ljava/lang/StackTraceElement;" ∈ lw_tbl := wat_mem (n := 315) (by decide +kernel)
theorem w_se : Jvm.Cond.laysStatic "java/lang/Throwable" "SUPPRESSED_SENTINEL" "Ljava/util/List;" ∈ lw_tbl := wat_mem (n := 317) (by decide +kernel)
theorem Ctx.mv (C : Ctx p l R s m meth c G d i) {w : Jvm.Cond} (hw : w ∈ lw_tbl ∨ w ∈ tRefs) (hm : mvb w = true) : w.before args s = true := by
  have hal := C.w.alike
  by_cases hr : w ∈ tRefs
  · simp only [tRefs, List.mem_cons, List.not_mem_nil, or_false] at hr
    rcases hr with rfl | rfl
    · exact isr_to hal C.hp (C.b.w _ w_un) C.b.uns
    · exact isr_to hal C.hp (C.b.w _ w_se) C.b.sen
  · have hw' : w ∈ lw_tbl := by rcases hw with q | q; exact q; exact absurd q hr
    have hb := C.b.w w hw'
    have key : (w.onTables && w.keeps) = true → w.before args s = true := fun z => C.wd hw' z
    unfold mvb at hm
    split at hm
    · exact va_Nw.use rfl (va_Nw.warmC C.w (va_Nw.of rfl hb))
    · exact va_Nw.use rfl (va_Nw.warmD C.w (va_Nw.of rfl hb))
    · exact lays_to hal C.hp hb
    · simp only [Bool.or_eq_true, decide_eq_true_eq] at hm
      rcases hm with q | q
      · exact key q
      · exact absurd q hr
set_option maxHeartbeats 1000000 in
theorem k_exc (C : Ctx p l R s m meth c G d i) {n j T a : Nat} (hd : decode (mcode i) pc = .ok (.invokespecial n, 3)) (hl : lkp ctab (mown i) n = some (5, j, T)) (hLn : L.length = mloc i) (h8 : okN 8 S = true) (ha : 5 ≤ a) (ht : (h.1 a).1 = 30 + T) (k : Kt p l e R s m args below meth c Q G c0 z0 (hput h a (40 + T, (h.1 a).2)) (pc + 3) (L) (S)) : Kt p l e R s m args below meth c Q G c0 z0 (h) (pc) (L) (.ref a :: S) := fun H locs ls hR hL hq => by
  obtain ⟨q, hc⟩ := c_ok hl
  simp only [cchk, Bool.and_eq_true, decide_eq_true_eq] at hc
  obtain ⟨hT3, hc⟩ := hc
  have hv := List.all_eq_true.mp vchk_ok _ (lkp_mem hl)
  simp only [vchk, if_true, Bool.and_eq_true] at hv
  obtain ⟨hv, hcls⟩ := hv
  have hw : ∀ w ∈ Bundle.ownAtoms0 (cn (mown i)) n (en T) exs, w.before args s = true := fun w hw => by
    obtain ⟨z, hz⟩ := allz_mem hc w hw
    simp only [Bool.or_eq_true, decide_eq_true_eq] at hz
    refine C.mv ?_ (List.all_eq_true.mp hv w hw)
    rcases hz with z1 | z1
    · exact Or.inl (wat_mem z1)
    · exact Or.inr z1
  have h9 := okN_sum h8 G
  have a' : ∀ x, x ∈ Bundle.ownAtoms0 (cn (mown i)) n (en T) exs → x.holds args s none s [] = true := fun x hx => hw x hx
  have hlt : a < h.2.1 := hR.lt (by omega)
  have hcell : H[adr G a]? = some { cls := g_E G T, slots := (g_T G T).map defaultValue, vm := .none } := by
    rcases hR.2.2.1 a ha hlt with ⟨q1, q2, q3⟩ | ⟨q1, q2, q3⟩ | ⟨q1, q2, q4, q3⟩ | ⟨q1, q2, cell, q3, q4⟩
    · omega
    · omega
    · rw [ht, show 30 + T - 30 = T by omega] at q3; exact q3
    · omega
  obtain ⟨hfc0, kX0, hkX0, hkT0, -⟩ := C.b.exc T hT3
  have hfc : s.vm.findClass (en T) = some (g_E G T) := by rw [C.w.alike.findClass]; exact hfc0
  obtain ⟨kX, hkX, hkXe⟩ := C.w.alike.2.2 _ _ hkX0
  have hkT : kX.instanceTypes = g_T G T := by rw [hkXe]; exact hkT0
  have hfresh : ({ cls := g_E G T, slots := (g_T G T).map defaultValue, vm := .none } : Cell) = freshCell (g_E G T) kX := by rw [← hkT]
  rw [hfresh] at hcell
  intro W0 hT X
  have hcell : W0.heap[adr G a]? = some (freshCell (g_E G T) kX) := by rw [hT]; exact hcell
  have htr : e.platform.stackTraces = false := Launch.traces_off C.b.fl X.admits
  have howns : e.platform.frameOwnsMonitors = true := by rw [X.admits.platform]
  have hfin : e.platform.finalization = false := by rw [X.admits.platform]
  have hpl : e.platform.magicAccessors = ({} : Platform).magicAccessors := by rw [X.admits.platform]
  obtain ⟨TT, Z, L1, LZ, Y⟩ := ThrowableC.of_atoms (args := args) howns hfin hpl (fun x hx => hw x (by simp [Bundle.ownAtoms0, hx]))
  obtain ⟨P1, Ps, hlen, LP, hPs, hP1m, hlink1, hlink⟩ := Bundle.chain0 (args := args) hpl Y.init0 exs (en T) hcls fit_exs (fun x hx => hw x (by simp [Bundle.ownAtoms0, hx]))
  have hfound : s.vm.findClass (en T) = some P1.m.cls := findClass_of_methodNamed hP1m
  have eE : g_E G T = P1.m.cls := Option.some.inj (hfc.symm.trans hfound)
  rw [eE] at hcell hkX
  obtain ⟨c1, kX', hc1, hk, hord, -, -, hn6⟩ := Cond.instantiable_spec (a' (.instantiable (en T) 6) (by simp [Bundle.ownAtoms0]))
  cases Option.some.inj (hc1.symm.trans hfound)
  cases Option.some.inj (hkX.symm.trans hk)
  have hsel0 : selectMethod e.platform s.vm P1.m.cls TT.fill0 = .method TT.fill0 := by
    obtain ⟨c2, r2, m2, q1, q2, q3, q4, -⟩ := Cond.selects_spec (a' (.selects (en T) Bundle.tFill0 Bundle.tFill0) (by simp [Bundle.ownAtoms0]))
    cases Option.some.inj (q1.symm.trans hfound)
    cases Option.some.inj (q2.symm.trans (State.methodFound?_of_named Y.fill0 (by decide)))
    cases Option.some.inj (q3.symm.trans Y.fill0)
    rw [Launch.admits_selectMethod X.admits]; exact q4
  have hselF : selectMethod e.platform s.vm P1.m.cls TT.fill = .method TT.fill := by
    obtain ⟨c2, r2, m2, q1, q2, q3, q4, -⟩ := Cond.selects_spec (a' (.selects (en T) Bundle.tFill Bundle.tFill) (by simp [Bundle.ownAtoms0]))
    cases Option.some.inj (q1.symm.trans hfound)
    cases Option.some.inj (q2.symm.trans (State.methodFound?_of_named Y.fill (by decide)))
    cases Option.some.inj (q3.symm.trans Y.fill)
    rw [Launch.admits_selectMethod X.admits]; exact q4
  obtain ⟨cellS0, hcS0, hiss⟩ := Y.statics
  obtain ⟨u0, hu0⟩ := Cond.staticRefV Y.unassigned L1.unassignedStatic L1.statics hcS0 hiss (a' (.isRef (.static Bundle.tN "UNASSIGNED_STACK" Bundle.steD)) (by simp [Bundle.ownAtoms0]))
  obtain ⟨sen, hsen⟩ := Cond.staticRefV Y.sentinel L1.sentinelStatic L1.statics hcS0 hiss (a' (.isRef (.static Bundle.tN "SUPPRESSED_SENTINEL" Bundle.listD)) (by simp [Bundle.ownAtoms0]))
  obtain ⟨ci198, i198, fB, hk198, hg198, ha198, hsB, -, hnB, htB, hffB⟩ := Cond.ownField (t := .object "java/lang/Object") Y.found L1.cls (by decide +kernel) (a' (.fieldLink Bundle.tN 198 Bundle.tN "backtrace" "Ljava/lang/Object;") (by simp [Bundle.ownAtoms0])) (a' (.lays Bundle.tN Bundle.tN "backtrace" "Ljava/lang/Object;") (by simp [Bundle.ownAtoms0])) e.platform hpl
  obtain ⟨cellS, hcS', heS, -, hkeep⟩ := X.same.2.2.2.2.2 TT.aS cellS0 hcS0
  have hcellS : W0.heap[TT.aS]? = some cellS := hcS'
  have hissS : cellS.vm.isStatics = true := by rw [heS]; exact hiss
  have hout' : ∀ i, (⟨TT.aS, i⟩ : Loc) ∉ locs := fun i hmem => by
    have h1 := hR.nst (hq _ hmem) (cell := cellS) (by rw [← hT]; exact hcellS)
    rw [hissS] at h1; cases h1
  have hknownS : cellS.vm ≠ .unknown := by
    intro hu
    rw [hu] at hissS
    cases hissS
  have hneS : TT.aS ≠ adr G a := fun z => by
    rw [z] at hcellS
    cases hcellS.symm.trans hcell
    cases hissS
  obtain ⟨iM, hffM⟩ := Y.msg
  obtain ⟨tyC, dC, hdC, hdnC⟩ := Cond.laysAt hfound hk Y.cause (a' (.lays (en T) Bundle.tN "cause" "Ljava/lang/Throwable;") (by simp [Bundle.ownAtoms0]))
  obtain ⟨tyS, dS, hdS, hdnS⟩ := Cond.laysAt hfound hk Y.stack (a' (.lays (en T) Bundle.tN "stackTrace" Bundle.steD) (by simp [Bundle.ownAtoms0]))
  obtain ⟨tyP, dP, hdP, hdnP⟩ := Cond.laysAt hfound hk Y.supp (a' (.lays (en T) Bundle.tN "suppressedExceptions" Bundle.listD) (by simp [Bundle.ownAtoms0]))
  obtain ⟨tyB, dB, hdB, hdnB⟩ := Cond.laysAt hfound hk hffB (a' (.lays (en T) Bundle.tN "backtrace" "Ljava/lang/Object;") (by simp [Bundle.ownAtoms0]))
  have bC := Cond.laysApart hdB hdC hdnB hdnC (by rw [hnB, Y.causeName]; decide)
  have bS := Cond.laysApart hdB hdS hdnB hdnS (by rw [hnB, Y.stackName]; decide)
  have bP := Cond.laysApart hdB hdP hdnB hdnP (by rw [hnB, Y.suppName]; decide)
  have hskip : SkipFacts TT e.platform s (fun u => u) u0 ((preparedCellV TT.toThrowableT (freshCell P1.m.cls kX) (adr G a) u0 sen).withEntry W0.cur) :=
    ⟨{ ci198 := ci198, i198 := i198, fBack := fB }, ⟨hk198, hg198, ha198, hsB⟩, by
      have := fresh_default (c := P1.m.cls) tyB
      rw [htB] at this
      simpa [preparedCellV, Cell.setSlot, Cell.withEntry, Array.getElem?_setIfInBounds, bC, bS, bP, bC.symm, bS.symm, bP.symm, defaultValue] using this, fun _ _ => rfl⟩
  obtain ⟨tm, methC, cdC, kC, vm₁, hnC, -, -, -, -, -, -, -, hW₁, st1⟩ := Steps.initCold (tb := p.tables) (e := e) (below := below) (s := s) (U := W0) X.here C.x X.warmed hpl C.o (t := Bundle.init0 (en T)) rfl rfl (Bundle.fit_spec hcls).2
    (a' (.methodLink (cn (mown i)) n (Bundle.init0 (en T))) (by simp [Bundle.ownAtoms0])) (hw (.instanceMethod (Bundle.init0 (en T))) (by simp [exs, Bundle.ownAtoms0, Bundle.chain0Atoms, Bundle.passAtoms])) (bytes := Bundle.five) (maxL := 1) (hw (.code (Bundle.init0 (en T)) Bundle.five 1 none) (by simp [exs, Bundle.ownAtoms0, Bundle.chain0Atoms, Bundle.passAtoms]))
    (f := F0 m pc ls (.ref (adr G a) :: S.map (tr G))) rfl (a := adr G a) (rest := S.map (tr G)) rfl (by rw [C.y]; exact hd)
  cases Option.some.inj (hnC.symm.trans hP1m)
  have X₁ := X.noted hW₁
  have h3 : Ps.length = 2 := hlen
  obtain ⟨vm₂, X₂, st2⟩ := X₁.ctorPlainOffV C.x (g := F0 m pc ls (S.map (tr G))) rfl (C.szl hLn hL) TT L1 Z LZ (P1 :: Ps)
    (fun P hP => by rcases List.mem_cons.mp hP with rfl | hP; exact LP; exact hPs P hP) ⟨hlink1, hlink⟩ (u0 := u0) (sen := sen) (self := adr G a) (cell := freshCell P1.m.cls kX) (cellS := cellS)
    hcell (fun _ => by simp) (by simp) rfl rfl hsel0 hselF hcellS hneS hknownS (by rw [hkeep _ (hout' _)]; exact hu0) (by rw [hkeep _ (hout' _)]; exact hsen)
    (Takes.of_laid hk hord tyC (by rw [Y.causeType]; rfl)) (Takes.of_laid hk hord tyS (by rw [Y.stackType]; exact fits_refV_array _ u0)) (Takes.of_laid hk hord tyP (by rw [Y.suppType]; exact fits_refV_object _ sen)) Y.objLocals hskip htr [] (by rw [C.y]; exact hd)
    (by have := C.fr; simp only [List.length_cons, h3]; omega) (by have := C.lo; simp only [List.length_cons, h3]; show 2 * 0 + _ + _ ≤ _; show _ + ((S.map (tr G)).map fun v => v.category).sum + _ ≤ _; omega)
  have hltH : adr G a < H.size := by rw [← hT]; exact (Array.getElem?_eq_some_iff.mp hcell).1
  have hheap : ∀ cl : Cell, (((W0.setVm vm₁).setVm vm₂).setCell (adr G a) cl).heap = H.setIfInBounds (adr G a) cl := fun cl => by rw [← hT]; rfl
  obtain ⟨t, a1, b1⟩ := k _ _ ls (hR.put ha hlt (Or.inr (Or.inr (Or.inr ⟨show 40 ≤ 40 + T by omega, show 40 + T < 43 by omega, _, (show (H.setIfInBounds (adr G a) _)[adr G a]? = some _ by simp [Array.getElem?_setIfInBounds, hltH]; rfl), (by rw [show (40 + T, (h.1 a).2).1 - 40 = T by simp, eE]; rfl), rfl⟩))) (by simp) (fun q hq => by simp [Array.getElem?_setIfInBounds, Ne.symm hq])) hL (fun q hq' => by
      rcases List.mem_append.mp hq' with h | h
      · exact hq q h
      · have : q.base = adr G a := by
          simp only [List.mem_cons, List.not_mem_nil, or_false] at h
          rcases h with rfl | rfl | rfl | rfl <;> rfl
        rw [this, adr_new ha]
        exact Nat.le_add_right _ _) _ (hheap _) X₂
  exact ⟨t, st1 t (fun acts => by rw [doInvoke_state]; exact st2 t a1), b1⟩
end EXC
