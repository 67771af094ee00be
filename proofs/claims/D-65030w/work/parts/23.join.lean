/-! THE JOIN: the claim out of a run of the mini machine -/
def h0 (xs : List Int32) : MH := (fun a => if a < 5 then oldc xs a else (99, []), 5, 0)
/-- WHAT IS LEFT, in plain Lean: the mini machine's run of the law -/
def LawOk : Prop := ∀ xs : List Int32, xs.length ≤ 2560 → ∃ h' : MH, run 900 0 0 [.ref 0, .null, .null, .null, .null, .null, .null, .null] [] (h0 xs) = some (.inl (some (.int 1)), h') ∧ h'.2.1 ≤ 603077 ∧ h'.2.2 ≤ 7207018
def lw_P (b : Addr) (xs : List Int32) (args : Array Value) (s : State) : Prop := args = #[.ref b] ∧ s.IntsAt b xs ∧ xs.length ≤ 2560 ∧ (Jvm.Cond.and given_1 narrow_1).before args s = true
def lw_Q (_ : Array Value) (s : State) (o : Outcome) (t : State) : Prop := o = .returned (some (.int 1)) ∧ Framed s o t [] 603072 7207018
def lw_Z (below : List Frame) (a : Array Value) (s : State) : State → Prop := fun t => ∃ o, t.status = .running ∧ Ended t below o ∧ lw_Q a s o t
theorem rep0 {l : Launch} {G : Gh} (hB : Base l G) : Rep G (h0 (g_x G)) (g_s G).heap := by
  refine ⟨Nat.le_refl _, ?_, fun a h1 h2 => absurd h2 (Nat.not_lt.mpr h1), fun a ha => ?_, fun q hq => rfl, fun a ha => ?_⟩
  · show (g_s G).heap.size = (g_s G).heap.size + (5 - 5); omega
  · show (if a < 5 then oldc (g_x G) a else (99, [])).1 = 99
    rw [if_neg (Nat.not_lt.mpr (show 5 ≤ a from ha))]
  · show (if a < 5 then oldc (g_x G) a else (99, [])) = _
    rw [if_pos ha]
theorem mh0 : mhan 0 = [] := by decide +kernel
theorem ml0 : mloc 0 = 8 := by decide +kernel
theorem mn0 : (mnam 0).name = "law" := by decide +kernel
theorem mo0 : cn (mown 0) = "RopeClosuresLaw" := by decide +kernel
theorem whole_start (hP : LawOk) {p : Program} {e : Env} {s : State} {m : MethodId} {below : List Frame} {meth : Method} {c : Code} (l : Launch) {b L : Nat} {xs : Nat → Int32} (hfl : l.flags = flags0) (hL : L ≤ 2560) (hx : p.tables.exec = Jvm.exec) (hb : c.code = code) (hr : meth.sig.returnType = ret) (hml : c.maxLocals = 8) (hown : s.vm.findClass "RopeClosuresLaw" = some m.cls) (hts : ∀ w ∈ lw_tbl, w.before #[Value.ref b] s = true) (hX : va_X b L xs s s.heap) (hlk : meth.locks = false) (hg : (Jvm.Cond.and given_1 narrow_1).before #[Value.ref b] s = true) (hxt : c.exceptionTable.isEmpty = true) (hnm : meth.name = "law") :
    W p l e room_1 s m #[Value.ref b] below meth c s.heap [] 0 0 (lw_Z below #[Value.ref b] s) (entryFrame m ([Value.ref b] : List Value).toArray 8) := by
  obtain ⟨G, gs, gr, gx, hB⟩ := base0 (l := l) hfl hL hts hX hg
  obtain ⟨h', hrun, hc, hz⟩ := hP (g_x G) (by rw [gx]; simpa using hL)
  obtain ⟨n, hn⟩ := run_iff.mp hrun
  have hR := rep0 hB
  subst gs
  have hC : Ctx p l room_1 (g_s G) m meth c G 900 0 := ⟨hB, hx, hb, hml.trans ml0.symm, hr, hlk, by rw [mo0]; exact hown, State.WarmedH.refl _, by rw [mh0]; have : c.exceptionTable = #[] := by simpa using hxt
                                                                                                                                                   rw [this]; rfl, hnm.trans mn0.symm, by decide, by decide, Nat.le_refl _, fun q hq => rfl⟩
  have K := snd n 900 0 0 _ [] (h0 (g_x G)) h' _ hn p l e room_1 (g_s G) m #[Value.ref b] below meth c G 5 0 hC ml0.symm (Nat.le_refl _) (Nat.le_refl _) (by show h'.2.1 - 5 ≤ 603072; omega) (by show h'.2.2 - 0 ≤ 7207018; omega)
  have hlr : lrel G ((lg_sl ([Value.ref b] : List Value) ++ List.replicate (8 - (lg_sl ([Value.ref b] : List Value)).length) Slot.unset).toArray) [.ref 0, .null, .null, .null, .null, .null, .null, .null] := by
    have hE := lv_entry ([Value.ref b] : List Value) (n := 8) (by simp [lg_sl, Value.category])
    refine ⟨hE.1, hE.2.1, fun k v hk hv => ?_⟩
    match k, hk with
    | 0, hk =>
      cases hk
      have := hE.2.2 (0, .ref b) (by simp [lv_args])
      rw [this]
      show some (Slot.val (.ref b)) = some (Slot.val (.ref (adr G 0)))
      rw [adr_old (by omega), gr]
    | 1, hk => cases hk; exact absurd rfl hv
    | 2, hk => cases hk; exact absurd rfl hv
    | 3, hk => cases hk; exact absurd rfl hv
    | 4, hk => cases hk; exact absurd rfl hv
    | 5, hk => cases hk; exact absurd rfl hv
    | 6, hk => cases hk; exact absurd rfl hv
    | 7, hk => cases hk; exact absurd rfl hv
    | k + 8, hk => cases hk
  intro T hT X
  rw [lg_entry_eq]
  obtain ⟨t, a1, o, b1, b2, b3, b4, LL, ⟨b5, b6⟩, b7⟩ := K (g_s G).heap [] _ hR hlr (fun q hq => by cases hq) T hT X
  have b3 : o = .returned (some (.int 1)) := b3
  subst b3
  refine ⟨t, a1, _, b1, b2, rfl, ⟨_, rfl⟩, b5, b6.weaken (fun x hx hlt => ?_) (by omega) (by omega)⟩
  exact absurd hlt (Nat.not_lt.mpr (b7 x hx))
