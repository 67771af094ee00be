/-! SOUNDNESS, 6: arrays, new cells, constants, casts -/
section ARR0
variable {l : Launch} {G : Gh} {h : MH} {H : Heap}
theorem inb_ok {j : Int32} {n : Nat} (hi : inb j n = true) : ¬ j < 0 ∧ j.toNatClampNeg < n := by simpa [inb] using hi
theorem ty_at (t : Nat) (h20 : 20 ≤ t ∧ t ≤ 24) : (tysG G)[t - 20]? = some (g_A G t, aty t) := by
  obtain ⟨h1, h2⟩ := h20
  rcases (show t = 20 ∨ t = 21 ∨ t = 22 ∨ t = 23 ∨ t = 24 by omega) with rfl | rfl | rfl | rfl | rfl <;> rfl
theorem arr_of (B : Base l G) {t : Nat} (h20 : 20 ≤ t ∧ t ≤ 24) (cell : Cell) (hc : cell.cls = g_A G t) (hv : cell.vm = .none) : (g_s G).isArrayOf cell (aty t) := by
  obtain ⟨-, k, hk, comp, hkind⟩ := (B.K.2 (t - 20) _ (ty_at t h20)).1 0 (fun _ => .null)
  exact ⟨fun q z => (by rw [hv] at z; cases z), k, by rw [hc]; exact hk, comp, hkind⟩
theorem Rep.acl (B : Base l G) (hR : Rep G h H) {a t : Nat} (ht : (h.1 a).1 = t) (h20 : 20 ≤ t ∧ t ≤ 24) : acl G t (h.1 a).2 (adr G a) H := by
  rcases Nat.lt_or_ge a 5 with q | q
  · have ho := hR.2.2.2.2.2 a q
    have h3 : a = 0 ∨ a = 1 ∨ a = 3 := by
      rw [ho] at ht
      rcases (show a = 0 ∨ a = 1 ∨ a = 2 ∨ a = 3 ∨ a = 4 by omega) with rfl | rfl | rfl | rfl | rfl
      · exact Or.inl rfl
      · exact Or.inr (Or.inl rfl)
      · simp [oldc] at ht; omega
      · exact Or.inr (Or.inr rfl)
      · simp [oldc] at ht; omega
    have hb := B.oa a h3
    rw [ho] at ht ⊢
    rw [ht] at hb
    obtain ⟨cell, c1, c2⟩ := hb
    refine ⟨cell, ?_, c2⟩
    rw [adr_old q, hR.2.2.2.2.1 _ (B.rl a (by omega))]
    exact c1
  · obtain ⟨-, hc⟩ := hR.arr q ht h20
    refine ⟨_, hc, arr_of B h20 _ rfl rfl, (fun z => by cases z), ?_, ?_, fun j v hv => ?_⟩
    · simp
    · simp [nI]
    · simp [hv]
theorem mat_arr {a t : Nat} {vs : List Value} (h20 : 20 ≤ t ∧ t ≤ 24) (hc : H[adr G a]? = some { cls := g_A G t, slots := (vs.map (tr G)).toArray, vm := .none }) : mat G a (t, vs) H := Or.inr (Or.inl ⟨h20.1, h20.2, hc⟩)
theorem set_cell {t : Nat} {vs : List Value} {j : Nat} {v : Value} : ({ cls := g_A G t, slots := (vs.map (tr G)).toArray, vm := .none } : Cell).setSlot j (tr G v) = { cls := g_A G t, slots := ((vs.set j v).map (tr G)).toArray, vm := .none } := by
  simp [Cell.setSlot, List.map_set]
end ARR0
section ARR
variable {p : Program} {l : Launch} {e : Env} {R : Room} {s : State} {m : MethodId} {args : Array Value} {below : List Frame} {meth : Method} {c : Code} {Q : State → Prop} {G : Gh} {d i c0 z0 : Nat}
variable {h : MH} {pc : Nat} {L S : List Value}
theorem k_ald (C : Ctx p l R s m meth c G d i) {ins : Instr} {t a : Nat} {j : Int32} {v : Value} (hd : decode (mcode i) pc = .ok (ins, 1)) (hins : (ins = .iaload ∧ t = 20) ∨ (ins = .laload ∧ t = 21) ∨ (ins = .caload ∧ t = 22) ∨ (ins = .baload ∧ t = 23) ∨ (ins = .aaload ∧ t = 24)) (ht : (h.1 a).1 = t) (hi : inb j (h.1 a).2.length = true) (hv : (h.1 a).2[j.toNatClampNeg]? = some v) (k : Kt p l e R s m args below meth c Q G c0 z0 (h) (pc + 1) (L) (v :: S)) : Kt p l e R s m args below meth c Q G c0 z0 (h) (pc) (L) (.int j :: .ref a :: S) := fun H locs ls hR hL hq => by
  have k := k H locs ls hR hL hq
  have h20 : 20 ≤ t ∧ t ≤ 24 := by omega
  obtain ⟨cell, c1, c2, c3, c4, c5, c6⟩ := hR.acl C.b ht h20
  have c2 := State.isArrayOf_alike C.w.alike c2
  obtain ⟨i1, i2⟩ := inb_ok hi
  have hin : ¬ (j < 0 ∨ cell.slots.size ≤ j.toNatClampNeg) := by
    rintro (q | q)
    · exact i1 q
    · omega
  have hs := c6 _ v hv
  rcases hins with ⟨rfl, rfl⟩ | ⟨rfl, rfl⟩ | ⟨rfl, rfl⟩ | ⟨rfl, rfl⟩ | ⟨rfl, rfl⟩
  · exact W.iald C.x C.y c1 c2 c3 hin hs rfl rfl hd k
  · exact W.lald C.x C.y c1 c2 c3 hin hs rfl rfl hd k
  · exact W.cald C.x C.y c1 c2 c3 hin hs rfl rfl hd k
  · exact W.bald C.x C.y c1 c2 c3 hin hs rfl rfl hd k
  · exact W.aald C.x C.y c1 c2 rfl c3 hin hs rfl rfl hd k
theorem k_alen (C : Ctx p l R s m meth c G d i) {t a : Nat} (hd : decode (mcode i) pc = .ok (.arraylength, 1)) (ht : (h.1 a).1 = t) (h20 : 20 ≤ t ∧ t ≤ 24) (k : Kt p l e R s m args below meth c Q G c0 z0 (h) (pc + 1) (L) (.int (nI (h.1 a).2.length) :: S)) : Kt p l e R s m args below meth c Q G c0 z0 (h) (pc) (L) (.ref a :: S) := fun H locs ls hR hL hq => by
  obtain ⟨cell, c1, c2, c3, c4, c5, c6⟩ := hR.acl C.b ht h20
  exact W.alen C.x C.y c1 (State.isArrayOf_alike C.w.alike c2) c5 rfl rfl hd (k H locs ls hR hL hq)
/-- behind a store into a new array -/
theorem st_arr {t a : Nat} {H H' : Heap} {vs : List Value} {j : Nat} {v : Value} (hR : Rep G h H) (ha : 5 ≤ a) (hlt : a < h.2.1) (h20 : 20 ≤ t ∧ t ≤ 24) (e1 : H'[adr G a]? = some (({ cls := g_A G t, slots := (vs.map (tr G)).toArray, vm := .none } : Cell).setSlot j (tr G v))) (e2 : H'.size = H.size) (e3 : ∀ q, q ≠ adr G a → H'[q]? = H[q]?) : Rep G (hput h a (t, vs.set j v)) H' := hR.put ha hlt (mat_arr h20 (by rw [e1, set_cell])) e2 e3
theorem st_loc {a j : Nat} {locs : List Loc} (ha : 5 ≤ a) (hq : ∀ q ∈ locs, b0 G ≤ q.base) : ∀ q ∈ locs ++ [⟨adr G a, j⟩], b0 G ≤ q.base := by
  intro q hq'
  rcases List.mem_append.mp hq' with h1 | h1
  · exact hq q h1
  · rw [List.mem_singleton.mp h1]
    show b0 G ≤ adr G a
    rw [adr_new ha]; omega
theorem k_iast (C : Ctx p l R s m meth c G d i) {a : Nat} {j x : Int32} (hd : decode (mcode i) pc = .ok (.iastore, 1)) (ha : 5 ≤ a) (ht : (h.1 a).1 = 20) (hi : inb j (h.1 a).2.length = true) (k : Kt p l e R s m args below meth c Q G c0 z0 (hput h a (20, (h.1 a).2.set j.toNatClampNeg (.int x))) (pc + 1) (L) (S)) : Kt p l e R s m args below meth c Q G c0 z0 (h) (pc) (L) (.int x :: .int j :: .ref a :: S) := fun H locs ls hR hL hq => by
  obtain ⟨hlt, hc⟩ := hR.arr ha ht (by omega)
  obtain ⟨i1, i2⟩ := inb_ok hi
  exact W.iast C.x C.y hc (State.isArrayOf_alike C.w.alike (arr_of C.b (t := 20) (by omega) _ rfl rfl)) (fun z => by cases z) (by simp; exact ⟨by simpa using i1, i2⟩) rfl rfl hd (fun H' e1 e2 e3 => k H' _ ls (st_arr (v := .int x) hR ha hlt (by omega) e1 e2 e3) hL (st_loc ha hq))
theorem k_last (C : Ctx p l R s m meth c G d i) {a : Nat} {j : Int32} {x : Int64} (hd : decode (mcode i) pc = .ok (.lastore, 1)) (ha : 5 ≤ a) (ht : (h.1 a).1 = 21) (hi : inb j (h.1 a).2.length = true) (k : Kt p l e R s m args below meth c Q G c0 z0 (hput h a (21, (h.1 a).2.set j.toNatClampNeg (.long x))) (pc + 1) (L) (S)) : Kt p l e R s m args below meth c Q G c0 z0 (h) (pc) (L) (.long x :: .int j :: .ref a :: S) := fun H locs ls hR hL hq => by
  obtain ⟨hlt, hc⟩ := hR.arr ha ht (by omega)
  obtain ⟨i1, i2⟩ := inb_ok hi
  exact W.last C.x C.y hc (State.isArrayOf_alike C.w.alike (arr_of C.b (t := 21) (by omega) _ rfl rfl)) (fun z => by cases z) (by simp; exact ⟨by simpa using i1, i2⟩) rfl rfl hd (fun H' e1 e2 e3 => k H' _ ls (st_arr (v := .long x) hR ha hlt (by omega) e1 e2 e3) hL (st_loc ha hq))
theorem k_cast (C : Ctx p l R s m meth c G d i) {a : Nat} {j x : Int32} (hd : decode (mcode i) pc = .ok (.castore, 1)) (ha : 5 ≤ a) (ht : (h.1 a).1 = 22) (hi : inb j (h.1 a).2.length = true) (k : Kt p l e R s m args below meth c Q G c0 z0 (hput h a (22, (h.1 a).2.set j.toNatClampNeg (.int (vp_nar .char x)))) (pc + 1) (L) (S)) : Kt p l e R s m args below meth c Q G c0 z0 (h) (pc) (L) (.int x :: .int j :: .ref a :: S) := fun H locs ls hR hL hq => by
  obtain ⟨hlt, hc⟩ := hR.arr ha ht (by omega)
  obtain ⟨i1, i2⟩ := inb_ok hi
  exact W.cast C.x C.y hc (State.isArrayOf_alike C.w.alike (arr_of C.b (t := 22) (by omega) _ rfl rfl)) (fun z => by cases z) (by simp; exact ⟨by simpa using i1, i2⟩) rfl rfl hd (fun H' e1 e2 e3 => k H' _ ls (st_arr (v := .int (vp_nar .char x)) hR ha hlt (by omega) e1 e2 e3) hL (st_loc ha hq))
/-- an object that may lie in an Object[] -/
theorem okE_ref (C : Ctx p l R s m meth c G d i) {H : Heap} (hR : Rep G h H) {y : Nat} (hy : okE h (.ref y) = true) : ∃ (cell : Cell) (kC : Class), H[adr G y]? = some cell ∧ (∀ q, cell.vm ≠ .statics q) ∧ s.vm.classes[cell.cls]? = some kC ∧ ∀ comp, s.vm.findClass "java/lang/Object" = some comp → s.vm.assignable cell.cls comp = true := by
  simp only [okE, Bool.and_eq_true, Bool.or_eq_true, beq_iff_eq, decide_eq_true_eq] at hy
  obtain ⟨h5, ht⟩ := hy
  obtain ⟨t, ht', ht3⟩ : ∃ t, (h.1 y).1 = t ∧ t ∈ [3, 4, 5] := ⟨_, rfl, by rcases ht with (q | q) | q <;> simp [q]⟩
  have h8 : t < 8 := by simp at ht3; omega
  obtain ⟨-, -, -, cell, q1, q2, q3, -⟩ := hR.obj ht' h8
  obtain ⟨-, hfc, kC, hkC, -⟩ := (C.b.KU C.w).1 t _ (cls_at t (by omega))
  refine ⟨cell, kC, q1, fun q z => (by rw [q3] at z; cases z), by rw [q2]; exact hkC, fun comp hcm => ?_⟩
  obtain ⟨qq, hq⟩ := allz_mem jchk_ok t ht3
  obtain ⟨c1, c2, f1, f2, f3⟩ := Cond.castable_spec (va_Nw.use (A := #[]) rfl (va_Nw.warmC C.w (va_Nw.of rfl (C.b.w _ (wat_mem hq)))))
  cases hfc.symm.trans f1
  cases hcm.symm.trans f2
  rw [q2]; exact f3
theorem k_aast (C : Ctx p l R s m meth c G d i) {a y : Nat} {j : Int32} (hd : decode (mcode i) pc = .ok (.aastore, 1)) (ha : 5 ≤ a) (ht : (h.1 a).1 = 24) (hi : inb j (h.1 a).2.length = true) (hy : okE h (.ref y) = true) (k : Kt p l e R s m args below meth c Q G c0 z0 (hput h a (24, (h.1 a).2.set j.toNatClampNeg (.ref y))) (pc + 1) (L) (S)) : Kt p l e R s m args below meth c Q G c0 z0 (h) (pc) (L) (.ref y :: .int j :: .ref a :: S) := fun H locs ls hR hL hq => by
  obtain ⟨hlt, hc⟩ := hR.arr ha ht (by omega)
  obtain ⟨i1, i2⟩ := inb_ok hi
  obtain ⟨cv, kC, v1, v2, v3, v4⟩ := okE_ref C hR hy
  obtain ⟨kA, comp, k1, k2, k3, -⟩ := ((C.b.KU C.w).2 4 _ (ty_at (G := G) 24 (by omega))).2
  obtain ⟨kE, hkE, -⟩ := Vm.findClass_spec k3
  exact W.aast C.x C.y hc (fun q z => by cases z) (fun z => by cases z) k1 k2 rfl hkE ⟨i1, by simpa using i2⟩ v1 v2 v3 (v4 comp k3) rfl rfl hd (fun H' e1 e2 e3 => k H' _ ls (st_arr (v := .ref y) hR ha hlt (by omega) e1 e2 e3) hL (st_loc ha hq))
theorem k_newa (C : Ctx p l R s m meth c G d i) {at_ : ArrayType} {t : Nat} {v : Value} {n : Int32} (hd : decode (mcode i) pc = .ok (.newarray at_, 2)) (hn : ¬ n < 0) (hm : n.toNatClampNeg ≤ 100000) (hat : (at_ = .int ∧ t = 20 ∧ v = .int 0) ∨ (at_ = .long ∧ t = 21 ∧ v = .long 0) ∨ (at_ = .char ∧ t = 22 ∧ v = .int 0)) (hc0 : c0 ≤ h.2.1) (hz0 : z0 ≤ h.2.2) (h1 : h.2.1 + 1 - c0 ≤ R.cells) (h2 : h.2.2 + n.toNatClampNeg - z0 ≤ R.slots) (k : Kt p l e R s m args below meth c Q G c0 z0 (hnew h (t, List.replicate n.toNatClampNeg v)) (pc + 2) (L) (.ref h.2.1 :: S)) : Kt p l e R s m args below meth c Q G c0 z0 (h) (pc) (L) (.int n :: S) := fun H locs ls hR hL hq => by
  have hw : (Jvm.Cond.arrayClass (newarray.typeOf at_)).before args s = true := by
    rcases hat with ⟨rfl, -⟩ | ⟨rfl, -⟩ | ⟨rfl, -⟩
    · exact word_at C.w (Or.inr ⟨_, rfl⟩) (C.b.w _ w_ai)
    · exact word_at C.w (Or.inr ⟨_, rfl⟩) (C.b.w _ w_al)
    · exact word_at C.w (Or.inr ⟨_, rfl⟩) (C.b.w _ w_ac)
  have hb : n.toNatClampNeg * componentBytes (newarray.typeOf at_) ≤ 536870912 := by
    rcases hat with ⟨rfl, -⟩ | ⟨rfl, -⟩ | ⟨rfl, -⟩
    · show n.toNatClampNeg * 4 ≤ _; omega
    · show n.toNatClampNeg * 8 ≤ _; omega
    · show n.toNatClampNeg * 2 ≤ _; omega
  have h20 : 20 ≤ t ∧ t ≤ 24 := by omega
  refine W.newa C.x C.y hw rfl hd rfl hn hb (by omega) (by omega) (fun cA kA comp f1 f2 f3 => ?_)
  have eA : cA = g_A G t := by
    have hra := ((C.b.KU C.w).2 (t - 20) _ (ty_at (G := G) t h20)).2
    rcases hat with ⟨rfl, rfl, -⟩ | ⟨rfl, rfl, -⟩ | ⟨rfl, rfl, -⟩ <;> exact Option.some.inj (f1.symm.trans hra)
  have ev : defaultValue (newarray.typeOf at_) = v := by rcases hat with ⟨rfl, -, rfl⟩ | ⟨rfl, -, rfl⟩ | ⟨rfl, -, rfl⟩ <;> rfl
  have etr : tr G v = v := by rcases hat with ⟨-, -, rfl⟩ | ⟨-, -, rfl⟩ | ⟨-, -, rfl⟩ <;> rfl
  subst eA
  rw [ev]
  have e1 : h.2.1 - c0 + 1 = (hnew h (t, List.replicate n.toNatClampNeg v)).2.1 - c0 := by show _ = h.2.1 + 1 - c0; omega
  have e2 : h.2.2 - z0 + n.toNatClampNeg = (hnew h (t, List.replicate n.toNatClampNeg v)).2.2 - z0 := by show _ = h.2.2 + (List.replicate n.toNatClampNeg v).length - z0; rw [List.length_replicate]; omega
  rw [e1, e2, ← hR.nextAt]
  refine k _ locs ls (hR.new (mat_arr h20 ?_) (by simp) (fun q hq => ?_)) hL hq
  · rw [hR.nextAt, Array.getElem?_push_size]
    simp [etr]
  · rw [Array.getElem?_push, if_neg (by omega)]
theorem k_anew (C : Ctx p l R s m meth c G d i) {w n' : Nat} {n : Int32} (hd : decode (mcode i) pc = .ok (.anewarray n', 3)) (hl : lkp atab (mown i) n' = some w) (hn : ¬ n < 0) (hm : n.toNatClampNeg ≤ 100000) (hc0 : c0 ≤ h.2.1) (hz0 : z0 ≤ h.2.2) (h1 : h.2.1 + 1 - c0 ≤ R.cells) (h2 : h.2.2 + n.toNatClampNeg - z0 ≤ R.slots) (k : Kt p l e R s m args below meth c Q G c0 z0 (hnew h (24, List.replicate n.toNatClampNeg .null)) (pc + 3) (L) (.ref h.2.1 :: S)) : Kt p l e R s m args below meth c Q G c0 z0 (h) (pc) (L) (.int n :: S) := fun H locs ls hR hL hq => by
  obtain ⟨qq, hq1⟩ := allz_mem achk_ok _ (lkp_mem hl)
  have hao : va_AO "java/lang/Object" s := va_AO.moved C.w.alike (va_AO.of (C.b.w _ w_ao))
  refine W.anew C.x C.y C.o (C.wd (wat_mem hq1) rfl) (va_AO.use hao) rfl hd rfl hn (by omega) (by omega) (by omega) (fun cA kA comp f1 f2 f3 f4 => ?_)
  have eA : cA = g_A G 24 := by
    obtain ⟨-, -, -, -, -, hra⟩ := ((C.b.KU C.w).2 4 _ (ty_at (G := G) 24 (by omega))).2
    exact Option.some.inj (f1.symm.trans hra)
  subst eA
  have e1 : h.2.1 - c0 + 1 = (hnew h (24, List.replicate n.toNatClampNeg .null)).2.1 - c0 := by show _ = h.2.1 + 1 - c0; omega
  have e2 : h.2.2 - z0 + n.toNatClampNeg = (hnew h (24, List.replicate n.toNatClampNeg .null)).2.2 - z0 := by show _ = h.2.2 + (List.replicate n.toNatClampNeg Value.null).length - z0; rw [List.length_replicate]; omega
  rw [e1, e2, ← hR.nextAt]
  refine k _ locs ls (hR.new (mat_arr (by omega) ?_) (by simp) (fun q hq => ?_)) hL hq
  · rw [hR.nextAt, Array.getElem?_push_size]
    simp [tr]
  · rw [Array.getElem?_push, if_neg (by omega)]
theorem k_new (C : Ctx p l R s m meth c G d i) {n t : Nat} (hd : decode (mcode i) pc = .ok (.new n, 3)) (hl : lkp ntab (mown i) n = some t) (h8 : t < 8) (hc0 : c0 ≤ h.2.1) (hz0 : z0 ≤ h.2.2) (h1 : h.2.1 + 1 - c0 ≤ R.cells) (h2 : h.2.2 + (dfl t).length - z0 ≤ R.slots) (k : Kt p l e R s m args below meth c Q G c0 z0 (hnew h (t, dfl t)) (pc + 3) (L) (.ref h.2.1 :: S)) : Kt p l e R s m args below meth c Q G c0 z0 (h) (pc) (L) (S) := fun H locs ls hR hL hq => by
  have h9 : t < 9 := by omega
  obtain ⟨qq, hq1⟩ := allz_mem nchk_ok _ (lkp_mem hl)
  simp only [nchk, h8, if_true, Bool.and_eq_true] at hq1
  have hlen := o_len h9
  obtain ⟨hS, hfc, kC0, hkC0, hkind⟩ := (C.b.KU C.w).1 t _ (cls_at t h9)
  refine W.newcK C.x C.y C.o (C.wd (wat_mem hq1.1.1) rfl) (C.wd (wat_mem hq1.1.2) rfl) (C.wd (wat_mem hq1.2) rfl) rfl hd (by omega) (by omega) hfc rfl (fun H' kC hkC e1 e2 e3 => ?_)
  have e4 : h.2.1 - c0 + 1 = (hnew h (t, dfl t)).2.1 - c0 := by show _ = h.2.1 + 1 - c0; omega
  have e5 : h.2.2 - z0 + NF t = (hnew h (t, dfl t)).2.2 - z0 := by show _ = h.2.2 + (dfl t).length - z0; omega
  rw [e4, e5, ← hR.nextAt]
  refine k H' locs ls (hR.new (Or.inl ⟨h8, hlen, ?_⟩) e2 e3) hL hq
  rw [hR.nextAt]
  have hb := u_born (args := args) (s := s) (ws := u_ws (on t) (FT t) (NF t)) (fty t) (fun w hw => C.wd (o_words h9 w hw).1 (o_words h9 w hw).2) (fun w hw => hw) ((C.b.KU C.w).1 t _ (cls_at t h9)) hkC e1 (o_ty h9)
  refine t_OB.to hb (fun j hj => ?_)
  show _ = vp_V ((dfl t).map (tr G)) j
  rw [o_dfl h9]
  have hd0 : ∀ ty : FieldType, tr G (defaultValue ty) = defaultValue ty := fun ty => by cases ty <;> rfl
  simp [vp_V, hj, hd0]
theorem k_newX (C : Ctx p l R s m meth c G d i) {n t : Nat} (hd : decode (mcode i) pc = .ok (.new n, 3)) (hl : lkp ntab (mown i) n = some t) (h30 : 30 ≤ t ∧ t < 33) (hc0 : c0 ≤ h.2.1) (hz0 : z0 ≤ h.2.2) (h1 : h.2.1 + 1 - c0 ≤ R.cells) (h2 : h.2.2 + 6 - z0 ≤ R.slots) (k : Kt p l e R s m args below meth c Q G c0 z0 (hnew h (t, List.replicate 6 .null)) (pc + 3) (L) (.ref h.2.1 :: S)) : Kt p l e R s m args below meth c Q G c0 z0 (h) (pc) (L) (S) := fun H locs ls hR hL hq => by
  obtain ⟨qq, hq1⟩ := allz_mem nchk_ok _ (lkp_mem hl)
  have h8 : ¬ t < 8 := by omega
  simp only [nchk, h8, if_false, Bool.and_eq_true] at hq1
  obtain ⟨hfc0, kX, hkX, hkT, hsz⟩ := C.b.exc (t - 30) (by omega)
  have hfc : s.vm.findClass (en (t - 30)) = some (g_E G (t - 30)) := by rw [C.w.alike.findClass]; exact hfc0
  refine W.newcK C.x C.y C.o (C.wd (wat_mem hq1.1.1.2) rfl) (C.wd (wat_mem hq1.1.2) rfl) (C.wd (wat_mem hq1.2) rfl) rfl hd (by omega) (by omega) hfc rfl (fun H' kC hkC e1 e2 e3 => ?_)
  have e4 : h.2.1 - c0 + 1 = (hnew h (t, List.replicate 6 .null)).2.1 - c0 := by show _ = h.2.1 + 1 - c0; omega
  have e5 : h.2.2 - z0 + 6 = (hnew h (t, List.replicate 6 .null)).2.2 - z0 := by show _ = h.2.2 + 6 - z0; omega
  rw [e4, e5, ← hR.nextAt]
  refine k H' locs ls (hR.new (Or.inr (Or.inr (Or.inl ⟨h30.1, h30.2, rfl, ?_⟩))) e2 e3) hL hq
  rw [hR.nextAt, e1]
  obtain ⟨k', hk', he⟩ := C.w.alike.2.2 _ _ hkX
  cases hkC.symm.trans hk'
  have e6 : kC.instanceTypes = g_T G (t - 30) := by rw [he]; exact hkT
  simp [blank, e6]
theorem k_gets (C : Ctx p l R s m meth c G d i) {n : Nat} {v : Value} (hd : decode (mcode i) pc = .ok (.getstatic n, 3)) (hl : lkp stab (mown i) n = some v) (k : Kt p l e R s m args below meth c Q G c0 z0 (h) (pc + 3) (L) (v :: S)) : Kt p l e R s m args below meth c Q G c0 z0 (h) (pc) (L) (S) := fun H locs ls hR hL hq => by
  have k := k H locs ls hR hL hq
  obtain ⟨qq, hq1⟩ := allz_mem schk_ok _ (lkp_mem hl)
  simp only [Bool.or_eq_true, Bool.and_eq_true, decide_eq_true_eq] at hq1
  have key : ∀ (Cn nm ds : String) (w : Value), va_Z Cn nm ds w (oldA G) (g_s G) (g_s G).heap → (Jvm.Cond.fieldLink (cn (mown i)) n Cn nm ds) ∈ lw_tbl → tr G v = w → W p l e R s m args below meth c H locs (h.2.1 - c0) (h.2.2 - z0) Q (F0 m pc ls (S.map (tr G))) := by
    intro Cn nm ds w hZ hw ev
    obtain ⟨cf, kf, fi, f, a, cell, s1, s2, s3, s4, s5, s6, s7, s8⟩ := va_Z.moved (U := s) C.w.alike hZ
    have ha : a < b0 G := (Array.getElem?_eq_some_iff.mp s5).1
    refine W.gets C.x C.y C.o (C.wd hw rfl) s1 s2 s3 s4 ((hR.2.2.2.2.1 a ha).trans s5) (fun z => by rw [z] at s6; cases s6) s7 rfl hd ?_
    rw [← ev]; exact k
  rcases hq1 with ⟨rfl, q⟩ | ⟨rfl, q⟩
  · exact key _ _ _ _ C.b.emp (wat_mem q) rfl
  · exact key _ _ _ _ C.b.cmp (wat_mem q) rfl
theorem k_ldcI (C : Ctx p l R s m meth c G d i) {n : Nat} {x : Int32} (hd : decode (mcode i) pc = .ok (.ldc n, 2)) (hl : lkp ktab (mown i) n = some (.int x)) (k : Kt p l e R s m args below meth c Q G c0 z0 (h) (pc + 2) (L) (.int x :: S)) : Kt p l e R s m args below meth c Q G c0 z0 (h) (pc) (L) (S) := fun H locs ls hR hL hq => by
  obtain ⟨qq, hq1⟩ := allz_mem kchk_ok _ (lkp_mem hl)
  exact lv_ldc C.x C.y C.o (C.wd (wat_mem hq1) rfl) hd (k H locs ls hR hL hq)
theorem k_ldcL (C : Ctx p l R s m meth c G d i) {n : Nat} {x : Int64} (hd : decode (mcode i) pc = .ok (.ldc2_w n, 3)) (hl : lkp ktab (mown i) n = some (.long x)) (k : Kt p l e R s m args below meth c Q G c0 z0 (h) (pc + 3) (L) (.long x :: S)) : Kt p l e R s m args below meth c Q G c0 z0 (h) (pc) (L) (S) := fun H locs ls hR hL hq => by
  obtain ⟨qq, hq1⟩ := allz_mem kchk_ok _ (lkp_mem hl)
  exact lv_ldc2 C.x C.y C.o (C.wd (wat_mem hq1) rfl) hd (k H locs ls hR hL hq)
theorem k_ldcA (C : Ctx p l R s m meth c G d i) {n x : Nat} (hd : decode (mcode i) pc = .ok (.ldc n, 2)) (hl : lkp ktab (mown i) n = some (.ref x)) (k : Kt p l e R s m args below meth c Q G c0 z0 (h) (pc + 2) (L) (.ref x :: S)) : Kt p l e R s m args below meth c Q G c0 z0 (h) (pc) (L) (S) := fun H locs ls hR hL hq => by
  have k := k H locs ls hR hL hq
  obtain ⟨qq, hq1⟩ := allz_mem kchk_ok _ (lkp_mem hl)
  simp only [kchk, Bool.or_eq_true, Bool.and_eq_true, decide_eq_true_eq] at hq1
  rcases hq1 with ⟨rfl, q⟩ | ⟨rfl, q⟩
  · obtain ⟨e1, e2⟩ := Prod.mk.inj q
    subst e2
    have ho := C.o
    rw [e1] at ho
    exact va_ldcS C.x C.y ho (vk_R.warm C.w C.b.lit) hd k
  · exact va_ldcM C.x C.y C.o (C.wd (wat_mem q) rfl) (va_Mi.moved C.w.alike C.b.mir) hd k
theorem k_ccast (C : Ctx p l R s m meth c G d i) {n t a : Nat} (hd : decode (mcode i) pc = .ok (.checkcast n, 3)) (hl : lkp xtab (mown i) n = some t) (ha : 5 ≤ a) (ht : (h.1 a).1 = t) (k : Kt p l e R s m args below meth c Q G c0 z0 (h) (pc + 3) (L) (.ref a :: S)) : Kt p l e R s m args below meth c Q G c0 z0 (h) (pc) (L) (.ref a :: S) := fun H locs ls hR hL hq => by
  have k := k H locs ls hR hL hq
  obtain ⟨qq, hq1⟩ := allz_mem xchk_ok _ (lkp_mem hl)
  simp only [Bool.or_eq_true, Bool.and_eq_true, decide_eq_true_eq] at hq1
  rcases hq1 with ⟨h8, q⟩ | ⟨rfl, q⟩
  · obtain ⟨-, -, -, cell, q1, q2, q3, -⟩ := hR.obj ht h8
    have hcl := ((C.b.KU C.w).1 t _ (cls_at t (by omega))).2
    exact va_castS C.x C.y C.o (C.wd (wat_mem q) rfl) hcl ⟨cell, q1, by rw [q3]; rfl, by rw [q2]; exact hcl.1⟩ hd k
  · obtain ⟨hlt, hc⟩ := hR.arr ha ht (by omega)
    have hnm : s.vm.findClass "[I" = some (g_A G 20) := va_nm_int ((C.b.KU C.w).2 0 _ (ty_at (G := G) 20 (by omega))).2
    intro T hT X
    obtain ⟨vm', X', st⟩ := X.checkcastYes C.x C.o (C.wd (wat_mem q) rfl) (by rw [hT]; exact hc) rfl hnm (va_asg _ _) (g := F0 m pc ls (.ref (adr G a) :: S.map (tr G))) rfl rfl (by rw [C.y]; exact hd)
    obtain ⟨t, a1, b1⟩ := k (T.setVm vm') hT X'
    exact ⟨t, st t a1, b1⟩
end ARR
