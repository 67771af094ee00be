/-! SOUNDNESS, 6: the natives and Object's constructor -/
theorem okN_sum : ∀ {n : Nat} {S : List Value}, okN n S = true → ∀ G : Gh, ((S.map (tr G)).map fun v => v.category).sum ≤ n
  | _, [], _, _ => Nat.zero_le _
  | n, v :: S, h, G => by
    simp only [okN, Bool.and_eq_true, decide_eq_true_eq] at h
    have := okN_sum h.2 G
    simp only [List.map_cons, List.sum_cons, tr_cat]
    omega
section NAT
variable {p : Program} {l : Launch} {e : Env} {R : Room} {s : State} {m : MethodId} {args : Array Value} {below : List Frame} {meth : Method} {c : Code} {Q : State → Prop} {G : Gh} {d i c0 z0 : Nat}
variable {h : MH} {pc : Nat} {L S : List Value}
theorem Ctx.szl (C : Ctx p l R s m meth c G d i) (hLn : L.length = mloc i) {ls : Array Slot} (hl : lrel G ls L) : ls.size = c.maxLocals := by rw [hl.1, hLn, C.ml]
theorem k_obj (C : Ctx p l R s m meth c G d i) {n j T a : Nat} (hd : decode (mcode i) pc = .ok (.invokespecial n, 3)) (hl : lkp ctab (mown i) n = some (4, j, T)) (hLn : L.length = mloc i) (h8 : okN 8 S = true) (k : Kt p l e R s m args below meth c Q G c0 z0 (h) (pc + 3) (L) (S)) : Kt p l e R s m args below meth c Q G c0 z0 (h) (pc) (L) (.ref a :: S) := fun H locs ls hR hL hq => by
  obtain ⟨q, hc⟩ := c_ok hl
  simp only [cchk, Bool.and_eq_true] at hc
  have h9 := okN_sum h8 G
  exact W.objInit C.x C.y C.o (C.wd (wat_mem hc.1.1) rfl) (C.wd (wat_mem hc.1.2) rfl) (C.wd (wat_mem hc.2) rfl) (g := F0 m pc ls (.ref (adr G a) :: S.map (tr G))) rfl (C.szl hLn hL) rfl hd (by have := C.fr; omega) (by have := C.lo; show 2 * 0 + _ + 12 ≤ _; omega) (k H locs ls hR hL hq)
theorem k_gcls (C : Ctx p l R s m meth c G d i) {n j T a : Nat} (hd : decode (mcode i) pc = .ok (.invokevirtual n, 3)) (hl : lkp ctab (mown i) n = some (8, j, T)) (hLn : L.length = mloc i) (h8 : okN 8 S = true) (ha : 5 ≤ a) (ht : (h.1 a).1 = 24) (k : Kt p l e R s m args below meth c Q G c0 z0 (h) (pc + 3) (L) (.ref 4 :: S)) : Kt p l e R s m args below meth c Q G c0 z0 (h) (pc) (L) (.ref a :: S) := fun H locs ls hR hL hq => by
  obtain ⟨q, hc⟩ := c_ok hl
  simp only [cchk, Bool.and_eq_true] at hc
  have h9 := okN_sum h8 G
  obtain ⟨hlt, hcell⟩ := hR.arr ha ht (by omega)
  have hnm : s.vm.findClass "[Ljava/lang/Object;" = some (g_A G 24) := va_nmO ((C.b.KU C.w).2 4 _ (ty_at (G := G) 24 (by omega))).2 rfl
  have hdc : (Cond.declares getCl).before args s = true := va_Dc.use (va_Dc.moved C.w.alike (va_Dc.of (C.b.w _ (wat_mem hc.1.1.1.2))))
  exact va_getC (mi := g_r G 4) C.x C.y (C.szl hLn hL).symm C.o (C.wd (wat_mem hc.1.1.1.1) rfl) hdc (C.wd (wat_mem hc.1.1.2) rfl) (C.wd (wat_mem hc.1.2) rfl) (C.wd (wat_mem hc.2) rfl) (va_Mi.moved C.w.alike C.b.mir) ⟨_, hcell, rfl, hnm⟩ (by have := C.fr; omega) (by have := C.lo; omega) hd (k H locs ls hR hL hq)
theorem arr_arrV (G : Gh) (cA : ClassId) (vs : List Value) : ({ cls := cA, slots := (vs.map (tr G)).toArray, vm := .none } : Cell) = arrV cA vs.length (fun j => tr G (vs.getD j .null)) := by
  unfold arrV
  congr 1
  apply Array.ext
  · simp
  · intro q h1 h2
    simp at h1
    simp [List.getD_eq_getElem?_getD, h1]
theorem cpy_arrV (G : Gh) (cA : ClassId) (xs ys : List Value) (sp dp n : Nat) : ({ cls := cA, slots := ((cpyL xs ys sp dp n).map (tr G)).toArray, vm := .none } : Cell) = arrV cA ys.length (fun j => tr G (va_cpy (fun j => xs.getD j .null) (fun j => ys.getD j .null) sp dp n j)) := by
  rw [arr_arrV]
  have e : (cpyL xs ys sp dp n).length = ys.length := by simp [cpyL]
  rw [e]
  unfold arrV
  congr 2
  funext j
  have : (cpyL xs ys sp dp n).getD j.val .null = va_cpy (fun j => xs.getD j .null) (fun j => ys.getD j .null) sp dp n j.val := by
    have hj := j.isLt
    simp [cpyL, va_cpy, List.getD_eq_getElem?_getD]
  exact congrArg (tr G) this
theorem nn32 (z : Int32) (hz : ¬ z < 0) : z.toInt = (z.toNatClampNeg : Int) := by
  have hz0 : (0 : Int) ≤ z.toInt := by
    have := Int32.not_lt.mp hz
    simpa using Int32.le_iff_toInt_le.mp this
  show z.toInt = ((z.toInt.toNat : Nat) : Int)
  omega
theorem nfw : nativeFrameWords "java/lang/System" "arraycopy" 5 ≤ 150 := by decide +kernel
theorem k_copy (C : Ctx p l R s m meth c G d i) {n j T a b : Nat} {sp dp z : Int32} (hd : decode (mcode i) pc = .ok (.invokestatic n, 3)) (hl : lkp ctab (mown i) n = some (6, j, T)) (hLn : L.length = mloc i) (h8 : okN 8 S = true) (ha : 5 ≤ a) (hb : 5 ≤ b) (hta : (h.1 a).1 = 24) (htb : (h.1 b).1 = 24) (h3 : ¬ z < 0) (h2 : ¬ dp < 0) (h1 : ¬ sp < 0) (h4 : sp.toNatClampNeg + z.toNatClampNeg ≤ (h.1 a).2.length) (h5 : dp.toNatClampNeg + z.toNatClampNeg ≤ (h.1 b).2.length) (hel : (h.1 a).2.all (okE h) = true) (k : Kt p l e R s m args below meth c Q G c0 z0 (hput h b (24, cpyL (h.1 a).2 (h.1 b).2 sp.toNatClampNeg dp.toNatClampNeg z.toNatClampNeg)) (pc + 3) (L) (S)) : Kt p l e R s m args below meth c Q G c0 z0 (h) (pc) (L) (.int z :: .int dp :: .ref b :: .int sp :: .ref a :: S) := fun H locs ls hR hL hq => by
  obtain ⟨q, hc⟩ := c_ok hl
  simp only [cchk, Bool.and_eq_true] at hc
  have h9 := okN_sum h8 G
  obtain ⟨hla, hca⟩ := hR.arr ha hta (by omega)
  obtain ⟨hlb, hcb⟩ := hR.arr hb htb (by omega)
  rw [arr_arrV] at hca hcb
  obtain ⟨kA, comp, k1, k2, k3, -⟩ := ((C.b.KU C.w).2 4 _ (ty_at (G := G) 24 (by omega))).2
  obtain ⟨kE, hkE, -⟩ := Vm.findClass_spec k3
  intro X hT X0
  obtain ⟨vm', X', step⟩ := X0.arraycopy C.x C.o (C.wd (wat_mem hc.1.1.1) rfl) (C.wd (wat_mem hc.1.1.2) rfl) (C.wd (wat_mem hc.1.2) rfl) (C.wd (wat_mem hc.2) rfl) (src := adr G a) (dst := adr G b) (srcPos := sp) (destPos := dp) (n := z) (by rw [hT]; exact hca) (by rw [hT]; exact hcb)
    (fun _ h => by cases h) (fun _ h => by cases h) (fun h => by cases h) (fun h => by cases h) k1 k1 k2 k2 rfl h1 h2 h3
    (by rw [nn32 sp h1, nn32 z h3, arrV_size]; omega)
    (by rw [nn32 dp h2, nn32 z h3, arrV_size]; omega)
    (fun vm₁ hal j hj => by
      have e : (arrV (g_A G 24) (h.1 a).2.length (fun j => tr G ((h.1 a).2.getD j .null))).slots.getD (sp.toNatClampNeg + j) .null = tr G ((h.1 a).2.getD (sp.toNatClampNeg + j) .null) := by
        rw [Array.getD_eq_getD_getElem?, arrV_read _ _ (by omega)]
        rfl
      rw [e]
      have hin : sp.toNatClampNeg + j < (h.1 a).2.length := by omega
      have hm : okE h ((h.1 a).2.getD (sp.toNatClampNeg + j) .null) = true := by
        refine List.all_eq_true.mp hel _ ?_
        rw [List.getD_eq_getElem?_getD, List.getElem?_eq_getElem hin]
        exact List.getElem_mem hin
      generalize (h.1 a).2.getD (sp.toNatClampNeg + j) .null = v at hm
      cases v with
      | null => exact ⟨rfl, trivial⟩
      | ref y =>
        obtain ⟨cv, kC, v1, v2, v3, v4⟩ := okE_ref C hR hm
        obtain ⟨kC', hkC', -⟩ := hal.2.2 _ _ v3
        obtain ⟨kE', hkE', -⟩ := hal.2.2 _ _ hkE
        refine ⟨rfl, cv, (show X.heap[adr G y]? = some cv by rw [hT]; exact v1), v2, ⟨kC', hkC'⟩, ⟨kE', hkE'⟩, ?_⟩
        show vm₁.assignable _ _ = true
        rw [hal.assignable]
        exact v4 _ k3
      | _ => simp [okE] at hm)
    (g := F0 m pc ls (.int z :: .int dp :: .ref (adr G b) :: .int sp :: .ref (adr G a) :: S.map (tr G))) rfl (C.szl hLn hL) (rest := S.map (tr G)) rfl (by rw [C.y]; exact hd) (by have := C.fr; omega) (by have := C.lo; have := nfw; show 2 * 0 + _ + _ ≤ _; omega)
  have e1 : copied (arrV (g_A G 24) (h.1 a).2.length (fun j => tr G ((h.1 a).2.getD j .null))) (arrV (g_A G 24) (h.1 b).2.length (fun j => tr G ((h.1 b).2.getD j .null))) sp dp z = { cls := g_A G 24, slots := ((cpyL (h.1 a).2 (h.1 b).2 sp.toNatClampNeg dp.toNatClampNeg z.toNatClampNeg).map (tr G)).toArray, vm := .none } := by
    rw [cpy_arrV]
    exact va_copied (fun v => tr G v) (g_A G 24) (g_A G 24) _ _ h4
  rw [e1] at X' step
  have hlt : adr G b < H.size := (Array.getElem?_eq_some_iff.mp hcb).1
  have hheap : ∀ cl : Cell, ((X.setVm vm').setCell (adr G b) cl).heap = H.setIfInBounds (adr G b) cl := fun cl => by rw [← hT]; rfl
  obtain ⟨t, a1, b1⟩ := k _ _ ls (hR.put hb hlb (mat_arr (by omega) (show (H.setIfInBounds (adr G b) _)[adr G b]? = some _ by simp [Array.getElem?_setIfInBounds, hlt])) (by simp) (fun q hq => by simp [Array.getElem?_setIfInBounds, Ne.symm hq])) hL (fun q hq' => by
      rcases List.mem_append.mp hq' with h | h
      · exact hq q h
      · obtain ⟨z, -, hz⟩ := List.mem_map.mp h
        rw [← hz, adr_new hb]
        exact Nat.le_add_right _ _) _ (hheap _) X'
  exact ⟨t, step t a1, b1⟩
theorem k_clone (C : Ctx p l R s m meth c G d i) {n j T a : Nat} (hd : decode (mcode i) pc = .ok (.invokevirtual n, 3)) (hl : lkp ctab (mown i) n = some (7, j, T)) (hLn : L.length = mloc i) (h8 : okN 8 S = true) (ha : 5 ≤ a) (ht : (h.1 a).1 = 20) (hel : (h.1 a).2.all isI = true) (hc0 : c0 ≤ h.2.1) (hz0 : z0 ≤ h.2.2) (h1 : h.2.1 + 1 - c0 ≤ R.cells) (h2 : h.2.2 + (h.1 a).2.length - z0 ≤ R.slots) (k : Kt p l e R s m args below meth c Q G c0 z0 (hnew h (20, (h.1 a).2)) (pc + 3) (L) (.ref h.2.1 :: S)) : Kt p l e R s m args below meth c Q G c0 z0 (h) (pc) (L) (.ref a :: S) := fun H locs ls hR hL hq => by
  obtain ⟨q, hc⟩ := c_ok hl
  simp only [cchk, Bool.and_eq_true] at hc
  have h9 := okN_sum h8 G
  obtain ⟨hlt, hcell⟩ := hR.arr ha ht (by omega)
  have hnm : s.vm.findClass "[I" = some (g_A G 20) := va_nm_int ((C.b.KU C.w).2 0 _ (ty_at (G := G) 20 (by omega))).2
  obtain ⟨c1, t0', f1, f2, f3⟩ := Cond.castable_spec (va_Nw.use (A := args) rfl (va_Nw.warmC C.w (va_Nw.of rfl (C.b.w _ (wat_mem hc.2)))))
  cases hnm.symm.trans f1
  intro T hT X
  obtain ⟨-, kS, hkS, compS, hkindS⟩ := State.isArrayOf_alike C.w.alike (arr_of C.b (t := 20) (by omega) ({ cls := g_A G 20, slots := ((h.1 a).2.map (tr G)).toArray, vm := .none } : Cell) rfl rfl)
  obtain ⟨kA, hkA, hkE⟩ := X.warmed.alike.2.2 _ _ hkS
  obtain ⟨vm', X', st⟩ := X.cloneArray C.x C.o (C.wd (wat_mem hc.1.1.1.1.1) rfl) (C.wd (wat_mem hc.1.1.1.1.2) rfl) (C.wd (wat_mem hc.1.1.1.2) rfl) (C.wd (wat_mem hc.1.1.2) rfl) (C.wd (wat_mem hc.1.2) rfl) (a := adr G a) (cell := { cls := g_A G 20, slots := ((h.1 a).2.map (tr G)).toArray, vm := .none }) (by rw [hT]; exact hcell) (fun k h => by cases h) (fun h => by cases h) hnm f2 f3
    (fun q v hv => by
      have hk' : T.vm.classes[g_A G 20]? = some kA := hkA
      have hkd : kA.kind = .array compS .int := by rw [hkE]; exact hkindS
      have hv' : isI v = true := by
        simp only [List.getElem?_toArray, List.getElem?_map] at hv
        obtain ⟨w, hw, rfl⟩ := Option.map_eq_some_iff.mp hv
        have := List.all_eq_true.mp hel w (List.mem_of_getElem? hw)
        cases w <;> first | rfl | cases this
      have : fits .int v = true := by cases v <;> first | rfl | cases hv'
      simpa [State.fitsSlot, State.slotType?, hk', hkd] using this)
    (g := F0 m pc ls (.ref (adr G a) :: S.map (tr G))) rfl (C.szl hLn hL) rfl (by rw [C.y]; exact hd) (by have := C.fr; omega) (by have := C.lo; show 2 * 0 + _ + 14 ≤ _; omega) (by omega) (by simp; omega) (hloader := Vm.clonesLoader_of_array hkS hkindS)
  have e1 : h.2.1 - c0 + 1 = (hnew h (20, (h.1 a).2)).2.1 - c0 := by show _ = h.2.1 + 1 - c0; omega
  have e2 : h.2.2 - z0 + ((h.1 a).2.map (tr G)).toArray.size = (hnew h (20, (h.1 a).2)).2.2 - z0 := by show _ = h.2.2 + (h.1 a).2.length - z0; simp; omega
  rw [e1, e2] at X'
  obtain ⟨t, b1, b2⟩ := k _ locs ls (hR.new (H' := H.push { cls := g_A G 20, slots := ((h.1 a).2.map (tr G)).toArray, vm := .none }) (mat_arr (by omega) (by rw [hR.nextAt, Array.getElem?_push_size])) (by simp) (fun q hq => by rw [Array.getElem?_push, if_neg (by omega)])) hL hq _ (by rw [← hT]; rfl) X'
  refine ⟨t, st t ?_, b2⟩
  rw [hT, ← hR.nextAt]
  exact b1
end NAT
