/-! SOUNDNESS, 5: fields -/
section FLD
variable {p : Program} {l : Launch} {e : Env} {R : Room} {s : State} {m : MethodId} {args : Array Value} {below : List Frame} {meth : Method} {c : Code} {Q : State → Prop} {G : Gh} {d i c0 z0 : Nat}
variable {h : MH} {pc : Nat} {L S : List Value}
theorem Ctx.fl (C : Ctx p l R s m meth c G d i) {n t f : Nat} {b : Bool} {ref : String} (hl : lkp ftab (mown i) n = some (t, f, b, ref)) : f < NF t ∧ (t < 8 ∨ (t = 8 ∧ b = false)) ∧
    (if b = true then (Jvm.Cond.fieldLinkNest (cn (mown i)) n ref (FT t f).2.1 (FT t f).2.2.1 "RopeClosures").before args s = true else (Jvm.Cond.fieldLink (cn (mown i)) n ref (FT t f).2.1 (FT t f).2.2.1).before args s = true) ∧
    ∀ x, s.fieldFound? (FT t f).1 (FT t f).2.1 (FT t f).2.2.1 = some x → s.fieldFound? ref (FT t f).2.1 (FT t f).2.2.1 = some x := by
  obtain ⟨qq, h1⟩ := allz_mem fchk_ok _ (lkp_mem hl)
  simp only [fchk, Bool.and_eq_true, decide_eq_true_eq] at h1
  obtain ⟨⟨⟨h2, h3⟩, h4⟩, h5⟩ := h1
  have h3' : t < 8 ∨ (t = 8 ∧ b = false) := by
    simp only [Bool.or_eq_true, Bool.and_eq_true, decide_eq_true_eq, Bool.not_eq_true'] at h3
    exact h3
  refine ⟨h2, h3', ?_, fun x hx => ?_⟩
  · cases b with
    | true =>
      rw [if_pos rfl] at h4 ⊢
      exact va_Nw.use rfl (va_Nw.warmF C.w (va_Nw.of rfl (C.b.w _ (wat_mem h4))))
    | false =>
      rw [if_neg (by decide)] at h4 ⊢
      exact C.wd (wat_mem h4) rfl
  · simp only [Bool.or_eq_true, decide_eq_true_eq] at h5
    rcases h5 with h5 | h5
    · rw [h5]; exact hx
    · exact u_same (C.wd (args := args) (wat_mem h5) rfl) x hx
/-- a field of an object of ours: where it lies -/
theorem Ctx.slot (C : Ctx p l R s m meth c G d i) {t f : Nat} (ht : t < 9) (hf : f < NF t) : ∃ (cf : Nat) (kf : Class) (fi : Nat) (fd : Field) (kC : Class), s.fieldFound? (FT t f).1 (FT t f).2.1 (FT t f).2.2.1 = some (cf, kf, fi, fd) ∧ fd.slot = (g_D G).2 t f ∧ fd.isStatic = false ∧ s.vm.findClass (on t) = some ((g_D G).1 t) ∧ s.vm.classes[(g_D G).1 t]? = some kC ∧ kC.kind = .ordinary ∧ ((Jvm.Cond.lays (on t) (FT t f).1 (FT t f).2.1 (FT t f).2.2.1).before args s = true ∨ (Jvm.Cond.laysFinal (on t) (FT t f).1 (FT t f).2.1 (FT t f).2.2.1).before args s = true) := by
  obtain ⟨hS, hfc, kC, hkC, hkind⟩ := (C.b.KU C.w).1 t _ (cls_at t ht)
  obtain ⟨cf, kf, fi, fd, hi, hsl⟩ := hS f hf
  have hly := u_lays (args := args) (s := s) (ws := u_ws (on t) (FT t) (NF t)) (fun w hw => C.wd (o_words ht w hw).1 (o_words ht w hw).2) (fun w hw => hw) hf
  exact ⟨cf, kf, fi, fd, kC, hi, hsl, (u_facts hfc hkC hly hi).1, hfc, hkC, hkind, hly⟩
theorem k_getf (C : Ctx p l R s m meth c G d i) {n t f a : Nat} {b : Bool} {ref : String} {v : Value} (hd : decode (mcode i) pc = .ok (.getfield n, 3)) (hl : lkp ftab (mown i) n = some (t, f, b, ref)) (ht : (h.1 a).1 = t) (hv : (h.1 a).2[f]? = some v) (k : Kt p l e R s m args below meth c Q G c0 z0 (h) (pc + 3) (L) (v :: S)) : Kt p l e R s m args below meth c Q G c0 z0 (h) (pc) (L) (.ref a :: S) := fun H locs ls hR hL hq => by
  obtain ⟨hf, ht8, hlink, hsame⟩ := C.fl (args := args) hl
  have k := k H locs ls hR hL hq
  by_cases h8 : t < 8
  · obtain ⟨h5, hlt, hlen, cell, q1, q2, q3, q4⟩ := hR.obj ht h8
    obtain ⟨cf, kf, fi, fd, kC, hi, hsl, hst, -⟩ := C.slot (args := args) (by omega) hf
    have hslot : cell.slots[fd.slot]? = some (tr G v) := by
      rw [hsl, q4 f hf]
      simp [vp_V, hv]
    cases b with
    | true =>
      rw [if_pos rfl] at hlink
      exact va_Wgetf C.x C.y C.o hlink (hsame _ hi) hst q1 (by rw [q3]; exact fun h => by cases h) hslot rfl rfl hd k
    | false =>
      rw [if_neg (by decide)] at hlink
      exact W.getf C.x C.y C.o hlink (hsame _ hi) hst q1 (by rw [q3]; exact fun h => by cases h) hslot rfl rfl hd k
  · obtain ⟨e8, rfl⟩ : t = 8 ∧ b = false := ht8.resolve_left h8
    subst e8
    have hlt := hR.lt (a := a) (by omega)
    have h5 : a < 5 := by
      rcases Nat.lt_or_ge a 5 with q | q
      · exact q
      · rcases hR.2.2.1 a q hlt with ⟨q1, q2, q3⟩ | ⟨q1, q2, q3⟩ | ⟨q1, q2, q4, q3⟩ | ⟨q1, q2, cell, q3, q4⟩ <;> omega
    have ho := hR.2.2.2.2.2 a h5
    have ha : a = 2 := by
      rw [ho] at ht
      rcases (show a = 0 ∨ a = 1 ∨ a = 2 ∨ a = 3 ∨ a = 4 by omega) with rfl | rfl | rfl | rfl | rfl <;> first | rfl | (simp [oldc] at ht)
    subst ha
    rw [ho] at hv
    have hr2 : g_r G 2 < b0 G := C.b.rl 2 (by omega)
    have hH : H[g_r G 2]? = (g_s G).heap[g_r G 2]? := hR.2.2.2.2.1 _ hr2
    have key : ∀ (nm ds : String) (w : Value), va_OF "java/lang/String" nm ds w (g_r G 2) (oldA G) (g_s G) (g_s G).heap → (FT 8 f).1 = "java/lang/String" → (FT 8 f).2.1 = nm → (FT 8 f).2.2.1 = ds → tr G v = w → W p l e R s m args below meth c H locs (h.2.1 - c0) (h.2.2 - z0) Q (F0 m pc ls (((.ref 2 : Value) :: S).map (tr G))) := by
      intro nm ds w hOF e0 e1 e2 e3
      obtain ⟨cf, kf, fi, fd, cell, o1, o2, o3, o4, o5, -⟩ := va_OF.moved (U := s) C.w.alike hOF
      have hlk : (Jvm.Cond.fieldLink (cn (mown i)) n ref nm ds).before args s = true := by
        rw [if_neg (by decide), e1, e2] at hlink; exact hlink
      rw [e0, e1, e2] at hsame
      exact W.getf C.x C.y C.o hlk (hsame _ o1) o2 (hH.trans o3) o4 o5 rfl rfl hd (by rw [← e3]; exact k)
    have hf2 : f < 2 := hf
    rcases (show f = 0 ∨ f = 1 by omega) with rfl | rfl
    · cases hv
      exact key _ _ _ C.b.str.2.1 rfl rfl rfl rfl
    · cases hv
      exact key _ _ _ C.b.str.2.2 rfl rfl rfl rfl
theorem fits_tr {ty : FieldType} {v : Value} (hf : fits ty v = true) : fits ty (tr G v) = true := by
  cases v <;> first | exact hf | (cases ty <;> first | rfl | (simp [fits] at hf))
theorem narrow_tr {ty : FieldType} {v : Value} (hf : narrow ty v = v) : narrow ty (tr G v) = tr G v := by
  cases v <;> first | exact hf | (cases ty <;> rfl)
theorem k_putf (C : Ctx p l R s m meth c G d i) {n t f a : Nat} {b : Bool} {ref : String} {v : Value} (hd : decode (mcode i) pc = .ok (.putfield n, 3)) (hl : lkp ftab (mown i) n = some (t, f, b, ref)) (ha : 5 ≤ a) (ht : (h.1 a).1 = t) (hn : narrow (fty t f) v = v) (hf : fits (fty t f) v = true) (hx : (FT t f).2.2.2 = false ∨ ((mnam i).name = "<init>" ∧ (FT t f).1 = cn (mown i) ∧ b = false)) (k : Kt p l e R s m args below meth c Q G c0 z0 (hput h a (t, (h.1 a).2.set f v)) (pc + 3) (L) (S)) : Kt p l e R s m args below meth c Q G c0 z0 (h) (pc) (L) (v :: .ref a :: S) := fun H locs ls hR hL hq => by
  obtain ⟨hfl, ht8, hlink, hsame⟩ := C.fl (args := args) hl
  have h8 : t < 8 := by
    rcases ht8 with q | ⟨q, -⟩
    · exact q
    · have hlt := hR.lt (a := a) (by omega)
      rcases hR.2.2.1 a ha hlt with ⟨q1, q2, q3⟩ | ⟨q1, q2, q3⟩ | ⟨q1, q2, q4, q3⟩ | ⟨q1, q2, cell, q3, q4⟩ <;> omega
  have h9 : t < 9 := by omega
  obtain ⟨h5, hlt, hlen, cell, q1, q2, q3, q4⟩ := hR.obj ht h8
  obtain ⟨cf, kf, fi, fd, kC, hi, hsl, hst, hfc, hkC, hkind, hly⟩ := C.slot (args := args) h9 hfl
  have hap := va_apart (own := "") (args := args) (s := s) (D := g_D G) (cl := classes) (tys := tysG G) (ci := t) (Ts := u_ws (on t) (FT t) (NF t)) (fun w hw => C.wd (o_words h9 w hw).1 (o_words h9 w hw).2) (fun w hw => hw) (fty t) (o_ty h9) (o_nm h9) (C.b.KU C.w) (cls_at t h9)
  have hlt2 : fd.slot < cell.slots.size := by rw [hsl]; exact k2_hasslot (q4 f hfl)
  have h6 := u_fits hfc hkC hkind hly hi (o_ty h9 f hfl) (narrow_tr (G := G) hn) (fits_tr (G := G) hf)
  have fin : ∀ H' : Heap, H'[adr G a]? = some (cell.setSlot fd.slot (tr G v)) → H'.size = H.size → (∀ q, q ≠ adr G a → H'[q]? = H[q]?) → W p l e R s m args below meth c H' (locs ++ [⟨adr G a, fd.slot⟩]) (h.2.1 - c0) (h.2.2 - z0) Q (F0 m (pc + 3) ls (S.map (tr G))) := by
    intro H' e1 e2 e3
    rw [hsl] at e1
    refine k H' _ ls (hR.put ha hlt ?_ e2 e3) hL ?_
    · refine Or.inl ⟨h8, by simp [hlen], ?_⟩
      refine t_OB.to (V := updV (vp_V ((h.1 a).2.map (tr G))) f (tr G v)) ⟨_, e1, q2, q3, t_set q4 hap hfl (tr G v)⟩ (fun j _ => ?_)
      rw [vp_updV_set (by rw [List.length_map, hlen]; exact hfl)]
      show vp_V (((h.1 a).2.map (tr G)).set f (tr G v)) j = vp_V (((h.1 a).2.set f v).map (tr G)) j
      rw [List.map_set]
    · intro q hq'
      rcases List.mem_append.mp hq' with h1 | h1
      · exact hq q h1
      · rw [List.mem_singleton.mp h1]
        show b0 G ≤ adr G a
        rw [adr_new ha]; omega
  by_cases hfin : (FT t f).2.2.2 = false
  · have hlay : (Jvm.Cond.lays (on t) (FT t f).1 (FT t f).2.1 (FT t f).2.2.1).before args s = true := by
      have h1 := o_words h9 _ (u_in_lay (C := on t) (T := FT t) hfl)
      unfold u_lay at h1
      rw [if_neg (by rw [hfin]; decide)] at h1
      exact C.wd h1.1 h1.2
    have h7 := u_store hfc hkC hkind hlay hi (o_ty h9 f hfl) (narrow_tr (G := G) hn) (fits_tr (G := G) hf)
    cases b with
    | true =>
      rw [if_pos rfl] at hlink
      exact va_WputK C.x C.y (f := fd) C.o hlink (hsame _ hi) hst (by rw [q2]; exact h7) q1 q3 hlt2 rfl rfl hd fin
    | false =>
      rw [if_neg (by decide)] at hlink
      exact W.putK C.x C.y (f := fd) ⟨C.o, hlink, ⟨_, _, _, hsame _ hi⟩, hst⟩ (by rw [q2]; exact h7) q1 q3 hlt2 rfl rfl hd fin
  · obtain ⟨hnm, hdecl, rfl⟩ := hx.resolve_left hfin
    rw [if_neg (by decide)] at hlink
    have hlay : (Jvm.Cond.laysFinal (on t) (FT t f).1 (FT t f).2.1 (FT t f).2.2.1).before args s = true := by
      have h1 := o_words h9 _ (u_in_lay (C := on t) (T := FT t) hfl)
      unfold u_lay at h1
      rw [if_pos (by simpa using hfin)] at h1
      exact C.wd h1.1 h1.2
    have hcf : m.cls = cf := by
      obtain ⟨_, _, c', _, _, _, -, -, hf', -, -, -, hown2, -⟩ := Cond.laysFinal_spec hlay
      have e1 : c' = cf := by have := hi.symm.trans hf'; simp at this; exact this.1.symm
      rw [hdecl] at hown2
      rw [← e1]; exact Option.some.inj (C.o.symm.trans hown2)
    exact W.putFinK C.x C.y C.o hlink (hsame _ hi) hst hcf (C.nm.trans hnm) (by rw [q2]; exact h6) q1 q3 hlt2 rfl rfl hd fin
end FLD
