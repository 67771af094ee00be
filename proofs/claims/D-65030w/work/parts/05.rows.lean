/-! one law of run for each kind of instruction -/
section RN
variable {d i pc : Nat} {L S : List Value} {h : MH}
theorem run_goK {ins : Instr} {len pc' : Nat} {L' S' : List Value} (hd : decode (mcode i) pc = .ok (ins, len)) (hs : stepA i ins pc L S h = goK pc' L' S') (hk : okl ins len = true := by rfl) : run d i pc L S h = run d i pc' L' S' h := run_go hd hs hk
theorem run_goP {ins : Instr} {len pc' a : Nat} {o : MO} {L' S' : List Value} (hd : decode (mcode i) pc = .ok (ins, len)) (hs : stepA i ins pc L S h = goP pc' L' S' a o) (hk : okl ins len = true := by rfl) : run d i pc L S h = run d i pc' L' S' (hput h a o) := run_go hd hs hk
theorem run_goN {ins : Instr} {len pc' : Nat} {o : MO} {L' S' : List Value} (hd : decode (mcode i) pc = .ok (ins, len)) (hs : stepA i ins pc L S h = goN pc' L' S' o) (hk : okl ins len = true := by rfl) : run d i pc L S h = run d i pc' L' S' (hnew h o) := run_go hd hs hk
theorem stI_ok {k q : Nat} {x : Int32} (hk : k < L.length) (ho : okp L k = true) : stI k q L (.int x :: S) = goK q (L.set k (.int x)) S := by simp [stI, hk, ho]
theorem stA_ok {k q x : Nat} (hk : k < L.length) (ho : okp L k = true) : stA k q L (.ref x :: S) = goK q (L.set k (.ref x)) S := by simp [stA, hk, ho]
theorem stL_ok {k q : Nat} {x : Int64} (hk : k + 1 < L.length) (ho : okp L k = true) : stL k q L (.long x :: S) = goK q ((L.set k (.long x)).set (k + 1) .null) S := by simp [stL, hk, ho]
theorem rn_st {ins : Instr} {len k q : Nat} {x : Int32} (hd : decode (mcode i) pc = .ok (ins, len)) (he : stepA i ins pc L (.int x :: S) h = stI k q L (.int x :: S)) (hk : k < L.length) (ho : okp L k = true) (hz : okl ins len = true := by rfl) : run d i pc L (.int x :: S) h = run d i q (L.set k (.int x)) S h := run_goK hd (he.trans (stI_ok hk ho)) hz
theorem rn_stA {ins : Instr} {len k q x : Nat} (hd : decode (mcode i) pc = .ok (ins, len)) (he : stepA i ins pc L (.ref x :: S) h = stA k q L (.ref x :: S)) (hk : k < L.length) (ho : okp L k = true) (hz : okl ins len = true := by rfl) : run d i pc L (.ref x :: S) h = run d i q (L.set k (.ref x)) S h := run_goK hd (he.trans (stA_ok hk ho)) hz
theorem rn_stL {ins : Instr} {len k q : Nat} {x : Int64} (hd : decode (mcode i) pc = .ok (ins, len)) (he : stepA i ins pc L (.long x :: S) h = stL k q L (.long x :: S)) (hk : k + 1 < L.length) (ho : okp L k = true) (hz : okl ins len = true := by rfl) : run d i pc L (.long x :: S) h = run d i q ((L.set k (.long x)).set (k + 1) .null) S h := run_goK hd (he.trans (stL_ok hk ho)) hz
theorem rn_inc {k : Nat} {n : Int} {x : Int32} (hd : decode (mcode i) pc = .ok (.iinc k n, 3)) (hk : L[k]? = some (.int x)) (ho : okp L k = true) : run d i pc L S h = run d i (pc + 3) (L.set k (.int (x + Int32.ofInt n))) S h := run_goK hd (by show (match L[k]? with | some (.int x) => if okp L k = true then goK (pc + 3) (L.set k (.int (x + Int32.ofInt n))) S else none | _ => none) = _; rw [hk]; simp only [ho, if_true])
theorem rn_idiv {x y : Int32} (hd : decode (mcode i) pc = .ok (.idiv, 1)) (hy : ¬ y = 0) : run d i pc L (.int y :: .int x :: S) h = run d i (pc + 1) L (.int (x / y) :: S) h := run_goK hd (by show (if y = 0 then none else goK (pc + 1) L (.int (x / y) :: S)) = _; rw [if_neg hy])
theorem rn_irem {x y : Int32} (hd : decode (mcode i) pc = .ok (.irem, 1)) (hy : ¬ y = 0) : run d i pc L (.int y :: .int x :: S) h = run d i (pc + 1) L (.int (x - x / y * y) :: S) h := run_goK hd (by show (if y = 0 then none else goK (pc + 1) L (.int (x - x / y * y) :: S)) = _; rw [if_neg hy])
theorem rn_ldiv {x y : Int64} (hd : decode (mcode i) pc = .ok (.ldiv, 1)) (hy : ¬ y = 0) : run d i pc L (.long y :: .long x :: S) h = run d i (pc + 1) L (.long (x / y) :: S) h := run_goK hd (by show (if y = 0 then none else goK (pc + 1) L (.long (x / y) :: S)) = _; rw [if_neg hy])
theorem rn_lrem {x y : Int64} (hd : decode (mcode i) pc = .ok (.lrem, 1)) (hy : ¬ y = 0) : run d i pc L (.long y :: .long x :: S) h = run d i (pc + 1) L (.long (x - x / y * y) :: S) h := run_goK hd (by show (if y = 0 then none else goK (pc + 1) L (.long (x - x / y * y) :: S)) = _; rw [if_neg hy])
theorem rn_dup {v : Value} (hd : decode (mcode i) pc = .ok (.dup, 1)) (hv : nlg v = true) : run d i pc L (v :: S) h = run d i (pc + 1) L (v :: v :: S) h := run_goK hd (by show (if nlg v = true then _ else none) = _; rw [if_pos hv])
theorem rn_pop {v : Value} (hd : decode (mcode i) pc = .ok (.pop, 1)) (hv : nlg v = true) : run d i pc L (v :: S) h = run d i (pc + 1) L S h := run_goK hd (by show (if nlg v = true then _ else none) = _; rw [if_pos hv])
theorem rn_dupx {v w : Value} (hd : decode (mcode i) pc = .ok (.dup_x1, 1)) (hv : nlg v = true) (hw : nlg w = true) : run d i pc L (v :: w :: S) h = run d i (pc + 1) L (v :: w :: v :: S) h := run_goK hd (by show (if nlg v = true ∧ nlg w = true then _ else none) = _; rw [if_pos ⟨hv, hw⟩])
theorem rn_dup2 {v w : Value} (hd : decode (mcode i) pc = .ok (.dup2, 1)) (hv : nlg v = true) (hw : nlg w = true) : run d i pc L (v :: w :: S) h = run d i (pc + 1) L (v :: w :: v :: w :: S) h := run_goK hd (by show (if nlg v = true ∧ nlg w = true then _ else none) = _; rw [if_pos ⟨hv, hw⟩])
theorem goT_ok {off : Int} {q : Nat} (hq : (pc : Int) + off = (q : Int)) : goT pc off L S = goK q L S := by
  unfold goT tgt
  rw [hq, if_pos (by omega), Int.toNat_natCast]
theorem rn_goto {off : Int} {q : Nat} (hd : decode (mcode i) pc = .ok (.goto off, 3)) (hq : (pc : Int) + off = (q : Int)) : run d i pc L S h = run d i q L S h := run_goK hd (goT_ok hq)
theorem goB_t {b : Bool} {off : Int} {q : Nat} (hq : (pc : Int) + off = (q : Int)) (hb : b = true) : goB b pc off L S = goK q L S := by
  unfold goB tgt
  rw [if_pos (by omega), if_pos hb, hq, Int.toNat_natCast]
theorem goB_f {b : Bool} {off : Int} {q : Nat} (hq : (pc : Int) + off = (q : Int)) (hb : b = false) : goB b pc off L S = goK (pc + 3) L S := by
  unfold goB
  rw [if_pos (by omega), if_neg (by rw [hb]; decide)]
theorem rn_ifc {c : ClassFile.Cond} {off : Int} {q : Nat} {x : Int32} {P : Prop} [hP : Decidable P] (hd : decode (mcode i) pc = .ok (.ifCond c off, 3)) (hq : (pc : Int) + off = (q : Int)) (hc : cmp c x 0 = decide P) : run d i pc L (.int x :: S) h = if P then run d i q L S h else run d i (pc + 3) L S h := by
  by_cases p : P
  · rw [if_pos p]
    exact run_goK hd (goB_t hq (hc.trans (decide_eq_true p)))
  · rw [if_neg p]
    exact run_goK hd (goB_f hq (hc.trans (decide_eq_false p)))
theorem rn_icm {c : ClassFile.Cond} {off : Int} {q : Nat} {x y : Int32} {P : Prop} [hP : Decidable P] (hd : decode (mcode i) pc = .ok (.if_icmp c off, 3)) (hq : (pc : Int) + off = (q : Int)) (hc : cmp c x y = decide P) : run d i pc L (.int y :: .int x :: S) h = if P then run d i q L S h else run d i (pc + 3) L S h := by
  by_cases p : P
  · rw [if_pos p]
    exact run_goK hd (goB_t hq (hc.trans (decide_eq_true p)))
  · rw [if_neg p]
    exact run_goK hd (goB_f hq (hc.trans (decide_eq_false p)))
theorem rn_acm_eq {off : Int} {q x : Nat} {c : ACond} (hd : decode (mcode i) pc = .ok (.if_acmp c off, 3)) (hq : (pc : Int) + off = (q : Int)) : run d i pc L (.ref x :: .ref x :: S) h = if c = .eq then run d i q L S h else run d i (pc + 3) L S h := by
  have e : stepA i (.if_acmp c off) pc L (.ref x :: .ref x :: S) h = goB (decide (c = .eq)) pc off L S := by
    show (if x = x then goB (decide (c = .eq)) pc off L S else _) = _
    rw [if_pos rfl]
  by_cases p : c = .eq
  · rw [if_pos p]
    exact run_goK hd (e.trans (goB_t hq (decide_eq_true p)))
  · rw [if_neg p]
    exact run_goK hd (e.trans (goB_f hq (decide_eq_false p)))
theorem rn_acm_ne {off : Int} {q x y : Nat} {c : ACond} (hd : decode (mcode i) pc = .ok (.if_acmp c off, 3)) (hq : (pc : Int) + off = (q : Int)) (hx : 5 ≤ x) (hy : y < 4) : run d i pc L (.ref y :: .ref x :: S) h = if c = .ne then run d i q L S h else run d i (pc + 3) L S h := by
  have hn : ¬ x = y := by omega
  have e : stepA i (.if_acmp c off) pc L (.ref y :: .ref x :: S) h = goB (decide (c = .ne)) pc off L S := by
    show (if x = y then goB (decide (c = .eq)) pc off L S else if 5 ≤ x ∧ y < 4 then goB (decide (c = .ne)) pc off L S else none) = _
    rw [if_neg hn, if_pos ⟨hx, hy⟩]
  by_cases p : c = .ne
  · rw [if_pos p]
    exact run_goK hd (e.trans (goB_t hq (decide_eq_true p)))
  · rw [if_neg p]
    exact run_goK hd (e.trans (goB_f hq (decide_eq_false p)))
theorem rn_tsw {dd lo hi : Int} {offs : Array Int} {len q : Nat} {x : Int32} (hd : decode (mcode i) pc = .ok (.tableswitch dd lo hi offs, len)) (hq : (pc : Int) + swT pc dd lo hi offs.toList x = (q : Int)) : run d i pc L (.int x :: S) h = run d i q L S h := run_goK hd (goT_ok hq)
theorem rn_lsw {dd : Int} {ps : Array (Int × Int)} {len q : Nat} {x : Int32} (hd : decode (mcode i) pc = .ok (.lookupswitch dd ps, len)) (hs : (ps.toList.zip (ps.toList.drop 1)).all (fun (a, next) => a.1 < next.1) = true) (hq : (pc : Int) + lsO ps.toList dd x.toInt = (q : Int)) : run d i pc L (.int x :: S) h = run d i q L S h := run_goK hd (by
  show (if (ps.toList.zip (ps.toList.drop 1)).all (fun (a, next) => a.1 < next.1) = true then goT pc (lsO ps.toList dd x.toInt) L S else none) = _
  rw [if_pos hs]; exact goT_ok hq)
/-- reading a field of a cell -/
def gfK (o : MO) (t f : Nat) (k : Value → Option MR) : Option MR := if o.1 = t then (match o.2[f]? with | some v => k v | none => none) else none
theorem rn_getf {n t f : Nat} {b : Bool} {s : String} {a : Nat} (hd : decode (mcode i) pc = .ok (.getfield n, 3)) (hl : lkp ftab (mown i) n = some (t, f, b, s)) : run d i pc L (.ref a :: S) h = gfK (h.1 a) t f (fun v => run d i (pc + 3) L (v :: S) h) := by
  have e : stepA i (.getfield n) pc L (.ref a :: S) h = (if (h.1 a).1 = t then (match (h.1 a).2[f]? with | some v => goK (pc + 3) L (v :: S) | none => none) else none) := by
    show (match (.ref a :: S : List Value), lkp ftab (mown i) n with | .ref a :: S', some (t, f, _, _) => (if (h.1 a).1 = t then (match (h.1 a).2[f]? with | some v => goK (pc + 3) L (v :: S') | none => none) else none) | _, _ => none) = _
    rw [hl]
  unfold gfK
  by_cases ht : (h.1 a).1 = t
  · rw [if_pos ht] at e ⊢
    cases hv : (h.1 a).2[f]? with
    | none =>
      rw [hv] at e
      have hn : ∀ r, ¬ run d i pc L (.ref a :: S) h = some r := by
        intro r hr
        obtain ⟨m, hm⟩ := run_iff.mp hr
        cases m with
        | zero => simp [exec] at hm
        | succ m => rw [exec] at hm; simp [hd, e] at hm
      cases hr : run d i pc L (.ref a :: S) h with
      | none => rfl
      | some r => exact absurd hr (hn r)
    | some v => rw [hv] at e; exact run_goK hd e
  · rw [if_neg ht] at e ⊢
    have hn : ∀ r, ¬ run d i pc L (.ref a :: S) h = some r := by
      intro r hr
      obtain ⟨m, hm⟩ := run_iff.mp hr
      cases m with
      | zero => simp [exec] at hm
      | succ m => rw [exec] at hm; simp [hd, e] at hm
    cases hr : run d i pc L (.ref a :: S) h with
    | none => rfl
    | some r => exact absurd hr (hn r)
theorem run_non {ins : Instr} {len : Nat} (hd : decode (mcode i) pc = .ok (ins, len)) (e : stepA i ins pc L S h = none) : run d i pc L S h = none := by
  cases hr : run d i pc L S h with
  | none => rfl
  | some r =>
    obtain ⟨m, hm⟩ := run_iff.mp hr
    cases m with
    | zero => simp [exec] at hm
    | succ m => rw [exec] at hm; simp [hd, e] at hm
/-- writing a field -/
def pfK (a : Nat) (o : MO) (t f : Nat) (v : Value) (k : MO → Option MR) : Option MR := if 5 ≤ a ∧ o.1 = t then k (t, o.2.set f v) else none
theorem rn_putf {n t f : Nat} {b : Bool} {s : String} {a : Nat} {v : Value} (hd : decode (mcode i) pc = .ok (.putfield n, 3)) (hl : lkp ftab (mown i) n = some (t, f, b, s)) (hn : narrow (fty t f) v = v) (hf : fits (fty t f) v = true) (hx : (FT t f).2.2.2 = false ∨ ((mnam i).name = "<init>" ∧ (FT t f).1 = cn (mown i) ∧ b = false)) : run d i pc L (v :: .ref a :: S) h = pfK a (h.1 a) t f v (fun o => run d i (pc + 3) L S (hput h a o)) := by
  have e : stepA i (.putfield n) pc L (v :: .ref a :: S) h = (if 5 ≤ a ∧ (h.1 a).1 = t ∧ narrow (fty t f) v = v ∧ fits (fty t f) v = true ∧ ((FT t f).2.2.2 = false ∨ ((mnam i).name = "<init>" ∧ (FT t f).1 = cn (mown i) ∧ b = false)) then goP (pc + 3) L S a (t, (h.1 a).2.set f v) else none) := by
    show (match (v :: .ref a :: S : List Value), lkp ftab (mown i) n with | v :: .ref a :: S', some (t, f, b, _) => (if 5 ≤ a ∧ (h.1 a).1 = t ∧ narrow (fty t f) v = v ∧ fits (fty t f) v = true ∧ ((FT t f).2.2.2 = false ∨ ((mnam i).name = "<init>" ∧ (FT t f).1 = cn (mown i) ∧ b = false)) then goP (pc + 3) L S' a (t, (h.1 a).2.set f v) else none) | _, _ => none) = _
    rw [hl]
  unfold pfK
  by_cases ht : 5 ≤ a ∧ (h.1 a).1 = t
  · rw [if_pos ht]
    rw [if_pos ⟨ht.1, ht.2, hn, hf, hx⟩] at e
    exact run_goP hd e
  · rw [if_neg ht]
    rw [if_neg (fun q => ht ⟨q.1, q.2.1⟩)] at e
    exact run_non hd e
/-- an element -/
def alK (o : MO) (t : Nat) (i : Int32) (k : Value → Option MR) : Option MR := if o.1 = t ∧ inb i o.2.length = true then (match o.2[i.toNatClampNeg]? with | some v => k v | none => none) else none
theorem rn_ald {ins : Instr} {t a : Nat} {x : Int32} (hd : decode (mcode i) pc = .ok (ins, 1)) (he : ∀ S, stepA i ins pc L S h = ald t pc L S h) (hz : okl ins 1 = true := by rfl) : run d i pc L (.int x :: .ref a :: S) h = alK (h.1 a) t x (fun v => run d i (pc + 1) L (v :: S) h) := by
  have e : stepA i ins pc L (.int x :: .ref a :: S) h = (if (h.1 a).1 = t ∧ inb x (h.1 a).2.length = true then (match (h.1 a).2[x.toNatClampNeg]? with | some v => goK (pc + 1) L (v :: S) | none => none) else none) := he _
  unfold alK
  by_cases ht : (h.1 a).1 = t ∧ inb x (h.1 a).2.length = true
  · rw [if_pos ht] at e ⊢
    cases hv : (h.1 a).2[x.toNatClampNeg]? with
    | none => rw [hv] at e; exact run_non hd e
    | some v => rw [hv] at e; exact run_goK hd e hz
  · rw [if_neg ht] at e ⊢
    exact run_non hd e
/-- storing an element -/
def asK (a : Nat) (o : MO) (t : Nat) (i : Int32) (v : Value) (k : MO → Option MR) : Option MR := if 5 ≤ a ∧ o.1 = t ∧ inb i o.2.length = true then k (t, o.2.set i.toNatClampNeg v) else none
theorem rn_ast20 {a : Nat} {x j : Int32} (hd : decode (mcode i) pc = .ok (.iastore, 1)) : run d i pc L (.int x :: .int j :: .ref a :: S) h = asK a (h.1 a) 20 j (.int x) (fun o => run d i (pc + 1) L S (hput h a o)) := by
  have e : stepA i .iastore pc L (.int x :: .int j :: .ref a :: S) h = (if 5 ≤ a ∧ (h.1 a).1 = 20 ∧ inb j (h.1 a).2.length = true then goP (pc + 1) L S a (20, (h.1 a).2.set j.toNatClampNeg (.int x)) else none) := rfl
  unfold asK
  by_cases ht : 5 ≤ a ∧ (h.1 a).1 = 20 ∧ inb j (h.1 a).2.length = true
  · rw [if_pos ht] at e ⊢
    exact run_goP hd e
  · rw [if_neg ht] at e ⊢
    exact run_non hd e
theorem rn_ast21 {a : Nat} {x : Int64} {j : Int32} (hd : decode (mcode i) pc = .ok (.lastore, 1)) : run d i pc L (.long x :: .int j :: .ref a :: S) h = asK a (h.1 a) 21 j (.long x) (fun o => run d i (pc + 1) L S (hput h a o)) := by
  have e : stepA i .lastore pc L (.long x :: .int j :: .ref a :: S) h = (if 5 ≤ a ∧ (h.1 a).1 = 21 ∧ inb j (h.1 a).2.length = true then goP (pc + 1) L S a (21, (h.1 a).2.set j.toNatClampNeg (.long x)) else none) := rfl
  unfold asK
  by_cases ht : 5 ≤ a ∧ (h.1 a).1 = 21 ∧ inb j (h.1 a).2.length = true
  · rw [if_pos ht] at e ⊢
    exact run_goP hd e
  · rw [if_neg ht] at e ⊢
    exact run_non hd e
theorem rn_ast22 {a : Nat} {x j : Int32} (hd : decode (mcode i) pc = .ok (.castore, 1)) : run d i pc L (.int x :: .int j :: .ref a :: S) h = asK a (h.1 a) 22 j (.int (vp_nar .char x)) (fun o => run d i (pc + 1) L S (hput h a o)) := by
  have e : stepA i .castore pc L (.int x :: .int j :: .ref a :: S) h = (if 5 ≤ a ∧ (h.1 a).1 = 22 ∧ inb j (h.1 a).2.length = true then goP (pc + 1) L S a (22, (h.1 a).2.set j.toNatClampNeg (.int (vp_nar .char x))) else none) := rfl
  unfold asK
  by_cases ht : 5 ≤ a ∧ (h.1 a).1 = 22 ∧ inb j (h.1 a).2.length = true
  · rw [if_pos ht] at e ⊢
    exact run_goP hd e
  · rw [if_neg ht] at e ⊢
    exact run_non hd e
theorem rn_ast24 {a y : Nat} {j : Int32} (hd : decode (mcode i) pc = .ok (.aastore, 1)) (hy : okE h (.ref y) = true) : run d i pc L (.ref y :: .int j :: .ref a :: S) h = asK a (h.1 a) 24 j (.ref y) (fun o => run d i (pc + 1) L S (hput h a o)) := by
  have e : stepA i .aastore pc L (.ref y :: .int j :: .ref a :: S) h = (if 5 ≤ a ∧ (h.1 a).1 = 24 ∧ inb j (h.1 a).2.length = true then (if okE h (.ref y) = true then goP (pc + 1) L S a (24, (h.1 a).2.set j.toNatClampNeg (.ref y)) else none) else none) := rfl
  unfold asK
  by_cases ht : 5 ≤ a ∧ (h.1 a).1 = 24 ∧ inb j (h.1 a).2.length = true
  · rw [if_pos ht, if_pos hy] at e
    rw [if_pos ht]
    exact run_goP hd e
  · rw [if_neg ht] at e ⊢
    exact run_non hd e
def lnK (o : MO) (k : Value → Option MR) : Option MR := if 20 ≤ o.1 ∧ o.1 ≤ 24 then k (.int (nI o.2.length)) else none
theorem rn_alen {a : Nat} (hd : decode (mcode i) pc = .ok (.arraylength, 1)) : run d i pc L (.ref a :: S) h = lnK (h.1 a) (fun v => run d i (pc + 1) L (v :: S) h) := by
  have e : stepA i .arraylength pc L (.ref a :: S) h = (if 20 ≤ (h.1 a).1 ∧ (h.1 a).1 ≤ 24 then goK (pc + 1) L (.int (nI (h.1 a).2.length) :: S) else none) := rfl
  unfold lnK
  by_cases ht : 20 ≤ (h.1 a).1 ∧ (h.1 a).1 ≤ 24
  · rw [if_pos ht] at e ⊢
    exact run_goK hd e
  · rw [if_neg ht] at e ⊢
    exact run_non hd e
theorem rn_newa {n : Int32} {at_ : ArrayType} {t : Nat} {v : Value} (hd : decode (mcode i) pc = .ok (.newarray at_, 2)) (hn : ¬ n < 0) (hm : n.toNatClampNeg ≤ 100000) (ht : (at_ = .int ∧ t = 20 ∧ v = .int 0) ∨ (at_ = .long ∧ t = 21 ∧ v = .long 0) ∨ (at_ = .char ∧ t = 22 ∧ v = .int 0)) : run d i pc L (.int n :: S) h = run d i (pc + 2) L (.ref h.2.1 :: S) (hnew h (t, List.replicate n.toNatClampNeg v)) := by
  rcases ht with ⟨rfl, rfl, rfl⟩ | ⟨rfl, rfl, rfl⟩ | ⟨rfl, rfl, rfl⟩
  · exact run_goN hd (by show (if ¬ n < 0 ∧ n.toNatClampNeg ≤ 100000 then _ else none) = _; rw [if_pos ⟨hn, hm⟩])
  · exact run_goN hd (by show (if ¬ n < 0 ∧ n.toNatClampNeg ≤ 100000 then _ else none) = _; rw [if_pos ⟨hn, hm⟩])
  · exact run_goN hd (by show (if ¬ n < 0 ∧ n.toNatClampNeg ≤ 100000 then _ else none) = _; rw [if_pos ⟨hn, hm⟩])
theorem rn_anew {n : Int32} {k w : Nat} (hd : decode (mcode i) pc = .ok (.anewarray k, 3)) (hl : lkp atab (mown i) k = some w) (hn : ¬ n < 0) (hm : n.toNatClampNeg ≤ 100000) : run d i pc L (.int n :: S) h = run d i (pc + 3) L (.ref h.2.1 :: S) (hnew h (24, List.replicate n.toNatClampNeg .null)) :=
  run_goN hd (by
    show (match (.int n :: S : List Value), lkp atab (mown i) k with | .int n :: S', some _ => (if ¬ n < 0 ∧ n.toNatClampNeg ≤ 100000 then goN (pc + 3) L (.ref h.2.1 :: S') (24, List.replicate n.toNatClampNeg .null) else none) | _, _ => none) = _
    rw [hl]; dsimp only; rw [if_pos ⟨hn, hm⟩])
theorem rn_new {k t : Nat} {fs : List Value} (hd : decode (mcode i) pc = .ok (.new k, 3)) (hl : lkp ntab (mown i) k = some t) (ht : t < 8) (hf : dfl t = fs) : run d i pc L S h = run d i (pc + 3) L (.ref h.2.1 :: S) (hnew h (t, fs)) :=
  run_goN hd (by
    show (match lkp ntab (mown i) k with | some t => (if t < 8 then goN (pc + 3) L (.ref h.2.1 :: S) (t, dfl t) else if 30 ≤ t ∧ t < 33 then goN (pc + 3) L (.ref h.2.1 :: S) (t, List.replicate 6 .null) else none) | none => none) = _
    rw [hl]; dsimp only; rw [if_pos ht, hf])
theorem rn_newX {k t : Nat} (hd : decode (mcode i) pc = .ok (.new k, 3)) (hl : lkp ntab (mown i) k = some t) (h8 : ¬ t < 8) (ht : 30 ≤ t ∧ t < 33) : run d i pc L S h = run d i (pc + 3) L (.ref h.2.1 :: S) (hnew h (t, List.replicate 6 .null)) :=
  run_goN hd (by
    show (match lkp ntab (mown i) k with | some t => (if t < 8 then goN (pc + 3) L (.ref h.2.1 :: S) (t, dfl t) else if 30 ≤ t ∧ t < 33 then goN (pc + 3) L (.ref h.2.1 :: S) (t, List.replicate 6 .null) else none) | none => none) = _
    rw [hl]; dsimp only; rw [if_neg h8, if_pos ht])
theorem rn_gets {k : Nat} {v : Value} (hd : decode (mcode i) pc = .ok (.getstatic k, 3)) (hl : lkp stab (mown i) k = some v) : run d i pc L S h = run d i (pc + 3) L (v :: S) h := run_goK hd (by show (match lkp stab (mown i) k with | some v => goK (pc + 3) L (v :: S) | none => none) = _; rw [hl])
theorem rn_ldcI {k : Nat} {x : Int32} (hd : decode (mcode i) pc = .ok (.ldc k, 2)) (hl : lkp ktab (mown i) k = some (.int x)) : run d i pc L S h = run d i (pc + 2) L (.int x :: S) h := run_goK hd (by show (match lkp ktab (mown i) k with | some (.int x) => goK (pc + 2) L (.int x :: S) | some (.ref x) => goK (pc + 2) L (.ref x :: S) | _ => none) = _; rw [hl])
theorem rn_ldcA {k x : Nat} (hd : decode (mcode i) pc = .ok (.ldc k, 2)) (hl : lkp ktab (mown i) k = some (.ref x)) : run d i pc L S h = run d i (pc + 2) L (.ref x :: S) h := run_goK hd (by show (match lkp ktab (mown i) k with | some (.int x) => goK (pc + 2) L (.int x :: S) | some (.ref x) => goK (pc + 2) L (.ref x :: S) | _ => none) = _; rw [hl])
theorem rn_ldc2 {k : Nat} {x : Int64} (hd : decode (mcode i) pc = .ok (.ldc2_w k, 3)) (hl : lkp ktab (mown i) k = some (.long x)) : run d i pc L S h = run d i (pc + 3) L (.long x :: S) h := run_goK hd (by show (match lkp ktab (mown i) k with | some (.long x) => goK (pc + 3) L (.long x :: S) | _ => none) = _; rw [hl])
/-- only where a cell has a tag -/
def tgK (o : MO) (t : Nat) (r : Option MR) : Option MR := if o.1 = t then r else none
theorem rn_cast {k t a : Nat} (hd : decode (mcode i) pc = .ok (.checkcast k, 3)) (hl : lkp xtab (mown i) k = some t) (ha : 5 ≤ a) : run d i pc L (.ref a :: S) h = tgK (h.1 a) t (run d i (pc + 3) L (.ref a :: S) h) := by
  have e : stepA i (.checkcast k) pc L (.ref a :: S) h = (if 5 ≤ a ∧ (h.1 a).1 = t then goK (pc + 3) L (.ref a :: S) else none) := by
    show (match (.ref a :: S : List Value), lkp xtab (mown i) k with | .ref a :: S', some t => (if 5 ≤ a ∧ (h.1 a).1 = t then goK (pc + 3) L (.ref a :: S') else none) | _, _ => none) = _
    rw [hl]
  unfold tgK
  by_cases ht : (h.1 a).1 = t
  · rw [if_pos ht]; rw [if_pos ⟨ha, ht⟩] at e; exact run_goK hd e
  · rw [if_neg ht]; rw [if_neg (fun q => ht q.2)] at e; exact run_non hd e
theorem cl_s {k kind j T : Nat} (hl : lkp ctab (mown i) k = some (kind, j, T)) (hk : kind = 0 ∨ kind = 6) : stepA i (.invokestatic k) pc L S h = mcall kind j T pc L S h := by
  show (match lkp ctab (mown i) k with | some (kind, j, T) => if kind = 0 ∨ kind = 6 then mcall kind j T pc L S h else none | none => none) = _
  rw [hl]; dsimp only; rw [if_pos hk]
theorem cl_v {k kind j T : Nat} (hl : lkp ctab (mown i) k = some (kind, j, T)) (hk : kind = 1 ∨ kind = 7 ∨ kind = 8) : stepA i (.invokevirtual k) pc L S h = mcall kind j T pc L S h := by
  show (match lkp ctab (mown i) k with | some (kind, j, T) => if kind = 1 ∨ kind = 7 ∨ kind = 8 then mcall kind j T pc L S h else none | none => none) = _
  rw [hl]; dsimp only; rw [if_pos hk]
theorem cl_p {k kind j T : Nat} (hl : lkp ctab (mown i) k = some (kind, j, T)) (hk : kind = 2 ∨ kind = 3 ∨ kind = 4 ∨ kind = 5) : stepA i (.invokespecial k) pc L S h = mcall kind j T pc L S h := by
  show (match lkp ctab (mown i) k with | some (kind, j, T) => if kind = 2 ∨ kind = 3 ∨ kind = 4 ∨ kind = 5 then mcall kind j T pc L S h else none | none => none) = _
  rw [hl]; dsimp only; rw [if_pos hk]
theorem rn_cS {k j T : Nat} {as S' Lc : List Value} (hd : decode (mcode i) pc = .ok (.invokestatic k, 3)) (hl : lkp ctab (mown i) k = some (0, j, T)) (hp : popN (mpar j) [] S = some (as, S')) (hm : mlocs j as = Lc) (hz : Lc.length = mloc j) (ho : okN 8 S' = true) : run (d + 1) i pc L S h = aft (d + 1) i pc (pc + 3) L S' (run d j 0 Lc [] h) := by
  subst hm
  have ho : okC j as S' = true := by simp only [okC, Bool.and_eq_true, beq_iff_eq]; exact ⟨ho, hz⟩
  refine run_call hd ((cl_s hl (Or.inl rfl)).trans ?_)
  show ((match popN (mpar j) [] S with | some (as, S') => if okC j as S' = true then some (.inr (.inr (.inl (j, as, S')))) else none | none => none) : Option MA) = _
  rw [hp]; dsimp only; rw [if_pos ho]
theorem rn_cV {k j T b : Nat} {as S' Lc : List Value} (hd : decode (mcode i) pc = .ok (.invokevirtual k, 3)) (hl : lkp ctab (mown i) k = some (1, j, T)) (hp : popN (mpar j) [] S = some (as, .ref b :: S')) (hm : mlocs j (.ref b :: as) = Lc) (hz : Lc.length = mloc j) (ho : okN 8 S' = true) : run (d + 1) i pc L S h = tgK (h.1 b) T (aft (d + 1) i pc (pc + 3) L S' (run d j 0 Lc [] h)) := by
  subst hm
  have ho : okC j (.ref b :: as) S' = true := by simp only [okC, Bool.and_eq_true, beq_iff_eq]; exact ⟨ho, hz⟩
  have e : stepA i (.invokevirtual k) pc L S h = (if okC j (.ref b :: as) S' = true ∧ (h.1 b).1 = T then some (.inr (.inr (.inl (j, .ref b :: as, S')))) else none) := by
    refine (cl_v hl (Or.inl rfl)).trans ?_
    show ((match popN (mpar j) [] S with | some (as, .ref b :: S') => if okC j (.ref b :: as) S' = true ∧ (h.1 b).1 = T then some (.inr (.inr (.inl (j, .ref b :: as, S')))) else none | _ => none) : Option MA) = _
    rw [hp]
  unfold tgK
  by_cases ht : (h.1 b).1 = T
  · rw [if_pos ht]; rw [if_pos ⟨ho, ht⟩] at e; exact run_call hd e
  · rw [if_neg ht]; rw [if_neg (fun q => ht q.2)] at e; exact run_non hd e
theorem rn_cI {k j T b kind : Nat} {as S' Lc : List Value} (hd : decode (mcode i) pc = .ok (.invokespecial k, 3)) (hl : lkp ctab (mown i) k = some (kind, j, T)) (hk : kind = 2 ∨ kind = 3) (hp : popN (mpar j) [] S = some (as, .ref b :: S')) (hm : mlocs j (.ref b :: as) = Lc) (hz : Lc.length = mloc j) (ho : okN 8 S' = true) : run (d + 1) i pc L S h = aft (d + 1) i pc (pc + 3) L S' (run d j 0 Lc [] h) := by
  subst hm
  have ho : okC j (.ref b :: as) S' = true := by simp only [okC, Bool.and_eq_true, beq_iff_eq]; exact ⟨ho, hz⟩
  rcases hk with rfl | rfl
  · refine run_call hd ((cl_p hl (Or.inl rfl)).trans ?_)
    show ((match popN (mpar j) [] S with | some (as, .ref b :: S') => if okC j (.ref b :: as) S' = true then some (.inr (.inr (.inl (j, .ref b :: as, S')))) else none | _ => none) : Option MA) = _
    rw [hp]; dsimp only; rw [if_pos ho]
  · refine run_call hd ((cl_p hl (Or.inr (Or.inl rfl))).trans ?_)
    show ((match popN (mpar j) [] S with | some (as, .ref b :: S') => if okC j (.ref b :: as) S' = true then some (.inr (.inr (.inl (j, .ref b :: as, S')))) else none | _ => none) : Option MA) = _
    rw [hp]; dsimp only; rw [if_pos ho]
theorem rn_obj {k j T b : Nat} (hd : decode (mcode i) pc = .ok (.invokespecial k, 3)) (hl : lkp ctab (mown i) k = some (4, j, T)) (ho : okN 8 S = true) : run d i pc L (.ref b :: S) h = run d i (pc + 3) L S h :=
  run_goK hd ((cl_p hl (Or.inr (Or.inr (Or.inl rfl)))).trans (by show (if okN 8 S = true then goK (pc + 3) L S else none) = _; rw [if_pos ho]))
theorem rn_exc {k j T b : Nat} (hd : decode (mcode i) pc = .ok (.invokespecial k, 3)) (hl : lkp ctab (mown i) k = some (5, j, T)) (hb : 5 ≤ b) (ho : okN 8 S = true) : run d i pc L (.ref b :: S) h = tgK (h.1 b) (30 + T) (run d i (pc + 3) L S (hput h b (40 + T, (h.1 b).2))) := by
  have e : stepA i (.invokespecial k) pc L (.ref b :: S) h = (if 5 ≤ b ∧ (h.1 b).1 = 30 + T ∧ okN 8 S = true then goP (pc + 3) L S b (40 + T, (h.1 b).2) else none) := (cl_p hl (Or.inr (Or.inr (Or.inr rfl)))).trans rfl
  unfold tgK
  by_cases ht : (h.1 b).1 = 30 + T
  · rw [if_pos ht]; rw [if_pos ⟨hb, ht, ho⟩] at e; exact run_goP hd e
  · rw [if_neg ht]; rw [if_neg (fun q => ht q.2.1)] at e; exact run_non hd e
theorem rn_throw {b : Nat} (hd : decode (mcode i) pc = .ok (.athrow, 1)) (hb : 40 ≤ (h.1 b).1 ∧ (h.1 b).1 < 43) : run d i pc L (.ref b :: S) h = thrK d i pc L b h :=
  run_thr hd (by show (if 40 ≤ (h.1 b).1 ∧ (h.1 b).1 < 43 then _ else none) = _; rw [if_pos hb])
theorem rn_copy {k j T a b : Nat} {n sp dp : Int32} (hd : decode (mcode i) pc = .ok (.invokestatic k, 3)) (hl : lkp ctab (mown i) k = some (6, j, T)) (hc : 5 ≤ a ∧ 5 ≤ b ∧ (h.1 a).1 = 24 ∧ (h.1 b).1 = 24 ∧ ¬ n < 0 ∧ ¬ dp < 0 ∧ ¬ sp < 0 ∧ sp.toNatClampNeg + n.toNatClampNeg ≤ (h.1 a).2.length ∧ dp.toNatClampNeg + n.toNatClampNeg ≤ (h.1 b).2.length ∧ (h.1 a).2.all (okE h) = true ∧ okN 8 S = true) : run d i pc L (.int n :: .int dp :: .ref b :: .int sp :: .ref a :: S) h = run d i (pc + 3) L S (hput h b (24, cpyL (h.1 a).2 (h.1 b).2 sp.toNatClampNeg dp.toNatClampNeg n.toNatClampNeg)) :=
  run_goP hd ((cl_s hl (Or.inr rfl)).trans (by
    show (if 5 ≤ a ∧ 5 ≤ b ∧ (h.1 a).1 = 24 ∧ (h.1 b).1 = 24 ∧ ¬ n < 0 ∧ ¬ dp < 0 ∧ ¬ sp < 0 ∧ sp.toNatClampNeg + n.toNatClampNeg ≤ (h.1 a).2.length ∧ dp.toNatClampNeg + n.toNatClampNeg ≤ (h.1 b).2.length ∧ (h.1 a).2.all (okE h) = true ∧ okN 8 S = true then goP (pc + 3) L S b (24, cpyL (h.1 a).2 (h.1 b).2 sp.toNatClampNeg dp.toNatClampNeg n.toNatClampNeg) else none) = _
    rw [if_pos hc]))
theorem rn_clone {k j T a : Nat} (hd : decode (mcode i) pc = .ok (.invokevirtual k, 3)) (hl : lkp ctab (mown i) k = some (7, j, T)) (hc : 5 ≤ a ∧ (h.1 a).1 = 20 ∧ (h.1 a).2.all isI = true ∧ okN 8 S = true) : run d i pc L (.ref a :: S) h = run d i (pc + 3) L (.ref h.2.1 :: S) (hnew h (20, (h.1 a).2)) :=
  run_goN hd ((cl_v hl (Or.inr (Or.inl rfl))).trans (by
    show (if 5 ≤ a ∧ (h.1 a).1 = 20 ∧ (h.1 a).2.all isI = true ∧ okN 8 S = true then goN (pc + 3) L (.ref h.2.1 :: S) (20, (h.1 a).2) else none) = _
    rw [if_pos hc]))
theorem rn_gcls {k j T a : Nat} (hd : decode (mcode i) pc = .ok (.invokevirtual k, 3)) (hl : lkp ctab (mown i) k = some (8, j, T)) (hc : 5 ≤ a ∧ (h.1 a).1 = 24 ∧ okN 8 S = true) : run d i pc L (.ref a :: S) h = run d i (pc + 3) L (.ref 4 :: S) h :=
  run_goK hd ((cl_v hl (Or.inr (Or.inr rfl))).trans (by
    show (if 5 ≤ a ∧ (h.1 a).1 = 24 ∧ okN 8 S = true then goK (pc + 3) L (.ref 4 :: S) else none) = _
    rw [if_pos hc]))
theorem rn_iret {v : Int32} {ty : FieldType} (hd : decode (mcode i) pc = .ok (.ireturn, 1)) (hr : mret i = some ty) (hn : narrow ty (.int v) = .int v) : run d i pc L [.int v] h = some (.inl (some (.int v)), h) := run_ret hd (by
  show ((match ([.int v] : List Value), mret i with | [.int v], some ty => (if narrow ty (Value.int v) = Value.int v then some (.inr (.inl (some (.int v)))) else none) | _, _ => none) : Option MA) = _
  rw [hr]; dsimp only; rw [if_pos hn])
theorem rn_lret {v : Int64} (hd : decode (mcode i) pc = .ok (.lreturn, 1)) (hr : mret i = some .long) : run d i pc L [.long v] h = some (.inl (some (.long v)), h) := run_ret hd (by
  show ((match ([.long v] : List Value), mret i with | [.long v], some .long => some (.inr (.inl (some (.long v)))) | _, _ => none) : Option MA) = _
  rw [hr])
theorem rn_aretO {v : Nat} {s : String} (hd : decode (mcode i) pc = .ok (.areturn, 1)) (hr : mret i = some (.object s)) : run d i pc L [.ref v] h = some (.inl (some (.ref v)), h) := run_ret hd (by
  show ((match ([.ref v] : List Value), mret i with | [.ref v], some (.object _) => some (.inr (.inl (some (.ref v)))) | [.ref v], some (.array _) => some (.inr (.inl (some (.ref v)))) | _, _ => none) : Option MA) = _
  rw [hr])
theorem rn_aretA {v : Nat} {t : FieldType} (hd : decode (mcode i) pc = .ok (.areturn, 1)) (hr : mret i = some (.array t)) : run d i pc L [.ref v] h = some (.inl (some (.ref v)), h) := run_ret hd (by
  show ((match ([.ref v] : List Value), mret i with | [.ref v], some (.object _) => some (.inr (.inl (some (.ref v)))) | [.ref v], some (.array _) => some (.inr (.inl (some (.ref v)))) | _, _ => none) : Option MA) = _
  rw [hr])
theorem rn_vret (hd : decode (mcode i) pc = .ok (.return_, 1)) (hr : mret i = none) : run d i pc L [] h = some (.inl none, h) := run_ret hd (by
  show ((match ([] : List Value), mret i with | [], none => some (.inr (.inl none)) | _, _ => none) : Option MA) = _
  rw [hr])
end RN
section RN2
variable {d i pc : Nat} {L S : List Value} {h : MH}
theorem rn_ic {n : Int} {v : Int32} (hd : decode (mcode i) pc = .ok (.iconst n, 1)) (hv : Int32.ofInt n = v) : run d i pc L S h = run d i (pc + 1) L (.int v :: S) h := by subst hv; exact run_goK hd rfl
theorem rn_bi {n : Int} {v : Int32} (hd : decode (mcode i) pc = .ok (.bipush n, 2)) (hv : (Int8.ofInt n).toInt32 = v) : run d i pc L S h = run d i (pc + 2) L (.int v :: S) h := by subst hv; exact run_goK hd rfl
theorem rn_si {n : Int} {v : Int32} (hd : decode (mcode i) pc = .ok (.sipush n, 3)) (hv : (Int16.ofInt n).toInt32 = v) : run d i pc L S h = run d i (pc + 3) L (.int v :: S) h := by subst hv; exact run_goK hd rfl
theorem rn_lc {n : Fin 2} {v : Int64} (hd : decode (mcode i) pc = .ok (.lconst n, 1)) (hv : Int64.ofNat n.val = v) : run d i pc L S h = run d i (pc + 1) L (.long v :: S) h := by subst hv; exact run_goK hd rfl
theorem rn_in {k : Nat} {n : Int} {x v : Int32} (hd : decode (mcode i) pc = .ok (.iinc k n, 3)) (hv : Int32.ofInt n = v) (hk : L[k]? = some (.int x)) (ho : okp L k = true) : run d i pc L S h = run d i (pc + 3) (L.set k (.int (x + v))) S h := by subst hv; exact rn_inc hd hk ho
theorem rn_ifn {off : Int} {q : Nat} {x : Int32} (hd : decode (mcode i) pc = .ok (.ifCond .ne off, 3)) (hq : (pc : Int) + off = (q : Int)) : run d i pc L (.int x :: S) h = if x = 0 then run d i (pc + 3) L S h else run d i q L S h := by
  rw [rn_ifc (P := ¬ x = 0) hd hq rfl, ite_not]
theorem rn_icn {off : Int} {q : Nat} {x y : Int32} (hd : decode (mcode i) pc = .ok (.if_icmp .ne off, 3)) (hq : (pc : Int) + off = (q : Int)) : run d i pc L (.int y :: .int x :: S) h = if x = y then run d i (pc + 3) L S h else run d i q L S h := by
  rw [rn_icm (P := ¬ x = y) hd hq rfl, ite_not]
theorem mlocs_eq {j m : Nat} {as Lc : List Value} (hm : mloc j = m) (he : expA as ++ List.replicate (m - (expA as).length) .null = Lc) : mlocs j as = Lc := by unfold mlocs; rw [hm]; exact he
theorem rm_cS {k j n m T : Nat} {as S' Lc : List Value} (hd : decode (mcode i) pc = .ok (.invokestatic k, 3)) (hl : lkp ctab (mown i) k = some (0, j, T)) (hn : mpar j = n) (hm : mloc j = m) (hp : popN n [] S = some (as, S')) (he : expA as ++ List.replicate (m - (expA as).length) .null = Lc) (ho : okN 8 S' = true) (hz : Lc.length = m := by rfl) : run (d + 1) i pc L S h = aft (d + 1) i pc (pc + 3) L S' (run d j 0 Lc [] h) := rn_cS hd hl (by rw [hn]; exact hp) (mlocs_eq hm he) (by rw [hm]; exact hz) ho
theorem rm_cV {k j n m T b : Nat} {as S' Lc : List Value} (hd : decode (mcode i) pc = .ok (.invokevirtual k, 3)) (hl : lkp ctab (mown i) k = some (1, j, T)) (hn : mpar j = n) (hm : mloc j = m) (hp : popN n [] S = some (as, .ref b :: S')) (he : expA (.ref b :: as) ++ List.replicate (m - (expA (.ref b :: as)).length) .null = Lc) (ho : okN 8 S' = true) (hz : Lc.length = m := by rfl) : run (d + 1) i pc L S h = tgK (h.1 b) T (aft (d + 1) i pc (pc + 3) L S' (run d j 0 Lc [] h)) := rn_cV hd hl (by rw [hn]; exact hp) (mlocs_eq hm he) (by rw [hm]; exact hz) ho
theorem rm_cI {k j n m T b kind : Nat} {as S' Lc : List Value} (hd : decode (mcode i) pc = .ok (.invokespecial k, 3)) (hl : lkp ctab (mown i) k = some (kind, j, T)) (hk : kind = 2 ∨ kind = 3) (hn : mpar j = n) (hm : mloc j = m) (hp : popN n [] S = some (as, .ref b :: S')) (he : expA (.ref b :: as) ++ List.replicate (m - (expA (.ref b :: as)).length) .null = Lc) (ho : okN 8 S' = true) (hz : Lc.length = m := by rfl) : run (d + 1) i pc L S h = aft (d + 1) i pc (pc + 3) L S' (run d j 0 Lc [] h) := rn_cI hd hl hk (by rw [hn]; exact hp) (mlocs_eq hm he) (by rw [hm]; exact hz) ho
end RN2
