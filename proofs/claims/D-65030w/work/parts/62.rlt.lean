/-! PLAIN LEAN, 23: rules in the twin, the whole -/
theorem uc_uc (σ : AS) (j : Nat) (a b : List Nat) : uc (uc σ j a) j b = uc σ j b := by
  unfold uc
  congr 1
  funext i
  by_cases h : i = j <;> simp [h]
theorem prs_c {t : Nat → Nat} {sz c : Nat} {R' : List Nat} : ∀ (f i n : Nat) (R : List Nat), prs t sz f i n R = .inr (c, R') → c ≤ n + f
  | 0, i, n, R, h => by simp [prs] at h
  | f + 1, i, n, R, h => by
    unfold prs at h
    split at h
    · cases h
    · split at h
      · cases h
      · split at h
        · cases h
        · split at h
          · cases h; omega
          · split at h
            · have := prs_c f _ _ _ h; omega
            · cases h
section TV
variable {th d : Nat} {σ : AS} {h : MH}
theorem rul_keep (on : Bool) {q v : Nat} (hL : WL σ) (hV : WV σ) (hS : WS σ) (hv : v ≤ 99999) : WL (rul on σ q v) ∧ WV (rul on σ q v) ∧ WS (rul on σ q v) ∧ tx (rul on σ q v) = tx σ ∧ (rul on σ q v).1 = σ.1 ∧ (rul on σ q v).2 13 = if on = true then (σ.2 13).set q v else σ.2 13 := by
  cases on with
  | false => simpa [rul] using ⟨hL, hV, hS⟩
  | true =>
    unfold rul
    rw [if_pos rfl]
    refine ⟨by simpa [WL, uc] using hL, fun j => ?_, hS, ?_, rfl, ?_⟩
    · have w := hV j
      simp only [uc_2, if_false, if_true, Nat.reduceEqDiff]
      refine ⟨w.1, w.2.1, w.2.2.1, w.2.2.2.1, w.2.2.2.2.1, w.2.2.2.2.2.1, w.2.2.2.2.2.2.1, w.2.2.2.2.2.2.2.1, w.2.2.2.2.2.2.2.2.1, w.2.2.2.2.2.2.2.2.2.1, w.2.2.2.2.2.2.2.2.2.2.1, w.2.2.2.2.2.2.2.2.2.2.2.1, ?_, w.2.2.2.2.2.2.2.2.2.2.2.2.2⟩
      rw [gD_set]
      split
      · exact hv
      · exact w.2.2.2.2.2.2.2.2.2.2.2.2.1
    · rfl
    · rw [uc_2]; rfl
/-- what go comes to -/
def GoP (on : Bool) (th : Nat) (σ : AS) (h : MH) (r : Nat ⊕ (Nat × List Nat)) : Option Value ⊕ Nat → MH → Prop := fun o h' => match r with
  | .inl p => o = .inl (some (.int (-1))) ∧ (on = false → ∃ e, TY th σ e p h') ∧ FrT h h'
  | .inr (c, R) => o = .inl (some (.int (nI c))) ∧ TW th (if on = true then uc σ 13 R else σ) h' ∧ FrT h h'
theorem Ret.imp {r : Option MR} {P Q : Option Value ⊕ Nat → MH → Prop} (h : Ret r P) (hpq : ∀ o h', P o h' → Q o h') : Ret r Q := by
  obtain ⟨o, h', e, p⟩ := h
  exact ⟨o, h', e, hpq o h' p⟩
theorem t_gol (on : Bool) : ∀ (f : Nat) (σ : AS) (i n w : Nat) (R : List Nat) (h : MH) (x3 x4 x5 x6 : Value), WL σ → WV σ → WS σ → nlg x3 = true → nlg x4 = true → n + f = 7 → 1 ≤ f → i ≤ σ.1 3 → (on = true → R = σ.2 13) → TY th σ i w h →
    Ret (run (d + 2) 89 7 [.ref 16, .int (b2i on), .int (nI n), x3, x4, x5, x6] [] h) (GoP on th σ h (prs (tx σ) (σ.1 3) f i n R)) := by
  intro f
  induction f with
  | zero => intro σ i n w R h x3 x4 x5 x6 hL hV hS n3 n4 hf h1; omega
  | succ f ih =>
    intro σ i n w R h x3 x4 x5 x6 hL hV hS n3 n4 hf h1 hi hR T
    have s5 := hS.2.2.2.2
    unfold prs
    split
    · next hc =>
      exact (t_goF (d := d) hL hV hS T (by omega) (by omega) (Or.inl hc)).imp (fun o h' ⟨p1, p2, p3⟩ => ⟨p1, fun _ => ⟨_, p2⟩, p3⟩)
    · next q hc =>
      by_cases hn : n = 6
      · rw [if_pos hn]
        exact (t_goF (d := d) hL hV hS T (by omega) (by omega) (Or.inr hn)).imp (fun o h' ⟨p1, p2, p3⟩ => ⟨p1, fun _ => ⟨_, p2⟩, p3⟩)
      · rw [if_neg hn]
        have hlt : i < σ.1 3 := by
          by_cases z : i < σ.1 3
          · exact z
          · rw [if_neg z] at hc; cases hc
        rw [if_pos hlt] at hc
        obtain ⟨h1', e1, T1, F1⟩ := t_goN (d := d) (n := n) (on := b2i on) (z5 := x5) (z6 := x6) hL hV hS T hlt (by omega) hc n3 n4
        have nb := num_b (t := tx σ) (sz := σ.1 3) 5 (i + 1) 0 (by omega)
        have nv := num_v (t := tx σ) (sz := σ.1 3) (i := i + 1) (by omega)
        rw [e1]
        generalize hE : (num (tx σ) (σ.1 3) 5 (i + 1) 0).1 = e at *
        generalize hv : (num (tx σ) (σ.1 3) 5 (i + 1) 0).2 = v at *
        by_cases hg : e = i + 1 ∨ gdv q v = false
        · rw [if_pos hg]
          exact (t_goV (d := d) T1 (by omega) (by omega) hg).imp (fun o h' ⟨p1, p2, p3⟩ => ⟨p1, fun _ => ⟨_, p2⟩, F1.trans p3⟩)
        · rw [if_neg hg]
          have hg1 : ¬ e = i + 1 := fun z => hg (Or.inl z)
          have hg2 : gdv q v = true := by
            cases z : gdv q v with
            | false => exact absurd (Or.inr z) hg
            | true => rfl
          rw [hg2]
          obtain ⟨h2, e2, T2, F2⟩ := t_goR (d := d) (n := n) (v := v) (on := on) hL T1 (by omega) (by omega) (plc_lt hc) hg1
          rw [e2]
          obtain ⟨kL, kV, kS, kt, k1, k13⟩ := rul_keep (σ := σ) on (q := q) (v := v) hL hV hS nv
          obtain ⟨r1, r2, r3⟩ := t_goS (d := d) (n := n + 1) (on := b2i on) (x3 := nI q) (x4 := nI (i + 1)) (x5 := nI v) (x6 := b2i true) kL kV kS T2 (by rw [k1]; omega) (by omega)
          rw [k1, kt] at r2 r3
          rw [k1] at r1
          have hfin : ∀ τ : AS, τ = rul on σ q v → (if on = true then uc σ 13 (R.set q v) else σ) = τ := by
            intro τ hτ
            subst hτ
            cases on with
            | false => simp [rul]
            | true => rw [hR rfl]; simp [rul]
          by_cases he : e = σ.1 3
          · rw [if_pos he]
            refine (r1 he).imp (fun o h' ⟨p1, p2, p3⟩ => ⟨p1, ?_, (F1.trans F2).trans p3⟩)
            rw [hfin _ rfl]
            exact p2.w
          · rw [if_neg he]
            by_cases hs : tx σ e = 59 ∧ n + 1 ≠ 6
            · rw [if_pos hs]
              obtain ⟨h3, e3, T3, F3⟩ := r3 he hs
              rw [e3]
              have hi' := ih (rul on σ q v) (e + 1) (n + 1) e (R.set q v) h3 (.int (nI q)) (.int (nI (i + 1))) (.int (nI v)) (.int (b2i true)) kL kV kS rfl rfl (by omega) (by omega) (by rw [k1]; omega) (fun z => by rw [k13, if_pos z, hR z]) T3
              rw [kt, k1] at hi'
              refine hi'.imp (fun o h' hp => ?_)
              cases hr : prs (tx σ) (σ.1 3) f (e + 1) (n + 1) (R.set q v) with
              | inl p =>
                rw [hr] at hp
                obtain ⟨p1, p2, p3⟩ := hp
                refine ⟨p1, fun z => ?_, ((F1.trans F2).trans F3).trans p3⟩
                subst z
                simpa [rul] using p2 rfl
              | inr cR =>
                rw [hr] at hp
                obtain ⟨c, R'⟩ := cR
                obtain ⟨p1, p2, p3⟩ := hp
                refine ⟨p1, ?_, ((F1.trans F2).trans F3).trans p3⟩
                cases on with
                | false => simpa [rul] using p2
                | true => simpa [rul, uc_uc] using p2
            · rw [if_neg hs]
              refine (r2 he hs).imp (fun o h' ⟨p1, p2, p3⟩ => ⟨p1, fun z => ?_, (F1.trans F2).trans p3⟩)
              subst z
              exact ⟨_, by simpa [rul] using p2⟩
theorem TW.y (T : TW th σ h) : ∃ at_ wr ic op mo, mo.length = 4 ∧ h.1 16 = mdl th (σ.1 0) (σ.2 1).length (σ.1 1) (σ.1 2) (σ.2 6).length (σ.1 3) at_ wr (σ.2 10).length ic op ∧ TA σ mo h := T
theorem nI_sur (x : Int32) : ∃ n, x = nI n := ⟨x.toBitVec.toNat, Int32.toBitVec_inj.mp (by simp [nI])⟩
theorem t_go (on : Bool) (T : TW th σ h) (hL : WL σ) (hV : WV σ) (hS : WS σ) : Ret (run (d + 2) 89 0 [.ref 16, .int (b2i on), .null, .null, .null, .null, .null] [] h) (GoP on th σ h (prs (tx σ) (σ.1 3) 7 0 0 (σ.2 13))) := by
  obtain ⟨at_, wr, ic, op, mo, hmo, hM, a17, a18, a19, a20, a21, a22, a23, a24, a25, a26, a27, a28, a29, a30, a31, a32, a33⟩ := T
  obtain ⟨w0, rfl⟩ := nI_sur wr
  have T1 : TY th σ 0 w0 (hput h 16 (mdY th σ 0 w0 ic op)) := by
    refine ⟨ic, op, mo, hmo, ?_, ?_⟩
    · simp (disch := first | omega | (simp only [nlg_r, nlg_i, nlg_n, ok_0, ok_i, ok_r, ok_l]; done) | assumption | (simp only [List.length_set, List.length_append, List.length_cons, List.length_nil]; omega)) only [aft_v, aft_n, aft_t, gf_0, gf_s, pf_e, tg_e, hp_s, hp_n, hp_2, List.set_cons_zero, List.set_cons_succ, b2i_t, b2i_f, Ret_s, nlg_r, nlg_i, nlg_n, ok_0, ok_i, ok_r, ok_l, zi_e, zi_n, zi_t, Nat.reduceEqDiff, Nat.not_le, Nat.reduceLeDiff, if_true, if_false, eq_self, ↓reduceIte, Nat.reduceLT, Nat.le_refl, nle1, nez1, nez2]
    · simp (disch := first | omega | (simp only [nlg_r, nlg_i, nlg_n, ok_0, ok_i, ok_r, ok_l]; done) | assumption | (simp only [List.length_set, List.length_append, List.length_cons, List.length_nil]; omega)) only [TA, aft_v, aft_n, aft_t, gf_0, gf_s, pf_e, tg_e, hp_s, hp_n, hp_2, List.set_cons_zero, List.set_cons_succ, b2i_t, b2i_f, Ret_s, nlg_r, nlg_i, nlg_n, ok_0, ok_i, ok_r, ok_l, zi_e, zi_n, zi_t, Nat.reduceEqDiff, Nat.not_le, Nat.reduceLeDiff, if_true, if_false, eq_self, ↓reduceIte, Nat.reduceLT, Nat.le_refl, nle1, nez1, nez2, a17, a18, a19, a20, a21, a22, a23, a24, a25, a26, a27, a28, a29, a30, a31, a32, a33, and_self]
  have hr := t_gol (d := d) on 7 σ 0 0 w0 (σ.2 13) _ .null .null .null .null hL hV hS rfl rfl (by omega) (by omega) (by omega) (fun _ => rfl) T1
  have e : run (d + 2) 89 0 [.ref 16, .int (b2i on), .null, .null, .null, .null, .null] [] h = run (d + 2) 89 7 [.ref 16, .int (b2i on), .int (nI 0), .null, .null, .null, .null] [] (hput h 16 (mdY th σ 0 w0 ic op)) := by
    simp (disch := first | omega | (simp only [nlg_r, nlg_i, nlg_n, ok_0, ok_i, ok_r, ok_l]; done) | assumption | (simp only [List.length_set, List.length_append, List.length_cons, List.length_nil]; omega)) only [r_89_0, r_89_1, r_89_2, r_89_5, r_89_6, hM, mdl, aft_v, aft_n, aft_t, gf_0, gf_s, pf_e, tg_e, hp_s, hp_n, hp_2, List.set_cons_zero, List.set_cons_succ, b2i_t, b2i_f, Ret_s, nlg_r, nlg_i, nlg_n, ok_0, ok_i, ok_r, ok_l, zi_e, zi_n, zi_t, Nat.reduceEqDiff, Nat.not_le, Nat.reduceLeDiff, if_true, if_false, eq_self, ↓reduceIte, Nat.reduceLT, Nat.le_refl, nle1, nez1, nez2, show nI 0 = 0 from rfl]
  rw [e]
  refine hr.imp (fun o h' hp => ?_)
  cases hr : prs (tx σ) (σ.1 3) 7 0 0 (σ.2 13) with
  | inl p =>
    rw [hr] at hp
    exact ⟨hp.1, hp.2.1, ((FrT.refl h).put (by omega)).trans hp.2.2⟩
  | inr c =>
    rw [hr] at hp
    exact ⟨hp.1, hp.2.1, ((FrT.refl h).put (by omega)).trans hp.2.2⟩
/-- what rules comes to -/
def rlr (r : Nat ⊕ (Nat × List Nat)) : Int32 := match r with | .inl p => -1 - nI p | .inr (c, _) => nI c
def rls (σ : AS) (r : Nat ⊕ (Nat × List Nat)) : AS := match r with | .inl _ => us σ 3 0 | .inr (_, R) => us (uc σ 13 R) 3 0
theorem TW.sz {τ : AS} (T : TW th τ h) : ∃ at_ wr ic op, h.1 16 = mdl th (τ.1 0) (τ.2 1).length (τ.1 1) (τ.1 2) (τ.2 6).length (τ.1 3) at_ wr (τ.2 10).length ic op ∧ TW th (us τ 3 0) (hput h 16 (mdl th (τ.1 0) (τ.2 1).length (τ.1 1) (τ.1 2) (τ.2 6).length 0 at_ wr (τ.2 10).length ic op)) := by
  obtain ⟨at_, wr, ic, op, mo, hmo, hM, a17, a18, a19, a20, a21, a22, a23, a24, a25, a26, a27, a28, a29, a30, a31, a32, a33⟩ := T
  refine ⟨at_, wr, ic, op, hM, at_, wr, ic, op, mo, hmo, ?_, ?_⟩
  · simp (disch := first | omega | (simp only [nlg_r, nlg_i, nlg_n, ok_0, ok_i, ok_r, ok_l]; done) | assumption | (simp only [List.length_set, List.length_append, List.length_cons, List.length_nil]; omega)) only [aft_v, aft_n, aft_t, gf_0, gf_s, pf_e, tg_e, hp_s, hp_n, hp_2, List.set_cons_zero, List.set_cons_succ, b2i_t, b2i_f, Ret_s, nlg_r, nlg_i, nlg_n, ok_0, ok_i, ok_r, ok_l, zi_e, zi_n, zi_t, Nat.reduceEqDiff, Nat.not_le, Nat.reduceLeDiff, if_true, if_false, eq_self, ↓reduceIte, Nat.reduceLT, Nat.le_refl, nle1, nez1, nez2, us_1, us_2]
  · simp (disch := first | omega | (simp only [nlg_r, nlg_i, nlg_n, ok_0, ok_i, ok_r, ok_l]; done) | assumption | (simp only [List.length_set, List.length_append, List.length_cons, List.length_nil]; omega)) only [TA, aft_v, aft_n, aft_t, gf_0, gf_s, pf_e, tg_e, hp_s, hp_n, hp_2, List.set_cons_zero, List.set_cons_succ, b2i_t, b2i_f, Ret_s, nlg_r, nlg_i, nlg_n, ok_0, ok_i, ok_r, ok_l, zi_e, zi_n, zi_t, Nat.reduceEqDiff, Nat.not_le, Nat.reduceLeDiff, if_true, if_false, eq_self, ↓reduceIte, Nat.reduceLT, Nat.le_refl, nle1, nez1, nez2, us_1, us_2, a17, a18, a19, a20, a21, a22, a23, a24, a25, a26, a27, a28, a29, a30, a31, a32, a33, and_self]
theorem t_rules (T : TW th σ h) (hL : WL σ) (hV : WV σ) (hS : WS σ) : Ret (run (d + 3) 88 0 [.ref 16, .null] [] h) (TP h (.int (rlr (prs (tx σ) (σ.1 3) 7 0 0 (σ.2 13)))) 0 (rls σ (prs (tx σ) (σ.1 3) 7 0 0 (σ.2 13)))) := by
  obtain ⟨at0, wr0, ic0, op0, hM0, T1⟩ := T.set 0
  obtain ⟨o, h1, e1, hp⟩ := t_go (d := d) false T1 hL hV hS
  have F0 : FrT h (hput h 16 (mdl 0 (σ.1 0) (σ.2 1).length (σ.1 1) (σ.1 2) (σ.2 6).length (σ.1 3) at0 wr0 (σ.2 10).length ic0 op0)) := (FrT.refl h).put (by omega)
  simp only [mdl, show nI 0 = 0 from rfl, b2i_f] at e1
  cases hr : prs (tx σ) (σ.1 3) 7 0 0 (σ.2 13) with
  | inl p =>
    rw [hr] at hp
    obtain ⟨p1, p2, p3⟩ := hp
    subst p1
    obtain ⟨e, T2⟩ := p2 rfl
    have T3 := T2.w
    obtain ⟨ic, op, mo, hmo, hM, -⟩ := T2
    obtain ⟨at2, wr2, ic2, op2, hM2, T4⟩ := T3.sz
    cases hM.symm.trans hM2
    simp only [mdl, show nI 0 = 0 from rfl] at T4
    simp (disch := first | omega | (simp only [nlg_r, nlg_i, nlg_n, ok_0, ok_i, ok_r, ok_l]; done) | assumption | (simp only [List.length_set, List.length_append, List.length_cons, List.length_nil]; omega)) only [r_88_0, r_88_1, r_88_2, r_88_5, r_88_6, r_88_7, r_88_10, r_88_11, r_88_12, r_88_13, r_88_16, r_88_17, r_88_18, r_88_21, r_88_22, r_88_25, r_88_26, r_88_27, r_88_30, r_88_31, r_88_32, r_88_33, r_88_34, r_88_37, r_88_38, hM0, hM, mdl, aft_v, aft_n, aft_t, gf_0, gf_s, pf_e, tg_e, hp_s, hp_n, hp_2, List.set_cons_zero, List.set_cons_succ, b2i_t, b2i_f, Ret_s, nlg_r, nlg_i, nlg_n, ok_0, ok_i, ok_r, ok_l, zi_e, zi_n, zi_t, Nat.reduceEqDiff, Nat.not_le, Nat.reduceLeDiff, if_true, if_false, eq_self, ↓reduceIte, Nat.reduceLT, Nat.le_refl, nle1, nez1, nez2, b2i_f, e1, rlr, rls]
    exact ⟨rfl, T4, (F0.trans p3).put (by omega)⟩
  | inr cR =>
    obtain ⟨c, R⟩ := cR
    rw [hr] at hp
    obtain ⟨p1, p2, p3⟩ := hp
    subst p1
    rw [if_neg (by decide)] at p2
    obtain ⟨o2, h2, e2, hp2⟩ := t_go (d := d) true p2 hL hV hS
    rw [hr] at hp2
    obtain ⟨q1, q2, q3⟩ := hp2
    subst q1
    rw [if_pos rfl] at q2
    obtain ⟨at1, wr1, ic1, op1, mo1, hmo1, hM1, -⟩ := p2
    obtain ⟨at2, wr2, ic2, op2, hM2, T4⟩ := q2.sz
    have hc : c < 2 ^ 31 := by have := prs_c 7 0 0 _ hr; omega
    simp only [mdl, show nI 0 = 0 from rfl] at T4
    simp only [b2i_t] at e2
    simp (disch := first | omega | (simp only [nlg_r, nlg_i, nlg_n, ok_0, ok_i, ok_r, ok_l]; done) | assumption | (simp only [List.length_set, List.length_append, List.length_cons, List.length_nil]; omega)) only [r_88_0, r_88_1, r_88_2, r_88_5, r_88_6, r_88_7, r_88_10, r_88_11, r_88_12, r_88_13, r_88_16, r_88_17, r_88_18, r_88_21, r_88_22, r_88_25, r_88_26, r_88_27, r_88_30, r_88_31, r_88_32, r_88_33, r_88_34, r_88_37, r_88_38, hM0, hM1, hM2, mdl, aft_v, aft_n, aft_t, gf_0, gf_s, pf_e, tg_e, hp_s, hp_n, hp_2, List.set_cons_zero, List.set_cons_succ, b2i_t, b2i_f, Ret_s, nlg_r, nlg_i, nlg_n, ok_0, ok_i, ok_r, ok_l, zi_e, zi_n, zi_t, Nat.reduceEqDiff, Nat.not_le, Nat.reduceLeDiff, if_true, if_false, eq_self, ↓reduceIte, Nat.reduceLT, Nat.le_refl, nle1, nez1, nez2, b2i_f, e1, e2, ng_e, rlr, rls]
    exact ⟨rfl, T4, ((F0.trans p3).trans q3).put (by omega)⟩
end TV
