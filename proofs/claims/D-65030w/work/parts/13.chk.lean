/-! SOUNDNESS, 4: the tables that are decided: each word by its place in lw_tbl; printed by gen_chk.py -/
theorem lkp_mem {α : Type} {l : List ((Nat × Nat) × α)} {o k : Nat} {x : α} (e : lkp l o k = some x) : ((o, k), x) ∈ l := by
  unfold lkp at e
  cases hf : l.find? (fun e => e.1.1 == o && e.1.2 == k) with
  | none => rw [hf] at e; cases e
  | some q =>
    rw [hf] at e
    have h1 := List.mem_of_find?_eq_some hf
    have h2 := List.find?_some hf
    simp only [Bool.and_eq_true, beq_iff_eq] at h2
    obtain ⟨⟨a, b⟩, y⟩ := q
    cases e
    obtain ⟨rfl, rfl⟩ := h2
    exact h1
/-- the word stands at a place -/
def wat (w : Jvm.Cond) (n : Nat) : Bool := decide (lw_tbl[n]? = some w)
theorem wat_mem {w : Jvm.Cond} {n : Nat} (h : wat w n = true) : w ∈ lw_tbl := List.mem_of_getElem? (of_decide_eq_true h)
def allz {α β : Type} (f : α → β → Bool) : List α → List β → Bool
  | [], _ => true
  | a :: l, b :: m => f a b && allz f l m
  | _ :: _, [] => false
theorem allz_mem {α β : Type} {f : α → β → Bool} : ∀ {l : List α} {m : List β}, allz f l m = true → ∀ a ∈ l, ∃ b, f a b = true
  | [], _, _, a, h => absurd h List.not_mem_nil
  | x :: l, [], e, a, h => by simp [allz] at e
  | x :: l, b :: m, e, a, h => by
    simp only [allz, Bool.and_eq_true] at e
    rcases List.mem_cons.mp h with rfl | h
    · exact ⟨b, e.1⟩
    · exact allz_mem e.2 a h
def n0 (l : List Nat) (k : Nat) : Nat := l.getD k 0
def ixf : List (List Nat) := [
  [130], [131], [132], [133], [134], [135], [136], [138],
  [139], [140], [137], [141], [466], [468], [470], [472],
  [464], [98], [95], [669], [672], [676], [117], [120],
  [115], [116], [118], [119], [671], [674], [934], [935],
  [93], [94], [96], [97], [463], [467], [465], [469],
  [471], [668], [670], [673], [675], [990], [991], [994],
  [995], [996], [997], [998], [999], [1000], [1002], [1003],
  [1005], [1006], [1007], [1008], [1010], [1014], [1015], [989],
  [993], [1001], [992], [1009], [1011], [1012], [1004], [1016],
  [1017], [1013], [75], [76], [78, 79], [77], [891], [892]]
def fchk (e : (Nat × Nat) × (Nat × Nat × Bool × String)) (q : List Nat) : Bool :=
  decide (e.2.2.1 < NF e.2.1) && (decide (e.2.1 < 8) || (decide (e.2.1 = 8) && !e.2.2.2.1)) &&
  (if e.2.2.2.1 = true then wat (.fieldLinkNest (cn e.1.1) e.1.2 e.2.2.2.2 (FT e.2.1 e.2.2.1).2.1 (FT e.2.1 e.2.2.1).2.2.1 "RopeClosures") (n0 q 0) else wat (.fieldLink (cn e.1.1) e.1.2 e.2.2.2.2 (FT e.2.1 e.2.2.1).2.1 (FT e.2.1 e.2.2.1).2.2.1) (n0 q 0)) &&
  (decide (e.2.2.2.2 = (FT e.2.1 e.2.2.1).1) || wat (.sameField e.2.2.2.2 (FT e.2.1 e.2.2.1).1 (FT e.2.1 e.2.2.1).2.1 (FT e.2.1 e.2.2.1).2.2.1) (n0 q 1))
set_option maxRecDepth 100000 in
theorem fchk_ok : allz fchk ftab ixf = true := by decide +kernel
def ixo : List (List Nat) := [
  [142, 144, 146, 148, 150, 152, 154, 156, 158, 160, 162, 164],
  [99, 101, 103, 105],
  [121, 123, 125, 127],
  [473, 475, 477, 479, 481],
  [677, 679, 681, 683],
  [936, 938],
  [1018, 1020, 1022, 1024, 1026, 1028, 1030, 1032, 1034, 1036, 1038, 1040, 1042, 1044, 1046, 1048, 1050, 1052, 1054, 1056, 1058, 1060, 1062, 1064, 1066, 1068, 1070, 1072, 1074],
  [80, 82, 84],
  [404, 406]]
def ochk (t : Nat) (q : List Nat) : Bool := allz (fun w n => wat w n && (w.onTables && w.keeps)) (u_ws (on t) (FT t) (NF t)) q &&
  ((List.range (NF t)).all (fun k => decide (parseFieldDescriptor (FT t k).2.2.1 = some (fty t k)))) &&
  ((List.range (NF t)).all (fun a => (List.range (NF t)).all (fun b => decide (a = b) || decide ((FT t a).2.1 ≠ (FT t b).2.1)))) &&
  decide ((dfl t).length = NF t) && decide (dfl t = (List.range (NF t)).map (fun k => defaultValue (fty t k)))
set_option maxRecDepth 100000 in
theorem ochk_ok : allz ochk (List.range 9) ixo = true := by decide +kernel
theorem o_all {t : Nat} (ht : t < 9) : ∃ q, ochk t q = true := allz_mem ochk_ok t (List.mem_range.mpr ht)
theorem o_words {t : Nat} (ht : t < 9) : ∀ w ∈ u_ws (on t) (FT t) (NF t), w ∈ lw_tbl ∧ (w.onTables && w.keeps) = true := by
  obtain ⟨q, h⟩ := o_all ht
  simp only [ochk, Bool.and_eq_true] at h
  intro w hw
  obtain ⟨n, h1⟩ := allz_mem h.1.1.1.1 w hw
  simp only [Bool.and_eq_true] at h1 ⊢
  exact ⟨wat_mem h1.1, h1.2⟩
theorem o_ty {t : Nat} (ht : t < 9) : ∀ k, k < NF t → parseFieldDescriptor (FT t k).2.2.1 = some (fty t k) := by
  obtain ⟨q, h⟩ := o_all ht
  simp only [ochk, Bool.and_eq_true] at h
  intro k hk
  exact of_decide_eq_true (List.all_eq_true.mp h.1.1.1.2 k (List.mem_range.mpr hk))
theorem o_nm {t : Nat} (ht : t < 9) : ∀ a, a < NF t → ∀ b, b < NF t → a ≠ b → (FT t a).2.1 ≠ (FT t b).2.1 := by
  obtain ⟨q, h⟩ := o_all ht
  simp only [ochk, Bool.and_eq_true] at h
  intro a ha b hb hab
  have h1 := List.all_eq_true.mp (List.all_eq_true.mp h.1.1.2 a (List.mem_range.mpr ha)) b (List.mem_range.mpr hb)
  simp only [Bool.or_eq_true, decide_eq_true_eq] at h1
  rcases h1 with h1 | h1
  · exact absurd h1 hab
  · exact h1
theorem o_len {t : Nat} (ht : t < 9) : (dfl t).length = NF t := by
  obtain ⟨q, h⟩ := o_all ht
  simp only [ochk, Bool.and_eq_true] at h
  exact of_decide_eq_true h.1.2
theorem o_dfl {t : Nat} (ht : t < 9) : dfl t = (List.range (NF t)).map (fun k => defaultValue (fty t k)) := by
  obtain ⟨q, h⟩ := o_all ht
  simp only [ochk, Bool.and_eq_true] at h
  exact of_decide_eq_true h.2
theorem cls_at : ∀ t, t < 9 → classes[t]? = some (on t, FT t, NF t) := by
  intro t ht
  match t, ht with
  | 0, _ => rfl
  | 1, _ => rfl
  | 2, _ => rfl
  | 3, _ => rfl
  | 4, _ => rfl
  | 5, _ => rfl
  | 6, _ => rfl
  | 7, _ => rfl
  | 8, _ => rfl
  | n + 9, h => omega
/-- the word that gives a method's code -/
def cwd (i : Nat) : Jvm.Cond := if mhan i = [] then .code (mnam i) (mcode i) (mloc i) (mret i) else .codeWith (mnam i) (mcode i) (mloc i) (mret i) (mhan i)
theorem in_1 {w : Jvm.Cond} (h : w ∈ tables_1_1) : w ∈ lw_tbl := List.mem_append_right _ (List.mem_append_left _ h)
theorem in_2 {w : Jvm.Cond} (h : w ∈ tables_1_2) : w ∈ lw_tbl := List.mem_append_right _ (List.mem_append_right _ (List.mem_append_left _ h))
theorem in_3 {w : Jvm.Cond} (h : w ∈ tables_1_3) : w ∈ lw_tbl := List.mem_append_right _ (List.mem_append_right _ (List.mem_append_right _ (List.mem_append_left _ h)))
theorem in_4 {w : Jvm.Cond} (h : w ∈ tables_1_4) : w ∈ lw_tbl := List.mem_append_right _ (List.mem_append_right _ (List.mem_append_right _ (List.mem_append_right _ (List.mem_append_left _ h))))
theorem in_5 {w : Jvm.Cond} (h : w ∈ tables_1_5) : w ∈ lw_tbl := List.mem_append_right _ (List.mem_append_right _ (List.mem_append_right _ (List.mem_append_right _ (List.mem_append_right _ (List.mem_append_left _ h)))))
theorem in_6 {w : Jvm.Cond} (h : w ∈ tables_1_6) : w ∈ lw_tbl := List.mem_append_right _ (List.mem_append_right _ (List.mem_append_right _ (List.mem_append_right _ (List.mem_append_right _ (List.mem_append_right _ h)))))
set_option maxRecDepth 20000 in
theorem cw_1 : cwd 1 ∈ lw_tbl := in_2 (List.mem_of_getElem? (i := 113) rfl)
set_option maxRecDepth 20000 in
theorem cw_2 : cwd 2 ∈ lw_tbl := in_3 (List.mem_of_getElem? (i := 41) rfl)
set_option maxRecDepth 20000 in
theorem cw_3 : cwd 3 ∈ lw_tbl := in_3 (List.mem_of_getElem? (i := 51) rfl)
set_option maxRecDepth 20000 in
theorem cw_4 : cwd 4 ∈ lw_tbl := in_3 (List.mem_of_getElem? (i := 59) rfl)
set_option maxRecDepth 20000 in
theorem cw_5 : cwd 5 ∈ lw_tbl := in_3 (List.mem_of_getElem? (i := 104) rfl)
set_option maxRecDepth 20000 in
theorem cw_6 : cwd 6 ∈ lw_tbl := in_3 (List.mem_of_getElem? (i := 116) rfl)
set_option maxRecDepth 20000 in
theorem cw_7 : cwd 7 ∈ lw_tbl := in_3 (List.mem_of_getElem? (i := 127) rfl)
set_option maxRecDepth 20000 in
theorem cw_8 : cwd 8 ∈ lw_tbl := in_3 (List.mem_of_getElem? (i := 155) rfl)
set_option maxRecDepth 20000 in
theorem cw_9 : cwd 9 ∈ lw_tbl := in_4 (List.mem_of_getElem? (i := 160) rfl)
set_option maxRecDepth 20000 in
theorem cw_10 : cwd 10 ∈ lw_tbl := in_4 (List.mem_of_getElem? (i := 167) rfl)
set_option maxRecDepth 20000 in
theorem cw_11 : cwd 11 ∈ lw_tbl := in_4 (List.mem_of_getElem? (i := 174) rfl)
set_option maxRecDepth 20000 in
theorem cw_12 : cwd 12 ∈ lw_tbl := in_4 (List.mem_of_getElem? (i := 181) rfl)
set_option maxRecDepth 20000 in
theorem cw_13 : cwd 13 ∈ lw_tbl := in_4 (List.mem_of_getElem? (i := 201) rfl)
set_option maxRecDepth 20000 in
theorem cw_14 : cwd 14 ∈ lw_tbl := in_4 (List.mem_of_getElem? (i := 221) rfl)
set_option maxRecDepth 20000 in
theorem cw_15 : cwd 15 ∈ lw_tbl := in_4 (List.mem_of_getElem? (i := 229) rfl)
set_option maxRecDepth 20000 in
theorem cw_16 : cwd 16 ∈ lw_tbl := in_4 (List.mem_of_getElem? (i := 236) rfl)
set_option maxRecDepth 20000 in
theorem cw_17 : cwd 17 ∈ lw_tbl := in_1 (List.mem_of_getElem? (i := 35) rfl)
set_option maxRecDepth 20000 in
theorem cw_18 : cwd 18 ∈ lw_tbl := in_1 (List.mem_of_getElem? (i := 150) rfl)
set_option maxRecDepth 20000 in
theorem cw_19 : cwd 19 ∈ lw_tbl := in_1 (List.mem_of_getElem? (i := 158) rfl)
set_option maxRecDepth 20000 in
theorem cw_20 : cwd 20 ∈ lw_tbl := in_2 (List.mem_of_getElem? (i := 99) rfl)
set_option maxRecDepth 20000 in
theorem cw_21 : cwd 21 ∈ lw_tbl := in_2 (List.mem_of_getElem? (i := 102) rfl)
set_option maxRecDepth 20000 in
theorem cw_22 : cwd 22 ∈ lw_tbl := in_2 (List.mem_of_getElem? (i := 106) rfl)
set_option maxRecDepth 20000 in
theorem cw_23 : cwd 23 ∈ lw_tbl := in_2 (List.mem_of_getElem? (i := 151) rfl)
set_option maxRecDepth 20000 in
theorem cw_24 : cwd 24 ∈ lw_tbl := in_2 (List.mem_of_getElem? (i := 154) rfl)
set_option maxRecDepth 20000 in
theorem cw_25 : cwd 25 ∈ lw_tbl := in_2 (List.mem_of_getElem? (i := 157) rfl)
set_option maxRecDepth 20000 in
theorem cw_26 : cwd 26 ∈ lw_tbl := in_2 (List.mem_of_getElem? (i := 175) rfl)
set_option maxRecDepth 20000 in
theorem cw_27 : cwd 27 ∈ lw_tbl := in_2 (List.mem_of_getElem? (i := 193) rfl)
set_option maxRecDepth 20000 in
theorem cw_28 : cwd 28 ∈ lw_tbl := in_3 (List.mem_of_getElem? (i := 45) rfl)
set_option maxRecDepth 20000 in
theorem cw_29 : cwd 29 ∈ lw_tbl := in_3 (List.mem_of_getElem? (i := 48) rfl)
set_option maxRecDepth 20000 in
theorem cw_30 : cwd 30 ∈ lw_tbl := in_3 (List.mem_of_getElem? (i := 55) rfl)
set_option maxRecDepth 20000 in
theorem cw_31 : cwd 31 ∈ lw_tbl := in_3 (List.mem_of_getElem? (i := 63) rfl)
set_option maxRecDepth 20000 in
theorem cw_32 : cwd 32 ∈ lw_tbl := in_3 (List.mem_of_getElem? (i := 67) rfl)
set_option maxRecDepth 20000 in
theorem cw_33 : cwd 33 ∈ lw_tbl := in_3 (List.mem_of_getElem? (i := 71) rfl)
set_option maxRecDepth 20000 in
theorem cw_34 : cwd 34 ∈ lw_tbl := in_3 (List.mem_of_getElem? (i := 108) rfl)
set_option maxRecDepth 20000 in
theorem cw_35 : cwd 35 ∈ lw_tbl := in_3 (List.mem_of_getElem? (i := 112) rfl)
set_option maxRecDepth 20000 in
theorem cw_36 : cwd 36 ∈ lw_tbl := in_3 (List.mem_of_getElem? (i := 120) rfl)
set_option maxRecDepth 20000 in
theorem cw_37 : cwd 37 ∈ lw_tbl := in_3 (List.mem_of_getElem? (i := 131) rfl)
set_option maxRecDepth 20000 in
theorem cw_38 : cwd 38 ∈ lw_tbl := in_3 (List.mem_of_getElem? (i := 135) rfl)
set_option maxRecDepth 20000 in
theorem cw_39 : cwd 39 ∈ lw_tbl := in_3 (List.mem_of_getElem? (i := 159) rfl)
set_option maxRecDepth 20000 in
theorem cw_40 : cwd 40 ∈ lw_tbl := in_4 (List.mem_of_getElem? (i := 164) rfl)
set_option maxRecDepth 20000 in
theorem cw_41 : cwd 41 ∈ lw_tbl := in_4 (List.mem_of_getElem? (i := 171) rfl)
set_option maxRecDepth 20000 in
theorem cw_42 : cwd 42 ∈ lw_tbl := in_4 (List.mem_of_getElem? (i := 178) rfl)
set_option maxRecDepth 20000 in
theorem cw_43 : cwd 43 ∈ lw_tbl := in_4 (List.mem_of_getElem? (i := 185) rfl)
set_option maxRecDepth 20000 in
theorem cw_44 : cwd 44 ∈ lw_tbl := in_4 (List.mem_of_getElem? (i := 205) rfl)
set_option maxRecDepth 20000 in
theorem cw_45 : cwd 45 ∈ lw_tbl := in_4 (List.mem_of_getElem? (i := 225) rfl)
set_option maxRecDepth 20000 in
theorem cw_46 : cwd 46 ∈ lw_tbl := in_4 (List.mem_of_getElem? (i := 233) rfl)
set_option maxRecDepth 20000 in
theorem cw_47 : cwd 47 ∈ lw_tbl := in_5 (List.mem_of_getElem? (i := 0) rfl)
set_option maxRecDepth 20000 in
theorem cw_48 : cwd 48 ∈ lw_tbl := in_1 (List.mem_of_getElem? (i := 91) rfl)
set_option maxRecDepth 20000 in
theorem cw_49 : cwd 49 ∈ lw_tbl := in_3 (List.mem_of_getElem? (i := 139) rfl)
set_option maxRecDepth 20000 in
theorem cw_50 : cwd 50 ∈ lw_tbl := in_3 (List.mem_of_getElem? (i := 144) rfl)
set_option maxRecDepth 20000 in
theorem cw_51 : cwd 51 ∈ lw_tbl := in_3 (List.mem_of_getElem? (i := 148) rfl)
set_option maxRecDepth 20000 in
theorem cw_52 : cwd 52 ∈ lw_tbl := in_3 (List.mem_of_getElem? (i := 152) rfl)
set_option maxRecDepth 20000 in
theorem cw_53 : cwd 53 ∈ lw_tbl := in_4 (List.mem_of_getElem? (i := 190) rfl)
set_option maxRecDepth 20000 in
theorem cw_54 : cwd 54 ∈ lw_tbl := in_4 (List.mem_of_getElem? (i := 209) rfl)
set_option maxRecDepth 20000 in
theorem cw_55 : cwd 55 ∈ lw_tbl := in_4 (List.mem_of_getElem? (i := 212) rfl)
set_option maxRecDepth 20000 in
theorem cw_56 : cwd 56 ∈ lw_tbl := in_4 (List.mem_of_getElem? (i := 215) rfl)
set_option maxRecDepth 20000 in
theorem cw_57 : cwd 57 ∈ lw_tbl := in_4 (List.mem_of_getElem? (i := 218) rfl)
set_option maxRecDepth 20000 in
theorem cw_58 : cwd 58 ∈ lw_tbl := in_1 (List.mem_of_getElem? (i := 69) rfl)
set_option maxRecDepth 20000 in
theorem cw_59 : cwd 59 ∈ lw_tbl := in_1 (List.mem_of_getElem? (i := 154) rfl)
set_option maxRecDepth 20000 in
theorem cw_60 : cwd 60 ∈ lw_tbl := in_1 (List.mem_of_getElem? (i := 170) rfl)
set_option maxRecDepth 20000 in
theorem cw_61 : cwd 61 ∈ lw_tbl := in_1 (List.mem_of_getElem? (i := 175) rfl)
set_option maxRecDepth 20000 in
theorem cw_62 : cwd 62 ∈ lw_tbl := in_2 (List.mem_of_getElem? (i := 25) rfl)
set_option maxRecDepth 20000 in
theorem cw_63 : cwd 63 ∈ lw_tbl := in_2 (List.mem_of_getElem? (i := 95) rfl)
set_option maxRecDepth 20000 in
theorem cw_64 : cwd 64 ∈ lw_tbl := in_2 (List.mem_of_getElem? (i := 199) rfl)
set_option maxRecDepth 20000 in
theorem cw_65 : cwd 65 ∈ lw_tbl := in_3 (List.mem_of_getElem? (i := 89) rfl)
set_option maxRecDepth 20000 in
theorem cw_66 : cwd 66 ∈ lw_tbl := in_3 (List.mem_of_getElem? (i := 97) rfl)
set_option maxRecDepth 20000 in
theorem cw_67 : cwd 67 ∈ lw_tbl := in_3 (List.mem_of_getElem? (i := 101) rfl)
set_option maxRecDepth 20000 in
theorem cw_68 : cwd 68 ∈ lw_tbl := in_3 (List.mem_of_getElem? (i := 124) rfl)
set_option maxRecDepth 20000 in
theorem cw_69 : cwd 69 ∈ lw_tbl := in_3 (List.mem_of_getElem? (i := 164) rfl)
set_option maxRecDepth 20000 in
theorem cw_70 : cwd 70 ∈ lw_tbl := in_3 (List.mem_of_getElem? (i := 187) rfl)
set_option maxRecDepth 20000 in
theorem cw_71 : cwd 71 ∈ lw_tbl := in_5 (List.mem_of_getElem? (i := 5) rfl)
set_option maxRecDepth 20000 in
theorem cw_72 : cwd 72 ∈ lw_tbl := in_5 (List.mem_of_getElem? (i := 98) rfl)
set_option maxRecDepth 20000 in
theorem cw_73 : cwd 73 ∈ lw_tbl := in_5 (List.mem_of_getElem? (i := 102) rfl)
set_option maxRecDepth 20000 in
theorem cw_74 : cwd 74 ∈ lw_tbl := in_5 (List.mem_of_getElem? (i := 105) rfl)
set_option maxRecDepth 20000 in
theorem cw_75 : cwd 75 ∈ lw_tbl := in_5 (List.mem_of_getElem? (i := 109) rfl)
set_option maxRecDepth 20000 in
theorem cw_76 : cwd 76 ∈ lw_tbl := in_5 (List.mem_of_getElem? (i := 113) rfl)
set_option maxRecDepth 20000 in
theorem cw_77 : cwd 77 ∈ lw_tbl := in_5 (List.mem_of_getElem? (i := 118) rfl)
set_option maxRecDepth 20000 in
theorem cw_78 : cwd 78 ∈ lw_tbl := in_5 (List.mem_of_getElem? (i := 122) rfl)
set_option maxRecDepth 20000 in
theorem cw_79 : cwd 79 ∈ lw_tbl := in_5 (List.mem_of_getElem? (i := 126) rfl)
set_option maxRecDepth 20000 in
theorem cw_80 : cwd 80 ∈ lw_tbl := in_5 (List.mem_of_getElem? (i := 132) rfl)
set_option maxRecDepth 20000 in
theorem cw_81 : cwd 81 ∈ lw_tbl := in_5 (List.mem_of_getElem? (i := 136) rfl)
set_option maxRecDepth 20000 in
theorem cw_82 : cwd 82 ∈ lw_tbl := in_5 (List.mem_of_getElem? (i := 140) rfl)
set_option maxRecDepth 20000 in
theorem cw_83 : cwd 83 ∈ lw_tbl := in_5 (List.mem_of_getElem? (i := 144) rfl)
set_option maxRecDepth 20000 in
theorem cw_84 : cwd 84 ∈ lw_tbl := in_5 (List.mem_of_getElem? (i := 148) rfl)
set_option maxRecDepth 20000 in
theorem cw_85 : cwd 85 ∈ lw_tbl := in_5 (List.mem_of_getElem? (i := 152) rfl)
set_option maxRecDepth 20000 in
theorem cw_86 : cwd 86 ∈ lw_tbl := in_5 (List.mem_of_getElem? (i := 156) rfl)
set_option maxRecDepth 20000 in
theorem cw_87 : cwd 87 ∈ lw_tbl := in_5 (List.mem_of_getElem? (i := 160) rfl)
set_option maxRecDepth 20000 in
theorem cw_88 : cwd 88 ∈ lw_tbl := in_5 (List.mem_of_getElem? (i := 164) rfl)
set_option maxRecDepth 20000 in
theorem cw_89 : cwd 89 ∈ lw_tbl := in_5 (List.mem_of_getElem? (i := 168) rfl)
set_option maxRecDepth 20000 in
theorem cw_90 : cwd 90 ∈ lw_tbl := in_5 (List.mem_of_getElem? (i := 171) rfl)
set_option maxRecDepth 20000 in
theorem cw_91 : cwd 91 ∈ lw_tbl := in_5 (List.mem_of_getElem? (i := 175) rfl)
set_option maxRecDepth 20000 in
theorem cw_92 : cwd 92 ∈ lw_tbl := in_5 (List.mem_of_getElem? (i := 179) rfl)
set_option maxRecDepth 20000 in
theorem cw_93 : cwd 93 ∈ lw_tbl := in_5 (List.mem_of_getElem? (i := 183) rfl)
set_option maxRecDepth 20000 in
theorem cw_94 : cwd 94 ∈ lw_tbl := in_5 (List.mem_of_getElem? (i := 187) rfl)
set_option maxRecDepth 20000 in
theorem cw_95 : cwd 95 ∈ lw_tbl := in_5 (List.mem_of_getElem? (i := 191) rfl)
set_option maxRecDepth 20000 in
theorem cw_96 : cwd 96 ∈ lw_tbl := in_5 (List.mem_of_getElem? (i := 195) rfl)
set_option maxRecDepth 20000 in
theorem cw_97 : cwd 97 ∈ lw_tbl := in_5 (List.mem_of_getElem? (i := 199) rfl)
set_option maxRecDepth 20000 in
theorem cw_98 : cwd 98 ∈ lw_tbl := in_5 (List.mem_of_getElem? (i := 203) rfl)
set_option maxRecDepth 20000 in
theorem cw_99 : cwd 99 ∈ lw_tbl := in_5 (List.mem_of_getElem? (i := 206) rfl)
set_option maxRecDepth 20000 in
theorem cw_100 : cwd 100 ∈ lw_tbl := in_5 (List.mem_of_getElem? (i := 210) rfl)
set_option maxRecDepth 20000 in
theorem cw_101 : cwd 101 ∈ lw_tbl := in_5 (List.mem_of_getElem? (i := 215) rfl)
set_option maxRecDepth 20000 in
theorem cw_102 : cwd 102 ∈ lw_tbl := in_5 (List.mem_of_getElem? (i := 219) rfl)
set_option maxRecDepth 20000 in
theorem cw_103 : cwd 103 ∈ lw_tbl := in_5 (List.mem_of_getElem? (i := 223) rfl)
set_option maxRecDepth 20000 in
theorem cw_104 : cwd 104 ∈ lw_tbl := in_1 (List.mem_of_getElem? (i := 43) rfl)
set_option maxRecDepth 20000 in
theorem cw_105 : cwd 105 ∈ lw_tbl := in_1 (List.mem_of_getElem? (i := 46) rfl)
set_option maxRecDepth 20000 in
theorem cw_106 : cwd 106 ∈ lw_tbl := in_1 (List.mem_of_getElem? (i := 49) rfl)
set_option maxRecDepth 20000 in
theorem cw_107 : cwd 107 ∈ lw_tbl := in_2 (List.mem_of_getElem? (i := 110) rfl)
set_option maxRecDepth 20000 in
theorem cw_108 : cwd 108 ∈ lw_tbl := in_3 (List.mem_of_getElem? (i := 75) rfl)
set_option maxRecDepth 20000 in
theorem cw_109 : cwd 109 ∈ lw_tbl := in_3 (List.mem_of_getElem? (i := 85) rfl)
set_option maxRecDepth 20000 in
theorem cw_110 : cwd 110 ∈ lw_tbl := in_2 (List.mem_of_getElem? (i := 225) rfl)
set_option maxRecDepth 20000 in
theorem cw_111 : cwd 111 ∈ lw_tbl := in_2 (List.mem_of_getElem? (i := 229) rfl)
set_option maxRecDepth 20000 in
theorem cw_112 : cwd 112 ∈ lw_tbl := in_2 (List.mem_of_getElem? (i := 233) rfl)
set_option maxRecDepth 20000 in
theorem cw_113 : cwd 113 ∈ lw_tbl := in_2 (List.mem_of_getElem? (i := 237) rfl)
set_option maxRecDepth 20000 in
theorem cw_114 : cwd 114 ∈ lw_tbl := in_3 (List.mem_of_getElem? (i := 191) rfl)
set_option maxRecDepth 20000 in
theorem cw_115 : cwd 115 ∈ lw_tbl := in_3 (List.mem_of_getElem? (i := 195) rfl)
set_option maxRecDepth 20000 in
theorem cw_116 : cwd 116 ∈ lw_tbl := in_3 (List.mem_of_getElem? (i := 78) rfl)
set_option maxRecDepth 20000 in
theorem cw_117 : cwd 117 ∈ lw_tbl := in_3 (List.mem_of_getElem? (i := 81) rfl)
set_option maxRecDepth 20000 in
theorem cw_118 : cwd 118 ∈ lw_tbl := in_3 (List.mem_of_getElem? (i := 0) rfl)
set_option maxRecDepth 20000 in
theorem cw_119 : cwd 119 ∈ lw_tbl := in_1 (List.mem_of_getElem? (i := 206) rfl)
set_option maxRecDepth 20000 in
theorem cw_120 : cwd 120 ∈ lw_tbl := in_1 (List.mem_of_getElem? (i := 209) rfl)
set_option maxRecDepth 20000 in
theorem cw_121 : cwd 121 ∈ lw_tbl := in_3 (List.mem_of_getElem? (i := 93) rfl)
set_option maxRecDepth 20000 in
theorem cw_122 : cwd 122 ∈ lw_tbl := in_3 (List.mem_of_getElem? (i := 8) rfl)
set_option maxRecDepth 20000 in
theorem cw_123 : cwd 123 ∈ lw_tbl := in_3 (List.mem_of_getElem? (i := 29) rfl)
set_option maxRecDepth 20000 in
theorem cw_124 : cwd 124 ∈ lw_tbl := in_1 (List.mem_of_getElem? (i := 179) rfl)
set_option maxRecDepth 20000 in
theorem cw_125 : cwd 125 ∈ lw_tbl := in_1 (List.mem_of_getElem? (i := 183) rfl)
set_option maxRecDepth 20000 in
theorem cw_126 : cwd 126 ∈ lw_tbl := in_1 (List.mem_of_getElem? (i := 187) rfl)
set_option maxRecDepth 20000 in
theorem cw_127 : cwd 127 ∈ lw_tbl := in_1 (List.mem_of_getElem? (i := 193) rfl)
set_option maxRecDepth 20000 in
theorem cw_128 : cwd 128 ∈ lw_tbl := in_1 (List.mem_of_getElem? (i := 197) rfl)
set_option maxRecDepth 20000 in
theorem cw_129 : cwd 129 ∈ lw_tbl := in_1 (List.mem_of_getElem? (i := 200) rfl)
set_option maxRecDepth 20000 in
theorem cw_130 : cwd 130 ∈ lw_tbl := in_1 (List.mem_of_getElem? (i := 203) rfl)
set_option maxRecDepth 20000 in
theorem cw_131 : cwd 131 ∈ lw_tbl := in_1 (List.mem_of_getElem? (i := 212) rfl)
theorem cw_all {i : Nat} (h1 : 1 ≤ i) (h2 : i < 132) : cwd i ∈ lw_tbl := by
  match i, h1, h2 with
  | 1, _, _ => exact cw_1
  | 2, _, _ => exact cw_2
  | 3, _, _ => exact cw_3
  | 4, _, _ => exact cw_4
  | 5, _, _ => exact cw_5
  | 6, _, _ => exact cw_6
  | 7, _, _ => exact cw_7
  | 8, _, _ => exact cw_8
  | 9, _, _ => exact cw_9
  | 10, _, _ => exact cw_10
  | 11, _, _ => exact cw_11
  | 12, _, _ => exact cw_12
  | 13, _, _ => exact cw_13
  | 14, _, _ => exact cw_14
  | 15, _, _ => exact cw_15
  | 16, _, _ => exact cw_16
  | 17, _, _ => exact cw_17
  | 18, _, _ => exact cw_18
  | 19, _, _ => exact cw_19
  | 20, _, _ => exact cw_20
  | 21, _, _ => exact cw_21
  | 22, _, _ => exact cw_22
  | 23, _, _ => exact cw_23
  | 24, _, _ => exact cw_24
  | 25, _, _ => exact cw_25
  | 26, _, _ => exact cw_26
  | 27, _, _ => exact cw_27
  | 28, _, _ => exact cw_28
  | 29, _, _ => exact cw_29
  | 30, _, _ => exact cw_30
  | 31, _, _ => exact cw_31
  | 32, _, _ => exact cw_32
  | 33, _, _ => exact cw_33
  | 34, _, _ => exact cw_34
  | 35, _, _ => exact cw_35
  | 36, _, _ => exact cw_36
  | 37, _, _ => exact cw_37
  | 38, _, _ => exact cw_38
  | 39, _, _ => exact cw_39
  | 40, _, _ => exact cw_40
  | 41, _, _ => exact cw_41
  | 42, _, _ => exact cw_42
  | 43, _, _ => exact cw_43
  | 44, _, _ => exact cw_44
  | 45, _, _ => exact cw_45
  | 46, _, _ => exact cw_46
  | 47, _, _ => exact cw_47
  | 48, _, _ => exact cw_48
  | 49, _, _ => exact cw_49
  | 50, _, _ => exact cw_50
  | 51, _, _ => exact cw_51
  | 52, _, _ => exact cw_52
  | 53, _, _ => exact cw_53
  | 54, _, _ => exact cw_54
  | 55, _, _ => exact cw_55
  | 56, _, _ => exact cw_56
  | 57, _, _ => exact cw_57
  | 58, _, _ => exact cw_58
  | 59, _, _ => exact cw_59
  | 60, _, _ => exact cw_60
  | 61, _, _ => exact cw_61
  | 62, _, _ => exact cw_62
  | 63, _, _ => exact cw_63
  | 64, _, _ => exact cw_64
  | 65, _, _ => exact cw_65
  | 66, _, _ => exact cw_66
  | 67, _, _ => exact cw_67
  | 68, _, _ => exact cw_68
  | 69, _, _ => exact cw_69
  | 70, _, _ => exact cw_70
  | 71, _, _ => exact cw_71
  | 72, _, _ => exact cw_72
  | 73, _, _ => exact cw_73
  | 74, _, _ => exact cw_74
  | 75, _, _ => exact cw_75
  | 76, _, _ => exact cw_76
  | 77, _, _ => exact cw_77
  | 78, _, _ => exact cw_78
  | 79, _, _ => exact cw_79
  | 80, _, _ => exact cw_80
  | 81, _, _ => exact cw_81
  | 82, _, _ => exact cw_82
  | 83, _, _ => exact cw_83
  | 84, _, _ => exact cw_84
  | 85, _, _ => exact cw_85
  | 86, _, _ => exact cw_86
  | 87, _, _ => exact cw_87
  | 88, _, _ => exact cw_88
  | 89, _, _ => exact cw_89
  | 90, _, _ => exact cw_90
  | 91, _, _ => exact cw_91
  | 92, _, _ => exact cw_92
  | 93, _, _ => exact cw_93
  | 94, _, _ => exact cw_94
  | 95, _, _ => exact cw_95
  | 96, _, _ => exact cw_96
  | 97, _, _ => exact cw_97
  | 98, _, _ => exact cw_98
  | 99, _, _ => exact cw_99
  | 100, _, _ => exact cw_100
  | 101, _, _ => exact cw_101
  | 102, _, _ => exact cw_102
  | 103, _, _ => exact cw_103
  | 104, _, _ => exact cw_104
  | 105, _, _ => exact cw_105
  | 106, _, _ => exact cw_106
  | 107, _, _ => exact cw_107
  | 108, _, _ => exact cw_108
  | 109, _, _ => exact cw_109
  | 110, _, _ => exact cw_110
  | 111, _, _ => exact cw_111
  | 112, _, _ => exact cw_112
  | 113, _, _ => exact cw_113
  | 114, _, _ => exact cw_114
  | 115, _, _ => exact cw_115
  | 116, _, _ => exact cw_116
  | 117, _, _ => exact cw_117
  | 118, _, _ => exact cw_118
  | 119, _, _ => exact cw_119
  | 120, _, _ => exact cw_120
  | 121, _, _ => exact cw_121
  | 122, _, _ => exact cw_122
  | 123, _, _ => exact cw_123
  | 124, _, _ => exact cw_124
  | 125, _, _ => exact cw_125
  | 126, _, _ => exact cw_126
  | 127, _, _ => exact cw_127
  | 128, _, _ => exact cw_128
  | 129, _, _ => exact cw_129
  | 130, _, _ => exact cw_130
  | 131, _, _ => exact cw_131
  | n + 132, _, h => omega
def ixm : List (List Nat) := [
  [22], [22], [22], [22], [22], [22], [22], [22], [22], [22], [22], [22], [22], [22], [22], [22], [23], [23], [23], [23], [23], [23], [23], [23],
  [23], [23], [23], [23], [23], [23], [23], [23], [23], [23], [23], [23], [23], [23], [23], [23], [23], [23], [23], [23], [23], [23], [23], [28],
  [28], [28], [28], [28], [52], [52], [52], [52], [52], [27], [27], [27], [27], [27], [27], [38], [38], [38], [38], [38], [48], [48], [29], [29],
  [29], [29], [29], [29], [29], [29], [29], [29], [29], [29], [29], [29], [29], [29], [29], [29], [29], [29], [29], [29], [29], [29], [29], [29],
  [29], [29], [29], [29], [29], [29], [29], [26], [25], [24], [26], [26], [26], [26], [26], [26], [26], [26], [26], [43], [44], [39], [40], [40],
  [40], [41], [41], [35], [35], [35], [35], [35], [45], [45], [45]]
def mchk (i : Nat) (q : List Nat) : Bool := decide ((mnam i).cls = cn (mown i)) && wat (.initialized (mnam i).cls) (n0 q 0) && decide ((mnam i).cls ≠ "java/lang/invoke/MethodHandle" ∧ (mnam i).cls ≠ "java/lang/invoke/VarHandle") && (parseMethodDescriptor (mnam i).desc).isSome && decide (mloc i ≤ 60)
set_option maxRecDepth 100000 in
theorem mchk_ok : allz mchk ((List.range 132).drop 1) ixm = true := by decide +kernel
theorem m_ok {i : Nat} (h1 : 1 ≤ i) (h2 : i < 132) : ∃ q, mchk i q = true := by
  refine allz_mem mchk_ok i (List.mem_iff_getElem?.mpr ⟨i - 1, ?_⟩)
  rw [List.getElem?_drop, List.getElem?_range (by omega)]
  congr 1; omega
def pchk (i : Nat) : Bool := plainName (mnam i).cls
set_option maxRecDepth 100000 in
theorem pchk1 : (List.range 119).all pchk = true := by decide +kernel
set_option maxRecDepth 100000 in
theorem pchk2 : ((List.range 132).drop 122).all pchk = true := by decide +kernel
theorem pl_119 : plainFor (mnam 119) = true := by decide +kernel
theorem pl_120 : plainFor (mnam 120) = true := by decide +kernel
theorem pl_121 : plainFor (mnam 121) = true := by decide +kernel
theorem m_pl {i : Nat} (h2 : i < 132) : plainFor (mnam i) = true := by
  by_cases h : i < 119
  · exact plainFor_of_name (List.all_eq_true.mp pchk1 i (List.mem_range.mpr h))
  · by_cases h' : i < 122
    · rcases (show i = 119 ∨ i = 120 ∨ i = 121 by omega) with rfl | rfl | rfl
      · exact pl_119
      · exact pl_120
      · exact pl_121
    · refine plainFor_of_name (List.all_eq_true.mp pchk2 i (List.mem_iff_getElem?.mpr ⟨i - 122, ?_⟩))
      rw [List.getElem?_drop, List.getElem?_range (by omega)]
      congr 1; omega
def exs : List String := ["java/lang/RuntimeException", "java/lang/Exception"]
def tRefs : List Jvm.Cond := [.isRef (.static "java/lang/Throwable" "UNASSIGNED_STACK" "[Ljava/lang/StackTraceElement;"), .isRef (.static "java/lang/Throwable" "SUPPRESSED_SENTINEL" "Ljava/util/List;")]
def cloneO : MethodName := ⟨"java/lang/Object", "clone", "()Ljava/lang/Object;"⟩
def cloneI : MethodName := ⟨"[I", "clone", "()Ljava/lang/Object;"⟩
def getCl : MethodName := ⟨"java/lang/Object", "getClass", "()Ljava/lang/Class;"⟩
def ixc : List (List Nat) := [
  [410, 411, 412], [544, 545, 546], [554, 555, 556], [562, 563, 564],
  [607, 608, 609], [619, 620, 621], [630, 631, 632], [658, 659, 660],
  [903, 904, 905], [910, 911, 912], [917, 918, 919], [924, 925, 926],
  [944, 945, 946], [964, 965, 966], [972, 973, 974], [979, 980, 981],
  [55, 56], [985, 986], [373, 374], [1081, 1082, 1083],
  [1077, 1078, 1079], [541, 542], [1088, 1089, 1090], [551, 552],
  [1092, 1093, 1094], [559, 560], [1097, 1098, 1099], [604, 605],
  [1111, 1112, 1113], [616, 617], [1119, 1120, 1121], [627, 628],
  [1123, 1124, 1125], [169, 170, 171], [1139, 1140, 1141], [177, 178, 179],
  [1143, 1144, 1145], [358, 359, 360], [1158, 1159, 1160], [655, 656],
  [1162, 1163, 1164], [900, 901], [1166, 1167, 1168], [907, 908],
  [1170, 1171, 1172], [914, 915], [1174, 1175, 1176], [921, 922],
  [1178, 1179, 1180], [941, 942], [1182, 1183, 1184], [961, 962],
  [1189, 1190, 1191], [969, 970], [1194, 1195, 1196], [976, 977],
  [1198, 1199, 1200], [365, 366, 367], [1202, 1203, 1204], [58, 59, 60],
  [63, 64], [89, 90], [111, 112], [30, 310, 319, 324, 327, 329, 311, 312, 59, 60, 313, 318, 325, 342, 300, 343, 302, 344, 304, 314, 315, 316, 317, 306, 430, 431, 432, 334, 291, 334, 335, 336, 337, 293, 337, 338, 339, 311, 295, 429, 421, 422, 423, 323, 424, 425, 426, 427, 0, 0, 309, 308, 428],
  [30, 310, 319, 324, 327, 329, 311, 312, 59, 60, 313, 318, 325, 342, 300, 343, 302, 344, 304, 314, 315, 316, 317, 306, 448, 449, 450, 334, 291, 334, 335, 336, 337, 293, 337, 338, 339, 311, 295, 447, 439, 440, 441, 322, 442, 443, 444, 445, 0, 0, 309, 308, 446], [30, 310, 319, 324, 327, 329, 311, 312, 59, 60, 313, 318, 325, 342, 300, 343, 302, 344, 304, 314, 315, 316, 317, 306, 331, 332, 333, 334, 291, 334, 335, 336, 337, 293, 337, 338, 339, 311, 295, 456, 289, 290, 297, 298, 299, 301, 303, 305, 0, 0, 309, 308, 307], [362, 363], [369, 370, 371],
  [417, 418], [574, 575, 576], [414, 415], [435, 436],
  [453, 454], [459, 460], [484, 485, 486], [548, 549],
  [570, 572, 8], [588, 589, 590], [596, 597, 598], [566, 568, 7],
  [611, 613, 9], [615, 601, 602], [623, 624, 625], [634, 636, 10],
  [651, 652, 653], [173, 174, 175], [182, 183, 184, 185, 186, 187], [189, 190, 191],
  [664, 665], [686, 687, 688], [690, 691, 692], [638, 639, 640],
  [643, 644, 645], [930, 931], [948, 949, 950], [114, 59, 60],
  [647, 649, 11], [933, 59, 60], [955, 956], [952, 953],
  [958, 959], [92, 59, 60], [30, 310, 319, 324, 327, 329, 311, 312, 59, 60, 313, 318, 325, 342, 300, 343, 302, 344, 304, 314, 315, 316, 317, 306, 331, 332, 333, 334, 291, 334, 335, 336, 337, 293, 337, 338, 339, 311, 295, 330, 289, 290, 297, 298, 299, 301, 303, 305, 0, 0, 309, 308, 307], [194, 196, 0],
  [284, 286, 1], [198, 199, 200], [354, 356, 3], [462, 59, 60],
  [593, 594], [600, 601, 602], [667, 59, 60], [988, 59, 60],
  [1085, 1086], [1101, 1103, 14], [1105, 1107, 15], [1115, 1117, 16],
  [1127, 1129, 17], [1151, 1152], [1154, 1156, 21], [1147, 1149, 20],
  [1135, 1137, 19], [1131, 1133, 18], [1186, 1187], [66, 67],
  [508, 509], [496, 498, 6], [500, 501], [539, 227],
  [899, 538, 537, 42], [578, 579], [584, 585, 586], [492, 494, 5],
  [488, 490, 4], [694, 696, 12], [69, 70], [72, 59, 60],
  [581, 582], [503, 227], [511, 1221, 1220, 512, 528], [536, 538, 537, 42],
  [529, 530], [535, 230], [216, 217, 218], [206, 207, 208],
  [212, 213, 214], [202, 203, 204], [220, 221], [229, 230],
  [223, 224], [226, 227], [232, 233]]
def cchk (e : (Nat × Nat) × (Nat × Nat × Nat)) (q : List Nat) : Bool := match e.2.1 with
  | 0 => decide (1 ≤ e.2.2.1 ∧ e.2.2.1 < 132) && wat (.methodLink (cn e.1.1) e.1.2 (mnam e.2.2.1)) (n0 q 0) && wat (.static (mnam e.2.2.1)) (n0 q 1)
  | 1 => decide (1 ≤ e.2.2.1 ∧ e.2.2.1 < 132) && wat (.methodLink (cn e.1.1) e.1.2 (mnam e.2.2.1)) (n0 q 0) && wat (.instanceMethod (mnam e.2.2.1)) (n0 q 1) && wat (.selects (on e.2.2.2) (mnam e.2.2.1) (mnam e.2.2.1)) (n0 q 2) && decide (e.2.2.2 < 9)
  | 2 => decide (1 ≤ e.2.2.1 ∧ e.2.2.1 < 132) && wat (.methodLink (cn e.1.1) e.1.2 (mnam e.2.2.1)) (n0 q 0) && wat (.instanceMethod (mnam e.2.2.1)) (n0 q 1) && decide ((mnam e.2.2.1).name = "<init>") && decide (mret e.2.2.1 = none) && decide (mhan e.2.2.1 = [])
  | 3 => decide (1 ≤ e.2.2.1 ∧ e.2.2.1 < 132) && wat (.methodLinkNest (cn e.1.1) e.1.2 (mnam e.2.2.1) "RopeClosures") (n0 q 0) && wat (.instanceMethod (mnam e.2.2.1)) (n0 q 1) && decide ((mnam e.2.2.1).name = "<init>") && decide (mret e.2.2.1 = none) && decide (mhan e.2.2.1 = [])
  | 4 => wat (.methodLink (cn e.1.1) e.1.2 objectInit) (n0 q 0) && wat (.instanceMethod objectInit) (n0 q 1) && wat (.code objectInit ⟨#[0xb1]⟩ 1 none) (n0 q 2)
  | 5 => decide (e.2.2.2 < 3) && allz (fun w n => wat w n || decide (w ∈ tRefs)) (Bundle.ownAtoms0 (cn e.1.1) e.1.2 (en e.2.2.2) exs) q
  | 6 => wat (.methodLink (cn e.1.1) e.1.2 arraycopyName) (n0 q 0) && wat (.native arraycopyName) (n0 q 1) && wat (.static arraycopyName) (n0 q 2) && wat (.initialized "java/lang/System") (n0 q 3)
  | 7 => wat (.methodLink (cn e.1.1) e.1.2 cloneI) (n0 q 0) && wat (.sameMethod "[I" "java/lang/Object" "clone" "()Ljava/lang/Object;") (n0 q 1) && wat (.native cloneO) (n0 q 2) && wat (.instanceMethod cloneO) (n0 q 3) && wat (.selects "[I" cloneI cloneO) (n0 q 4) && wat (.castable "[I" "java/lang/Cloneable") (n0 q 5)
  | 8 => wat (.methodLink (cn e.1.1) e.1.2 getCl) (n0 q 0) && wat (.declares getCl) (n0 q 1) && wat (.selects "[Ljava/lang/Object;" getCl getCl) (n0 q 2) && wat (.instanceMethod getCl) (n0 q 3) && wat (.native getCl) (n0 q 4)
  | _ => false
set_option maxRecDepth 100000 in
theorem cchk_ok : allz cchk ctab ixc = true := by decide +kernel
theorem c_ok {o k : Nat} {x : Nat × Nat × Nat} (hl : lkp ctab o k = some x) : ∃ q, cchk ((o, k), x) q = true := allz_mem cchk_ok _ (lkp_mem hl)
def ixn : List (List Nat) := [
  [53, 54, 23], [983, 984, 29], [61, 62, 26], [87, 88, 27], [109, 110, 28], [420, 421, 33], [438, 439, 36], [181, 289, 37],
  [457, 458, 38], [642, 663, 48], [928, 929, 52], [288, 289, 37], [698, 421, 33]]
def nchk (e : (Nat × Nat) × Nat) (q : List Nat) : Bool := if e.2 < 8 then wat (.classLink (cn e.1.1) e.1.2 (on e.2)) (n0 q 0) && wat (.instantiable (on e.2) (NF e.2)) (n0 q 1) && wat (.initialized (on e.2)) (n0 q 2) else decide (30 ≤ e.2 ∧ e.2 < 33) && wat (.classLink (cn e.1.1) e.1.2 (en (e.2 - 30))) (n0 q 0) && wat (.instantiable (en (e.2 - 30)) 6) (n0 q 1) && wat (.initialized (en (e.2 - 30))) (n0 q 2)
set_option maxRecDepth 100000 in
theorem nchk_ok : allz nchk ntab ixn = true := by decide +kernel
def ixa : List (List Nat) := [
  [540], [534]]
set_option maxRecDepth 100000 in
theorem achk_ok : allz (fun e q => wat (.classLink (cn e.1.1) e.1.2 "java/lang/Object") (n0 q 0)) atab ixa = true := by decide +kernel
def ixx : List (List Nat) := [
  [457], [188], [642], [928]]
set_option maxRecDepth 100000 in
theorem xchk_ok : allz (fun e q => (decide (e.2 < 8) && wat (.classLink (cn e.1.1) e.1.2 (on e.2)) (n0 q 0)) || (decide (e.2 = 20) && wat (.classLink (cn e.1.1) e.1.2 "[I") (n0 q 0))) xtab ixx = true := by decide +kernel
def ixs : List (List Nat) := [
  [73], [210]]
set_option maxRecDepth 100000 in
theorem schk_ok : allz (fun e q => (decide (e.2 = .ref 1) && wat (.fieldLink (cn e.1.1) e.1.2 "java/util/ArrayList" "DEFAULTCAPACITY_EMPTY_ELEMENTDATA" "[Ljava/lang/Object;") (n0 q 0)) || (decide (e.2 = .int 1) && wat (.fieldLink (cn e.1.1) e.1.2 "java/lang/String" "COMPACT_STRINGS" "Z") (n0 q 0))) stab ixs = true := by decide +kernel
def ixk : List (List Nat) := [
  [558], [662], [968], [0], [592], [1096], [1109], [1110],
  [1193], [504], [532]]
def kchk (e : (Nat × Nat) × Value) (q : List Nat) : Bool := match e.2 with
  | .int x => wat (.constant (cn e.1.1) e.1.2 x) (n0 q 0)
  | .long x => wat (.constantLong (cn e.1.1) e.1.2 x) (n0 q 0)
  | .ref x => (decide (x = 2) && decide (e.1 = (4, 36))) || (decide (x = 4) && wat (.classLink (cn e.1.1) e.1.2 "[Ljava/lang/Object;") (n0 q 0))
  | _ => false
set_option maxRecDepth 100000 in
theorem kchk_ok : allz kchk ktab ixk = true := by decide +kernel
def ixh : List (List Nat) := [
  [376], [408], [409], [181]]
set_option maxRecDepth 100000 in
theorem hchk_ok : allz (fun e q => decide (e.2 < 3) && decide (e.1.2 ≠ 0) && wat (.classLink (cn e.1.1) e.1.2 (en e.2)) (n0 q 0)) htab ixh = true := by decide +kernel
def ixe : List (List Nat) := [
  [422], [440], [290]]
set_option maxRecDepth 100000 in
theorem echk_ok : allz (fun k q => wat (.castable (en k) (en k)) (n0 q 0)) (List.range 3) ixe = true := by decide +kernel
def ixj : List (List Nat) := [
  [1226], [1227], [1229]]
set_option maxRecDepth 100000 in
theorem jchk_ok : allz (fun t q => wat (.castable (on t) "java/lang/Object") (n0 q 0)) [3, 4, 5] ixj = true := by decide +kernel
theorem w_ao : Jvm.Cond.arrayOver (.object "java/lang/Object") ∈ lw_tbl := wat_mem (n := 533) (by decide +kernel)
theorem w_ai : Jvm.Cond.arrayClass .int ∈ lw_tbl := wat_mem (n := 167) (by decide +kernel)
theorem w_al : Jvm.Cond.arrayClass .long ∈ lw_tbl := wat_mem (n := 168) (by decide +kernel)
theorem w_ac : Jvm.Cond.arrayClass .char ∈ lw_tbl := wat_mem (n := 108) (by decide +kernel)
theorem w_ab : Jvm.Cond.arrayClass .byte ∈ lw_tbl := wat_mem (n := 353) (by decide +kernel)
