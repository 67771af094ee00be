/-! PLAIN LEAN, 55: the constructors -/
def cel17 : List MO := [(0, [.ref 6, .ref 7, .ref 8, .ref 9, .ref 11, .ref 12, .ref 13, .int 0, .int 1, .ref 14, .ref 15, .int 0]), (7, [.ref 1, .int 0, .int 0]), (7, [.ref 1, .int 0, .int 0]), (7, [.ref 1, .int 0, .int 0]), (1, [.ref 10, .int 0, .int 0, .int 0]), (22, rI 40), (2, [.null, .int 0, .int 0, .int 0]), (20, [.int 1000, .int 500, .int 2, .int 3]), (21, rL 4), (20, rI 401), (20, rI 401)]
def cel71 : List MO := [(6, [.int 0, .ref 17, .ref 18, .int 0, .int 0, .ref 19, .ref 20, .ref 21, .ref 22, .ref 23, .ref 24, .ref 25, .int 0, .int 1, .ref 26, .int 0, .ref 27, .ref 28, .ref 29, .ref 30, .int 0, .ref 31, .int 0, .int 0, .int 0, .ref 32, .ref 33, .int 0, .int 0]),
  (21, rL 4), (21, rL 4), (20, rI 8), (20, rI 8), (20, rI 8), (20, rI 8), (21, rL 8), (20, rI 401), (20, rI 401), (20, [.int 1000, .int 500, .int 2, .int 3]), (20, rI 60), (20, rI 60), (20, rI 60), (20, rI 60), (20, rI 40), (20, rI 6), (20, rI 6)]
section CU
variable {f : Nat → MO} {z d : Nat}
set_option maxRecDepth 20000 in
theorem c_17 : run (d + 5) 17 0 [.ref 5] [] (hB f 5 [(0, [.null, .null, .null, .null, .null, .null, .null, .int 0, .int 0, .null, .null, .int 0])] 12) = some (.inl none, hB f 5 cel17 879) := by
  have n4 : ¬ (4 : Int32) < 0 := by decide
  have n401 : ¬ (401 : Int32) < 0 := by decide
  have n40 : ¬ (40 : Int32) < 0 := by decide
  have m4 : (4 : Int32).toNatClampNeg ≤ 100000 := by decide +kernel
  have m401 : (401 : Int32).toNatClampNeg ≤ 100000 := by decide +kernel
  have m40 : (40 : Int32).toNatClampNeg ≤ 100000 := by decide +kernel
  have a0 : ∀ (v0 v1 v2 v3 v : Value) (K : MO → Option MR), asK 12 (20, [v0, v1, v2, v3]) 20 0 v K = K (20, [v, v1, v2, v3]) := fun _ _ _ _ _ _ => (as4 (by omega)).1
  have a1 : ∀ (v0 v1 v2 v3 v : Value) (K : MO → Option MR), asK 12 (20, [v0, v1, v2, v3]) 20 1 v K = K (20, [v0, v, v2, v3]) := fun _ _ _ _ _ _ => (as4 (by omega)).2.1
  have a2 : ∀ (v0 v1 v2 v3 v : Value) (K : MO → Option MR), asK 12 (20, [v0, v1, v2, v3]) 20 2 v K = K (20, [v0, v1, v, v3]) := fun _ _ _ _ _ _ => (as4 (by omega)).2.2.1
  have a3 : ∀ (v0 v1 v2 v3 v : Value) (K : MO → Option MR), asK 12 (20, [v0, v1, v2, v3]) 20 3 v K = K (20, [v0, v1, v2, v]) := fun _ _ _ _ _ _ => (as4 (by omega)).2.2.2
  simp (disch := first | omega | (simp only [nlg_r, nlg_i, nlg_n, ok_0, ok_i, ok_r, ok_l]; done) | assumption | (simp only [List.length_set, List.length_append, List.length_cons, List.length_nil]; omega)) only [r_17_0, r_17_1, r_17_4, r_17_5, r_17_8, r_17_9, r_17_12, r_17_15, r_17_16, r_17_19, r_17_20, r_17_23, r_17_26, r_17_27, r_17_30, r_17_31, r_17_34, r_17_37, r_17_38, r_17_41, r_17_42, r_17_45, r_17_48, r_17_49, r_17_52, r_17_53, r_17_56, r_17_59, r_17_60, r_17_61, r_17_63, r_17_64, r_17_65, r_17_68, r_17_69, r_17_70, r_17_71, r_17_74, r_17_75, r_17_76, r_17_77, r_17_78, r_17_79, r_17_80, r_17_81, r_17_82, r_17_83, r_17_86, r_17_87, r_17_88, r_17_90, r_17_93, r_17_94, r_17_95, r_17_98, r_17_99, r_17_102, r_17_104, r_17_107, r_17_108, r_17_111, r_17_113, r_17_116, r_48_0, r_48_1, r_48_4, r_58_0, r_58_1, r_58_4, r_58_5, r_58_7, r_58_9, r_58_12, r_104_0, r_104_1, r_104_4, r_104_5, r_104_8, r_104_11, r_105_0, r_105_1, r_105_4, r_105_5, r_105_6, r_105_9, r_106_0, r_106_1, r_106_4, aft_n, gf_0, gf_s, pf_e, tg_e, List.set_cons_zero, List.set_cons_succ, nlg_r, nlg_i, nlg_n, ok_0, ok_i, ok_r, hB_n, hB_p, hB_g, hB_s, List.cons_append, List.nil_append, List.length_cons, List.length_nil, Nat.reduceAdd, Nat.reduceSub, Nat.reduceLeDiff, List.getD_cons_zero, List.getD_cons_succ, tn4, tn40, tn401, rI_e, rL_e, rI_l, rL_l, rI4, a0, a1, a2, a3, Nat.zero_add]
  rfl
set_option maxRecDepth 20000 in
theorem c_71 : run d 71 0 [.ref 16] [] (hB f 16 [(6, [.int 0, .null, .null, .int 0, .int 0, .null, .null, .null, .null, .null, .null, .null, .int 0, .int 0, .null, .int 0, .null, .null, .null, .null, .int 0, .null, .int 0, .int 0, .int 0, .null, .null, .int 0, .int 0])] z) = some (.inl none, hB f 16 cel71 (z + 1146)) := by
  have n4 : ¬ (4 : Int32) < 0 := by decide
  have n6 : ¬ (6 : Int32) < 0 := by decide
  have n8 : ¬ (8 : Int32) < 0 := by decide
  have n60 : ¬ (60 : Int32) < 0 := by decide
  have n401 : ¬ (401 : Int32) < 0 := by decide
  have n40 : ¬ (40 : Int32) < 0 := by decide
  have m4 : (4 : Int32).toNatClampNeg ≤ 100000 := by decide +kernel
  have m6 : (6 : Int32).toNatClampNeg ≤ 100000 := by decide +kernel
  have m8 : (8 : Int32).toNatClampNeg ≤ 100000 := by decide +kernel
  have m60 : (60 : Int32).toNatClampNeg ≤ 100000 := by decide +kernel
  have m401 : (401 : Int32).toNatClampNeg ≤ 100000 := by decide +kernel
  have m40 : (40 : Int32).toNatClampNeg ≤ 100000 := by decide +kernel
  have a0 : ∀ (v0 v1 v2 v3 v : Value) (K : MO → Option MR), asK 26 (20, [v0, v1, v2, v3]) 20 0 v K = K (20, [v, v1, v2, v3]) := fun _ _ _ _ _ _ => (as4 (by omega)).1
  have a1 : ∀ (v0 v1 v2 v3 v : Value) (K : MO → Option MR), asK 26 (20, [v0, v1, v2, v3]) 20 1 v K = K (20, [v0, v, v2, v3]) := fun _ _ _ _ _ _ => (as4 (by omega)).2.1
  have a2 : ∀ (v0 v1 v2 v3 v : Value) (K : MO → Option MR), asK 26 (20, [v0, v1, v2, v3]) 20 2 v K = K (20, [v0, v1, v, v3]) := fun _ _ _ _ _ _ => (as4 (by omega)).2.2.1
  have a3 : ∀ (v0 v1 v2 v3 v : Value) (K : MO → Option MR), asK 26 (20, [v0, v1, v2, v3]) 20 3 v K = K (20, [v0, v1, v2, v]) := fun _ _ _ _ _ _ => (as4 (by omega)).2.2.2
  simp (disch := first | omega | (simp only [nlg_r, nlg_i, nlg_n, ok_0, ok_i, ok_r, ok_l]; done) | assumption | (simp only [List.length_set, List.length_append, List.length_cons, List.length_nil]; omega)) only [r_71_0, r_71_1, r_71_4, r_71_5, r_71_6, r_71_8, r_71_11, r_71_12, r_71_13, r_71_15, r_71_18, r_71_19, r_71_21, r_71_23, r_71_26, r_71_27, r_71_29, r_71_31, r_71_34, r_71_35, r_71_37, r_71_39, r_71_42, r_71_43, r_71_45, r_71_47, r_71_50, r_71_51, r_71_53, r_71_55, r_71_58, r_71_59, r_71_62, r_71_64, r_71_67, r_71_68, r_71_71, r_71_73, r_71_76, r_71_77, r_71_78, r_71_81, r_71_82, r_71_83, r_71_85, r_71_86, r_71_87, r_71_90, r_71_91, r_71_92, r_71_93, r_71_96, r_71_97, r_71_98, r_71_99, r_71_100, r_71_101, r_71_102, r_71_103, r_71_104, r_71_105, r_71_108, r_71_109, r_71_111, r_71_113, r_71_116, r_71_117, r_71_119, r_71_121, r_71_124, r_71_125, r_71_127, r_71_129, r_71_132, r_71_133, r_71_135, r_71_137, r_71_140, r_71_141, r_71_143, r_71_145, r_71_148, r_71_149, r_71_151, r_71_153, r_71_156, r_71_157, r_71_159, r_71_161, r_71_164, aft_n, gf_0, gf_s, pf_e, tg_e, List.set_cons_zero, List.set_cons_succ, nlg_r, nlg_i, nlg_n, ok_0, ok_i, ok_r, hB_n, hB_p, hB_g, hB_s, List.cons_append, List.nil_append, List.length_cons, List.length_nil, Nat.reduceAdd, Nat.reduceSub, Nat.reduceLeDiff, List.getD_cons_zero, List.getD_cons_succ, tn4, tn6, tn8, tn60, tn40, tn401, rI_e, rL_e, rI_l, rL_l, rI4, a0, a1, a2, a3, Nat.zero_add, Nat.add_assoc]
  rfl
end CU
