/-! SOUNDNESS, 3: instructions that touch no heap -/
section OPS
variable {p : Program} {l : Launch} {e : Env} {R : Room} {s : State} {m : MethodId} {args : Array Value} {below : List Frame} {meth : Method} {c : Code} {Q : State → Prop} {G : Gh} {d i c0 z0 : Nat}
variable {h : MH} {pc : Nat} {L S : List Value}
theorem k_null (C : Ctx p l R s m meth c G d i) (hd : decode (mcode i) pc = .ok (.aconst_null, 1)) (k : Kt p l e R s m args below meth c Q G c0 z0 (h) (pc + 1) (L) (.null :: S)) : Kt p l e R s m args below meth c Q G c0 z0 (h) (pc) (L) (S) := fun H locs ls hR hl hq => lv_null C.x C.y hd (k H locs ls hR hl hq)
theorem k_iconst (C : Ctx p l R s m meth c G d i) {n : Int} (hd : decode (mcode i) pc = .ok (.iconst n, 1)) (k : Kt p l e R s m args below meth c Q G c0 z0 (h) (pc + 1) (L) (.int (Int32.ofInt n) :: S)) : Kt p l e R s m args below meth c Q G c0 z0 (h) (pc) (L) (S) := fun H locs ls hR hl hq => lv_iconst C.x C.y hd rfl (k H locs ls hR hl hq)
theorem k_bipush (C : Ctx p l R s m meth c G d i) {n : Int} (hd : decode (mcode i) pc = .ok (.bipush n, 2)) (k : Kt p l e R s m args below meth c Q G c0 z0 (h) (pc + 2) (L) (.int (Int8.ofInt n).toInt32 :: S)) : Kt p l e R s m args below meth c Q G c0 z0 (h) (pc) (L) (S) := fun H locs ls hR hl hq => lv_bipush C.x C.y hd rfl (k H locs ls hR hl hq)
theorem k_sipush (C : Ctx p l R s m meth c G d i) {n : Int} (hd : decode (mcode i) pc = .ok (.sipush n, 3)) (k : Kt p l e R s m args below meth c Q G c0 z0 (h) (pc + 3) (L) (.int (Int16.ofInt n).toInt32 :: S)) : Kt p l e R s m args below meth c Q G c0 z0 (h) (pc) (L) (S) := fun H locs ls hR hl hq => lv_sipush C.x C.y hd rfl (k H locs ls hR hl hq)
theorem k_lconst (C : Ctx p l R s m meth c G d i) {n : Fin 2} (hd : decode (mcode i) pc = .ok (.lconst n, 1)) (k : Kt p l e R s m args below meth c Q G c0 z0 (h) (pc + 1) (L) (.long (Int64.ofNat n.val) :: S)) : Kt p l e R s m args below meth c Q G c0 z0 (h) (pc) (L) (S) := fun H locs ls hR hl hq => lv_lconst C.x C.y hd rfl (k H locs ls hR hl hq)
theorem k_iload (C : Ctx p l R s m meth c G d i) {n : Nat} {x : Int32} (hd : decode (mcode i) pc = .ok (.iload n, 2)) (hv : L[n]? = some (.int x)) (k : Kt p l e R s m args below meth c Q G c0 z0 (h) (pc + 2) (L) (.int x :: S)) : Kt p l e R s m args below meth c Q G c0 z0 (h) (pc) (L) (S) := fun H locs ls hR hl hq => lv_iload C.x C.y hd (hl.2.2 n _ hv (by simp)) (k H locs ls hR hl hq)
theorem k_iloadn (C : Ctx p l R s m meth c G d i) {n : Fin 4} {x : Int32} (hd : decode (mcode i) pc = .ok (.iload_n n, 1)) (hv : L[n.val]? = some (.int x)) (k : Kt p l e R s m args below meth c Q G c0 z0 (h) (pc + 1) (L) (.int x :: S)) : Kt p l e R s m args below meth c Q G c0 z0 (h) (pc) (L) (S) := fun H locs ls hR hl hq => lv_iload_n C.x C.y hd rfl (hl.2.2 n.val _ hv (by simp)) (k H locs ls hR hl hq)
theorem k_lload (C : Ctx p l R s m meth c G d i) {n : Nat} {x : Int64} (hd : decode (mcode i) pc = .ok (.lload n, 2)) (hv : L[n]? = some (.long x)) (k : Kt p l e R s m args below meth c Q G c0 z0 (h) (pc + 2) (L) (.long x :: S)) : Kt p l e R s m args below meth c Q G c0 z0 (h) (pc) (L) (S) := fun H locs ls hR hl hq => lv_lload C.x C.y hd (hl.2.2 n _ hv (by simp)) (k H locs ls hR hl hq)
theorem k_lloadn (C : Ctx p l R s m meth c G d i) {n : Fin 4} {x : Int64} (hd : decode (mcode i) pc = .ok (.lload_n n, 1)) (hv : L[n.val]? = some (.long x)) (k : Kt p l e R s m args below meth c Q G c0 z0 (h) (pc + 1) (L) (.long x :: S)) : Kt p l e R s m args below meth c Q G c0 z0 (h) (pc) (L) (S) := fun H locs ls hR hl hq => lv_lload_n C.x C.y hd rfl (hl.2.2 n.val _ hv (by simp)) (k H locs ls hR hl hq)
theorem k_aload (C : Ctx p l R s m meth c G d i) {n x : Nat} (hd : decode (mcode i) pc = .ok (.aload n, 2)) (hv : L[n]? = some (.ref x)) (k : Kt p l e R s m args below meth c Q G c0 z0 (h) (pc + 2) (L) (.ref x :: S)) : Kt p l e R s m args below meth c Q G c0 z0 (h) (pc) (L) (S) := fun H locs ls hR hl hq => lv_aload (x := adr G x) C.x C.y hd (hl.2.2 n _ hv (by simp)) (k H locs ls hR hl hq)
theorem k_aloadn (C : Ctx p l R s m meth c G d i) {n : Fin 4} {x : Nat} (hd : decode (mcode i) pc = .ok (.aload_n n, 1)) (hv : L[n.val]? = some (.ref x)) (k : Kt p l e R s m args below meth c Q G c0 z0 (h) (pc + 1) (L) (.ref x :: S)) : Kt p l e R s m args below meth c Q G c0 z0 (h) (pc) (L) (S) := fun H locs ls hR hl hq => lv_aload_n (x := adr G x) C.x C.y hd rfl (hl.2.2 n.val _ hv (by simp)) (k H locs ls hR hl hq)
theorem k_istore (C : Ctx p l R s m meth c G d i) {n : Nat} {x : Int32} (hd : decode (mcode i) pc = .ok (.istore n, 2)) (hn : n < L.length) (ho : okp L n = true) (k : Kt p l e R s m args below meth c Q G c0 z0 (h) (pc + 2) (L.set n (.int x)) (S)) : Kt p l e R s m args below meth c Q G c0 z0 (h) (pc) (L) (.int x :: S) := fun H locs ls hR hl hq => lv_istore C.x C.y hd hl.has hn rfl (fun ls' h' => k H locs ls' hR (lrel.st1 (v := .int x) ho hn h') hq)
theorem k_istoren (C : Ctx p l R s m meth c G d i) {n : Fin 4} {x : Int32} (hd : decode (mcode i) pc = .ok (.istore_n n, 1)) (hn : n.val < L.length) (ho : okp L n.val = true) (k : Kt p l e R s m args below meth c Q G c0 z0 (h) (pc + 1) (L.set n.val (.int x)) (S)) : Kt p l e R s m args below meth c Q G c0 z0 (h) (pc) (L) (.int x :: S) := fun H locs ls hR hl hq => lv_istore_n C.x C.y hd rfl hl.has hn rfl (fun ls' h' => k H locs ls' hR (lrel.st1 (v := .int x) ho hn h') hq)
theorem k_astore (C : Ctx p l R s m meth c G d i) {n x : Nat} (hd : decode (mcode i) pc = .ok (.astore n, 2)) (hn : n < L.length) (ho : okp L n = true) (k : Kt p l e R s m args below meth c Q G c0 z0 (h) (pc + 2) (L.set n (.ref x)) (S)) : Kt p l e R s m args below meth c Q G c0 z0 (h) (pc) (L) (.ref x :: S) := fun H locs ls hR hl hq => lv_astore (x := adr G x) C.x C.y hd hl.has hn rfl (fun ls' h' => k H locs ls' hR (lrel.st1 (v := .ref x) ho hn h') hq)
theorem k_astoren (C : Ctx p l R s m meth c G d i) {n : Fin 4} {x : Nat} (hd : decode (mcode i) pc = .ok (.astore_n n, 1)) (hn : n.val < L.length) (ho : okp L n.val = true) (k : Kt p l e R s m args below meth c Q G c0 z0 (h) (pc + 1) (L.set n.val (.ref x)) (S)) : Kt p l e R s m args below meth c Q G c0 z0 (h) (pc) (L) (.ref x :: S) := fun H locs ls hR hl hq => lv_astore_n (x := adr G x) C.x C.y hd rfl hl.has hn rfl (fun ls' h' => k H locs ls' hR (lrel.st1 (v := .ref x) ho hn h') hq)
theorem k_lstore (C : Ctx p l R s m meth c G d i) {n : Nat} {x : Int64} (hd : decode (mcode i) pc = .ok (.lstore n, 2)) (hn : n + 1 < L.length) (ho : okp L n = true) (k : Kt p l e R s m args below meth c Q G c0 z0 (h) (pc + 2) ((L.set n (.long x)).set (n + 1) .null) (S)) : Kt p l e R s m args below meth c Q G c0 z0 (h) (pc) (L) (.long x :: S) := fun H locs ls hR hl hq => lv_lstore C.x C.y hd hl.has hn rfl (fun ls' h' => k H locs ls' hR (lrel.st2 (v := .long x) ho hn h') hq)
theorem k_lstoren (C : Ctx p l R s m meth c G d i) {n : Fin 4} {x : Int64} (hd : decode (mcode i) pc = .ok (.lstore_n n, 1)) (hn : n.val + 1 < L.length) (ho : okp L n.val = true) (k : Kt p l e R s m args below meth c Q G c0 z0 (h) (pc + 1) ((L.set n.val (.long x)).set (n.val + 1) .null) (S)) : Kt p l e R s m args below meth c Q G c0 z0 (h) (pc) (L) (.long x :: S) := fun H locs ls hR hl hq => lv_lstore_n C.x C.y hd rfl hl.has hn rfl (fun ls' h' => k H locs ls' hR (lrel.st2 (v := .long x) ho hn h') hq)
theorem k_iinc (C : Ctx p l R s m meth c G d i) {n : Nat} {z : Int} {x : Int32} (hd : decode (mcode i) pc = .ok (.iinc n z, 3)) (hv : L[n]? = some (.int x)) (ho : okp L n = true) (k : Kt p l e R s m args below meth c Q G c0 z0 (h) (pc + 3) (L.set n (.int (x + Int32.ofInt z))) (S)) : Kt p l e R s m args below meth c Q G c0 z0 (h) (pc) (L) (S) := fun H locs ls hR hl hq => by
  have hn : n < L.length := (List.getElem?_eq_some_iff.mp hv).1
  obtain ⟨q, hk⟩ := List.getElem?_of_mem (lof_mem (G := G) (w := .int x).mpr ⟨.int x, hv, by simp, rfl⟩)
  exact lv_iinc (k := q) C.x C.y hd hl.has hk rfl hn rfl (fun ls' h' => k H locs ls' hR (lrel.st1 (v := .int (x + Int32.ofInt z)) ho hn h') hq)
theorem k_iadd (C : Ctx p l R s m meth c G d i) {x y : Int32} (hd : decode (mcode i) pc = .ok (.iadd, 1)) (k : Kt p l e R s m args below meth c Q G c0 z0 (h) (pc + 1) (L) (.int (x + y) :: S)) : Kt p l e R s m args below meth c Q G c0 z0 (h) (pc) (L) (.int y :: .int x :: S) := fun H locs ls hR hl hq => lv_iadd C.x C.y hd (k H locs ls hR hl hq)
theorem k_isub (C : Ctx p l R s m meth c G d i) {x y : Int32} (hd : decode (mcode i) pc = .ok (.isub, 1)) (k : Kt p l e R s m args below meth c Q G c0 z0 (h) (pc + 1) (L) (.int (x - y) :: S)) : Kt p l e R s m args below meth c Q G c0 z0 (h) (pc) (L) (.int y :: .int x :: S) := fun H locs ls hR hl hq => lv_isub C.x C.y hd (k H locs ls hR hl hq)
theorem k_imul (C : Ctx p l R s m meth c G d i) {x y : Int32} (hd : decode (mcode i) pc = .ok (.imul, 1)) (k : Kt p l e R s m args below meth c Q G c0 z0 (h) (pc + 1) (L) (.int (x * y) :: S)) : Kt p l e R s m args below meth c Q G c0 z0 (h) (pc) (L) (.int y :: .int x :: S) := fun H locs ls hR hl hq => lv_imul C.x C.y hd (k H locs ls hR hl hq)
theorem k_iand (C : Ctx p l R s m meth c G d i) {x y : Int32} (hd : decode (mcode i) pc = .ok (.iand, 1)) (k : Kt p l e R s m args below meth c Q G c0 z0 (h) (pc + 1) (L) (.int (x &&& y) :: S)) : Kt p l e R s m args below meth c Q G c0 z0 (h) (pc) (L) (.int y :: .int x :: S) := fun H locs ls hR hl hq => lv_iand C.x C.y hd (k H locs ls hR hl hq)
theorem k_ishr (C : Ctx p l R s m meth c G d i) {x y : Int32} (hd : decode (mcode i) pc = .ok (.ishr, 1)) (k : Kt p l e R s m args below meth c Q G c0 z0 (h) (pc + 1) (L) (.int (x >>> (y &&& 31)) :: S)) : Kt p l e R s m args below meth c Q G c0 z0 (h) (pc) (L) (.int y :: .int x :: S) := fun H locs ls hR hl hq => lv_ishr C.x C.y hd (k H locs ls hR hl hq)
theorem k_idiv (C : Ctx p l R s m meth c G d i) {x y : Int32} (hd : decode (mcode i) pc = .ok (.idiv, 1)) (hy : ¬ y = 0) (k : Kt p l e R s m args below meth c Q G c0 z0 (h) (pc + 1) (L) (.int (x / y) :: S)) : Kt p l e R s m args below meth c Q G c0 z0 (h) (pc) (L) (.int y :: .int x :: S) := fun H locs ls hR hl hq => lv_idiv C.x C.y hd hy (k H locs ls hR hl hq)
theorem k_irem (C : Ctx p l R s m meth c G d i) {x y : Int32} (hd : decode (mcode i) pc = .ok (.irem, 1)) (hy : ¬ y = 0) (k : Kt p l e R s m args below meth c Q G c0 z0 (h) (pc + 1) (L) (.int (x - x / y * y) :: S)) : Kt p l e R s m args below meth c Q G c0 z0 (h) (pc) (L) (.int y :: .int x :: S) := fun H locs ls hR hl hq => lv_irem C.x C.y hd hy (k H locs ls hR hl hq)
theorem k_ladd (C : Ctx p l R s m meth c G d i) {x y : Int64} (hd : decode (mcode i) pc = .ok (.ladd, 1)) (k : Kt p l e R s m args below meth c Q G c0 z0 (h) (pc + 1) (L) (.long (x + y) :: S)) : Kt p l e R s m args below meth c Q G c0 z0 (h) (pc) (L) (.long y :: .long x :: S) := fun H locs ls hR hl hq => lv_ladd C.x C.y hd (k H locs ls hR hl hq)
theorem k_lsub (C : Ctx p l R s m meth c G d i) {x y : Int64} (hd : decode (mcode i) pc = .ok (.lsub, 1)) (k : Kt p l e R s m args below meth c Q G c0 z0 (h) (pc + 1) (L) (.long (x - y) :: S)) : Kt p l e R s m args below meth c Q G c0 z0 (h) (pc) (L) (.long y :: .long x :: S) := fun H locs ls hR hl hq => lv_lsub C.x C.y hd (k H locs ls hR hl hq)
theorem k_lmul (C : Ctx p l R s m meth c G d i) {x y : Int64} (hd : decode (mcode i) pc = .ok (.lmul, 1)) (k : Kt p l e R s m args below meth c Q G c0 z0 (h) (pc + 1) (L) (.long (x * y) :: S)) : Kt p l e R s m args below meth c Q G c0 z0 (h) (pc) (L) (.long y :: .long x :: S) := fun H locs ls hR hl hq => lv_lmul C.x C.y hd (k H locs ls hR hl hq)
theorem k_ldiv (C : Ctx p l R s m meth c G d i) {x y : Int64} (hd : decode (mcode i) pc = .ok (.ldiv, 1)) (hy : ¬ y = 0) (k : Kt p l e R s m args below meth c Q G c0 z0 (h) (pc + 1) (L) (.long (x / y) :: S)) : Kt p l e R s m args below meth c Q G c0 z0 (h) (pc) (L) (.long y :: .long x :: S) := fun H locs ls hR hl hq => lv_ldiv C.x C.y hd hy (k H locs ls hR hl hq)
theorem k_lrem (C : Ctx p l R s m meth c G d i) {x y : Int64} (hd : decode (mcode i) pc = .ok (.lrem, 1)) (hy : ¬ y = 0) (k : Kt p l e R s m args below meth c Q G c0 z0 (h) (pc + 1) (L) (.long (x - x / y * y) :: S)) : Kt p l e R s m args below meth c Q G c0 z0 (h) (pc) (L) (.long y :: .long x :: S) := fun H locs ls hR hl hq => lv_lrem C.x C.y hd hy (k H locs ls hR hl hq)
theorem k_lcmp (C : Ctx p l R s m meth c G d i) {x y : Int64} (hd : decode (mcode i) pc = .ok (.lcmp, 1)) (k : Kt p l e R s m args below meth c Q G c0 z0 (h) (pc + 1) (L) (.int (lg_cmp x y) :: S)) : Kt p l e R s m args below meth c Q G c0 z0 (h) (pc) (L) (.long y :: .long x :: S) := fun H locs ls hR hl hq => W.lcmp C.x C.y hd (k H locs ls hR hl hq)
theorem k_i2l (C : Ctx p l R s m meth c G d i) {x : Int32} (hd : decode (mcode i) pc = .ok (.i2l, 1)) (k : Kt p l e R s m args below meth c Q G c0 z0 (h) (pc + 1) (L) (.long x.toInt64 :: S)) : Kt p l e R s m args below meth c Q G c0 z0 (h) (pc) (L) (.int x :: S) := fun H locs ls hR hl hq => t_i2l C.x C.y hd rfl (k H locs ls hR hl hq)
theorem k_l2i (C : Ctx p l R s m meth c G d i) {x : Int64} (hd : decode (mcode i) pc = .ok (.l2i, 1)) (k : Kt p l e R s m args below meth c Q G c0 z0 (h) (pc + 1) (L) (.int x.toInt32 :: S)) : Kt p l e R s m args below meth c Q G c0 z0 (h) (pc) (L) (.long x :: S) := fun H locs ls hR hl hq => t_l2i C.x C.y hd rfl (k H locs ls hR hl hq)
theorem k_i2b (C : Ctx p l R s m meth c G d i) {x : Int32} (hd : decode (mcode i) pc = .ok (.i2b, 1)) (k : Kt p l e R s m args below meth c Q G c0 z0 (h) (pc + 1) (L) (.int x.toInt8.toInt32 :: S)) : Kt p l e R s m args below meth c Q G c0 z0 (h) (pc) (L) (.int x :: S) := fun H locs ls hR hl hq => t_i2b C.x C.y hd rfl (k H locs ls hR hl hq)
theorem k_i2c (C : Ctx p l R s m meth c G d i) {x : Int32} (hd : decode (mcode i) pc = .ok (.i2c, 1)) (k : Kt p l e R s m args below meth c Q G c0 z0 (h) (pc + 1) (L) (.int (x.toUInt32 % 65536).toInt32 :: S)) : Kt p l e R s m args below meth c Q G c0 z0 (h) (pc) (L) (.int x :: S) := fun H locs ls hR hl hq => t_i2c C.x C.y hd rfl (k H locs ls hR hl hq)
theorem k_dup (C : Ctx p l R s m meth c G d i) {v : Value} (hd : decode (mcode i) pc = .ok (.dup, 1)) (hv : nlg v = true) (k : Kt p l e R s m args below meth c Q G c0 z0 (h) (pc + 1) (L) (v :: v :: S)) : Kt p l e R s m args below meth c Q G c0 z0 (h) (pc) (L) (v :: S) := fun H locs ls hR hl hq => lv_dup C.x C.y hd (tr_cat.trans (nlg_cat hv)) (k H locs ls hR hl hq)
theorem k_pop (C : Ctx p l R s m meth c G d i) {v : Value} (hd : decode (mcode i) pc = .ok (.pop, 1)) (hv : nlg v = true) (k : Kt p l e R s m args below meth c Q G c0 z0 (h) (pc + 1) (L) (S)) : Kt p l e R s m args below meth c Q G c0 z0 (h) (pc) (L) (v :: S) := fun H locs ls hR hl hq => lv_pop C.x C.y hd (tr_cat.trans (nlg_cat hv)) (k H locs ls hR hl hq)
theorem k_dupx (C : Ctx p l R s m meth c G d i) {v w : Value} (hd : decode (mcode i) pc = .ok (.dup_x1, 1)) (hv : nlg v = true) (hw : nlg w = true) (k : Kt p l e R s m args below meth c Q G c0 z0 (h) (pc + 1) (L) (v :: w :: v :: S)) : Kt p l e R s m args below meth c Q G c0 z0 (h) (pc) (L) (v :: w :: S) := fun H locs ls hR hl hq => lv_dup_x1 C.x C.y hd (tr_cat.trans (nlg_cat hv)) (tr_cat.trans (nlg_cat hw)) (k H locs ls hR hl hq)
theorem k_dup2 (C : Ctx p l R s m meth c G d i) {v w : Value} (hd : decode (mcode i) pc = .ok (.dup2, 1)) (hv : nlg v = true) (hw : nlg w = true) (k : Kt p l e R s m args below meth c Q G c0 z0 (h) (pc + 1) (L) (v :: w :: v :: w :: S)) : Kt p l e R s m args below meth c Q G c0 z0 (h) (pc) (L) (v :: w :: S) := fun H locs ls hR hl hq => lv_dup2_11 C.x C.y hd (tr_cat.trans (nlg_cat hv)) (tr_cat.trans (nlg_cat hw)) (k H locs ls hR hl hq)
theorem tgt_ok {off : Int} (h0 : 0 ≤ (pc : Int) + off) : (pc : Int) + off = ((tgt pc off : Nat) : Int) := by unfold tgt; omega
theorem k_goto (C : Ctx p l R s m meth c G d i) {off : Int} (hd : decode (mcode i) pc = .ok (.goto off, 3)) (h0 : 0 ≤ (pc : Int) + off) (k : Kt p l e R s m args below meth c Q G c0 z0 (h) (tgt pc off) (L) (S)) : Kt p l e R s m args below meth c Q G c0 z0 (h) (pc) (L) (S) := fun H locs ls hR hl hq => lv_goto C.x C.y hd (tgt_ok h0) (k H locs ls hR hl hq)
theorem k_if (C : Ctx p l R s m meth c G d i) {b : ClassFile.Cond} {off : Int} {x : Int32} (hd : decode (mcode i) pc = .ok (.ifCond b off, 3)) (h0 : 0 ≤ (pc : Int) + off) (kt : cmp b x 0 = true → Kt p l e R s m args below meth c Q G c0 z0 (h) (tgt pc off) (L) (S)) (kf : cmp b x 0 = false → Kt p l e R s m args below meth c Q G c0 z0 (h) (pc + 3) (L) (S)) : Kt p l e R s m args below meth c Q G c0 z0 (h) (pc) (L) (.int x :: S) := fun H locs ls hR hl hq => by
  have ht := tgt_ok h0
  cases b with
  | eq => exact lv_if_eq C.x C.y hd ht (fun q => kt (decide_eq_true q) H locs ls hR hl hq) (fun q => kf (decide_eq_false q) H locs ls hR hl hq)
  | ne => exact lv_if_ne C.x C.y hd ht (fun q => kt (decide_eq_true q) H locs ls hR hl hq) (fun q => kf (decide_eq_false (fun z => z q)) H locs ls hR hl hq)
  | lt => exact lv_if_lt C.x C.y hd ht (fun q => kt (decide_eq_true q) H locs ls hR hl hq) (fun q => kf (decide_eq_false q) H locs ls hR hl hq)
  | ge => exact lv_if_ge C.x C.y hd ht (fun q => kt (decide_eq_true q) H locs ls hR hl hq) (fun q => kf (decide_eq_false q) H locs ls hR hl hq)
  | gt => exact lv_if_gt C.x C.y hd ht (fun q => kt (decide_eq_true q) H locs ls hR hl hq) (fun q => kf (decide_eq_false q) H locs ls hR hl hq)
  | le => exact lv_if_le C.x C.y hd ht (fun q => kt (decide_eq_true q) H locs ls hR hl hq) (fun q => kf (decide_eq_false q) H locs ls hR hl hq)
theorem k_icmp (C : Ctx p l R s m meth c G d i) {b : ClassFile.Cond} {off : Int} {x y : Int32} (hd : decode (mcode i) pc = .ok (.if_icmp b off, 3)) (h0 : 0 ≤ (pc : Int) + off) (kt : cmp b x y = true → Kt p l e R s m args below meth c Q G c0 z0 (h) (tgt pc off) (L) (S)) (kf : cmp b x y = false → Kt p l e R s m args below meth c Q G c0 z0 (h) (pc + 3) (L) (S)) : Kt p l e R s m args below meth c Q G c0 z0 (h) (pc) (L) (.int y :: .int x :: S) := fun H locs ls hR hl hq => by
  have ht := tgt_ok h0
  cases b with
  | eq => exact lv_icmp_eq C.x C.y hd ht (fun q => kt (decide_eq_true q) H locs ls hR hl hq) (fun q => kf (decide_eq_false q) H locs ls hR hl hq)
  | ne => exact lv_icmp_ne C.x C.y hd ht (fun q => kt (decide_eq_true q) H locs ls hR hl hq) (fun q => kf (decide_eq_false (fun z => z q)) H locs ls hR hl hq)
  | lt => exact lv_icmp_lt C.x C.y hd ht (fun q => kt (decide_eq_true q) H locs ls hR hl hq) (fun q => kf (decide_eq_false q) H locs ls hR hl hq)
  | ge => exact lv_icmp_ge C.x C.y hd ht (fun q => kt (decide_eq_true q) H locs ls hR hl hq) (fun q => kf (decide_eq_false q) H locs ls hR hl hq)
  | gt => exact lv_icmp_gt C.x C.y hd ht (fun q => kt (decide_eq_true q) H locs ls hR hl hq) (fun q => kf (decide_eq_false q) H locs ls hR hl hq)
  | le => exact lv_icmp_le C.x C.y hd ht (fun q => kt (decide_eq_true q) H locs ls hR hl hq) (fun q => kf (decide_eq_false q) H locs ls hR hl hq)
theorem adr_ne (B : Base l G) {x y : Nat} (hx : 5 ≤ x) (hy : y < 4) : ¬ adr G x = adr G y := by
  rw [adr_new hx, adr_old (show y < 5 by omega)]
  have := B.rl y hy
  omega
theorem k_acmp (C : Ctx p l R s m meth c G d i) {b : ACond} {off : Int} {x y : Nat} (hd : decode (mcode i) pc = .ok (.if_acmp b off, 3)) (h0 : 0 ≤ (pc : Int) + off) (hxy : x = y ∨ (5 ≤ x ∧ y < 4)) (k : Kt p l e R s m args below meth c Q G c0 z0 (h) (if (b = .eq ↔ x = y) then tgt pc off else pc + 3) (L) (S)) : Kt p l e R s m args below meth c Q G c0 z0 (h) (pc) (L) (.ref y :: .ref x :: S) := fun H locs ls hR hl hq => by
  have ht := tgt_ok h0
  have k := k H locs ls hR hl hq
  have e1 : some (adr G x) = some (adr G y) ↔ x = y := by
    rcases hxy with rfl | ⟨h1, h2⟩
    · simp
    · constructor
      · intro z; exact absurd (Option.some.inj z) (adr_ne C.b h1 h2)
      · intro z; omega
  cases b with
  | eq =>
    refine lv_acmp_eq (rx := some (adr G x)) (ry := some (adr G y)) C.x C.y hd ht (fun q => ?_) (fun q => ?_)
    · rw [if_pos (by simpa using e1.mp q)] at k; exact k
    · rw [if_neg (by simpa using fun z => q (e1.mpr z))] at k; exact k
  | ne =>
    refine lv_acmp_ne (rx := some (adr G x)) (ry := some (adr G y)) C.x C.y hd ht (fun q => ?_) (fun q => ?_)
    · rw [if_pos (by simpa using fun z => q (e1.mpr z))] at k; exact k
    · rw [if_neg (by have := e1.mp q; simpa using this)] at k; exact k
theorem k_tsw (C : Ctx p l R s m meth c G d i) {dd lo hi : Int} {offs : Array Int} {len : Nat} {x : Int32} (hd : decode (mcode i) pc = .ok (.tableswitch dd lo hi offs, len)) (h0 : 0 ≤ (pc : Int) + swT pc dd lo hi offs.toList x) (k : Kt p l e R s m args below meth c Q G c0 z0 (h) (tgt pc (swT pc dd lo hi offs.toList x)) (L) (S)) : Kt p l e R s m args below meth c Q G c0 z0 (h) (pc) (L) (.int x :: S) := fun H locs ls hR hl hq => by
  have k := k H locs ls hR hl hq
  have ht := tgt_ok h0
  by_cases z : x.toInt < lo ∨ hi < x.toInt
  · have e : swT pc dd lo hi offs.toList x = dd := if_pos z
    rw [e] at ht k
    exact lv_tableOut C.x C.y hd z ht k
  · have e : swT pc dd lo hi offs.toList x = (offs.toList[(x.toInt - lo).toNat]?).getD (-(pc : Int) - 1) := if_neg z
    cases ho : offs.toList[(x.toInt - lo).toNat]? with
    | none => rw [e, ho] at h0; simp at h0; omega
    | some off =>
      rw [e, ho] at ht k
      exact lv_tableIn C.x C.y hd (fun q => z (Or.inl q)) (fun q => z (Or.inr q)) (by simpa using ho) ht k
theorem lsO_eq (ps : List (Int × Int)) (dd x : Int) : Op.lookupswitch.offset ps dd x = lsO ps dd x := by
  induction ps with
  | nil => rfl
  | cons q r ih =>
    obtain ⟨a, o⟩ := q
    simp only [Op.lookupswitch.offset, lsO, ih]
    by_cases z : x = a
    · subst z; simp
    · simp [z, Ne.symm z]
theorem k_lsw (C : Ctx p l R s m meth c G d i) {dd : Int} {ps : Array (Int × Int)} {len : Nat} {x : Int32} (hd : decode (mcode i) pc = .ok (.lookupswitch dd ps, len)) (hs : (ps.toList.zip (ps.toList.drop 1)).all (fun (a, next) => a.1 < next.1) = true) (h0 : 0 ≤ (pc : Int) + lsO ps.toList dd x.toInt) (k : Kt p l e R s m args below meth c Q G c0 z0 (h) (tgt pc (lsO ps.toList dd x.toInt)) (L) (S)) : Kt p l e R s m args below meth c Q G c0 z0 (h) (pc) (L) (.int x :: S) := fun H locs ls hR hl hq =>
  lv_lookup C.x C.y hd hs (lsO_eq _ _ _) (tgt_ok h0) (k H locs ls hR hl hq)
end OPS
