/-! SOUNDNESS, 2: what is known of the start; the frame's context -/
def tysG (G : Gh) : List (ClassId × FieldType) := [(g_A G 20, .int), (g_A G 21, .long), (g_A G 22, .char), (g_A G 23, .byte), (g_A G 24, .object "java/lang/Object")]
/-- an array to read -/
def acl (G : Gh) (t : Nat) (vs : List Value) (q : Nat) (H : Heap) : Prop := ∃ cell : Cell, H[q]? = some cell ∧ (g_s G).isArrayOf cell (aty t) ∧ cell.vm ≠ .unknown ∧ vs.length ≤ cell.slots.size ∧ cell.slots.size.toInt32 = nI vs.length ∧ ∀ (j : Nat) (v : Value), vs[j]? = some v → cell.slots[j]? = some (tr G v)
abbrev oldA (G : Gh) : Nat → Prop := fun q => b0 G ≤ q
def Base (l : Launch) (G : Gh) : Prop :=
  l.flags = pinnedFlags ++ [noTraceFlag] ∧
  (∀ w ∈ lw_tbl, w.before #[Value.ref (g_b G)] (g_s G) = true) ∧
  va_K (g_D G) classes (tysG G) (g_s G) ∧
  (∀ k, k < 3 → (g_s G).vm.findClass (en k) = some (g_E G k) ∧ ∃ kX : Class, (g_s G).vm.classes[g_E G k]? = some kX ∧ kX.instanceTypes = g_T G k ∧ (g_T G k).size = 6) ∧
  (∀ j k, j < 3 → k < 3 → j ≠ k → (g_s G).vm.assignable (g_E G j) (g_E G k) = false) ∧
  (∀ a, a < 4 → g_r G a < b0 G) ∧
  (∀ a, a = 0 ∨ a = 1 ∨ a = 3 → acl G (oldc (g_x G) a).1 (oldc (g_x G) a).2 (g_r G a) (g_s G).heap) ∧
  (va_O "java/lang/String" (g_r G 2) (oldA G) (g_s G) (g_s G).heap ∧ va_OF "java/lang/String" "value" "[B" (.ref (g_r G 3)) (g_r G 2) (oldA G) (g_s G) (g_s G).heap ∧ va_OF "java/lang/String" "coder" "B" (.int 0) (g_r G 2) (oldA G) (g_s G) (g_s G).heap) ∧
  vk_R "RopeClosures$Reader" 36 "CLGW" (g_r G 2) (g_s G) ∧
  va_Mi "[Ljava/lang/Object;" (g_r G 4) (g_s G) ∧
  va_Z "java/util/ArrayList" "DEFAULTCAPACITY_EMPTY_ELEMENTDATA" "[Ljava/lang/Object;" (.ref (g_r G 1)) (oldA G) (g_s G) (g_s G).heap ∧
  va_Z "java/lang/String" "COMPACT_STRINGS" "Z" (.int 1) (oldA G) (g_s G) (g_s G).heap ∧
  (Cond.isRef (.static "java/lang/Throwable" "UNASSIGNED_STACK" "[Ljava/lang/StackTraceElement;")).before #[Value.ref (g_b G)] (g_s G) = true ∧
  (Cond.isRef (.static "java/lang/Throwable" "SUPPRESSED_SENTINEL" "Ljava/util/List;")).before #[Value.ref (g_b G)] (g_s G) = true
section BASE
variable {l : Launch} {G : Gh} {U : State} {a' : Array Value}
theorem Base.fl (B : Base l G) : l.flags = pinnedFlags ++ [noTraceFlag] := B.1
theorem Base.w (B : Base l G) : ∀ w ∈ lw_tbl, w.before #[Value.ref (g_b G)] (g_s G) = true := B.2.1
theorem Base.K (B : Base l G) : va_K (g_D G) classes (tysG G) (g_s G) := B.2.2.1
theorem Base.exc (B : Base l G) : ∀ k, k < 3 → (g_s G).vm.findClass (en k) = some (g_E G k) ∧ ∃ kX : Class, (g_s G).vm.classes[g_E G k]? = some kX ∧ kX.instanceTypes = g_T G k ∧ (g_T G k).size = 6 := B.2.2.2.1
theorem Base.nc (B : Base l G) : ∀ j k, j < 3 → k < 3 → j ≠ k → (g_s G).vm.assignable (g_E G j) (g_E G k) = false := B.2.2.2.2.1
theorem Base.rl (B : Base l G) : ∀ a, a < 4 → g_r G a < b0 G := B.2.2.2.2.2.1
theorem Base.oa (B : Base l G) : ∀ a, a = 0 ∨ a = 1 ∨ a = 3 → acl G (oldc (g_x G) a).1 (oldc (g_x G) a).2 (g_r G a) (g_s G).heap := B.2.2.2.2.2.2.1
theorem Base.str (B : Base l G) : va_O "java/lang/String" (g_r G 2) (oldA G) (g_s G) (g_s G).heap ∧ va_OF "java/lang/String" "value" "[B" (.ref (g_r G 3)) (g_r G 2) (oldA G) (g_s G) (g_s G).heap ∧ va_OF "java/lang/String" "coder" "B" (.int 0) (g_r G 2) (oldA G) (g_s G) (g_s G).heap := B.2.2.2.2.2.2.2.1
theorem Base.lit (B : Base l G) : vk_R "RopeClosures$Reader" 36 "CLGW" (g_r G 2) (g_s G) := B.2.2.2.2.2.2.2.2.1
theorem Base.mir (B : Base l G) : va_Mi "[Ljava/lang/Object;" (g_r G 4) (g_s G) := B.2.2.2.2.2.2.2.2.2.1
theorem Base.emp (B : Base l G) : va_Z "java/util/ArrayList" "DEFAULTCAPACITY_EMPTY_ELEMENTDATA" "[Ljava/lang/Object;" (.ref (g_r G 1)) (oldA G) (g_s G) (g_s G).heap := B.2.2.2.2.2.2.2.2.2.2.1
theorem Base.uns (B : Base l G) : (Cond.isRef (.static "java/lang/Throwable" "UNASSIGNED_STACK" "[Ljava/lang/StackTraceElement;")).before #[Value.ref (g_b G)] (g_s G) = true := B.2.2.2.2.2.2.2.2.2.2.2.2.1
theorem Base.sen (B : Base l G) : (Cond.isRef (.static "java/lang/Throwable" "SUPPRESSED_SENTINEL" "Ljava/util/List;")).before #[Value.ref (g_b G)] (g_s G) = true := B.2.2.2.2.2.2.2.2.2.2.2.2.2
theorem Base.cmp (B : Base l G) : va_Z "java/lang/String" "COMPACT_STRINGS" "Z" (.int 1) (oldA G) (g_s G) (g_s G).heap := B.2.2.2.2.2.2.2.2.2.2.2.1
/-- a word of the tables, in any warmer state -/
theorem Base.wd (B : Base l G) (hW : (g_s G).WarmedH U.vm) {w : Jvm.Cond} (hw : w ∈ lw_tbl) (hg : (w.onTables && w.keeps) = true) : w.before a' U = true := word_at hW (Or.inl hg) (B.w w hw)
theorem Base.KU (B : Base l G) (hW : (g_s G).WarmedH U.vm) : va_K (g_D G) classes (tysG G) U := va_K.moved hW.alike B.K
end BASE
def Ctx (p : Program) (l : Launch) (R : Room) (s : State) (m : MethodId) (meth : Method) (c : Code) (G : Gh) (d i : Nat) : Prop :=
  Base l G ∧ p.tables.exec = Jvm.exec ∧ c.code = mcode i ∧ c.maxLocals = mloc i ∧ meth.sig.returnType = mret i ∧ meth.locks = false ∧ s.vm.findClass (cn (mown i)) = some m.cls ∧ (g_s G).WarmedH s.vm ∧
  c.exceptionTable.toList.map (fun x => (x.startPc, x.endPc, x.handlerPc, x.catchType)) = mhan i ∧ meth.name = (mnam i).name ∧ d + 10 ≤ R.frames ∧ 100 * d + 200 ≤ R.locals ∧ b0 G ≤ s.heap.size ∧ ∀ q : Nat, q < b0 G → s.heap[q]? = (g_s G).heap[q]?
/-- the machine, at a frame that the mini machine's state pictures, comes to its end -/
def Kt (p : Program) (l : Launch) (e : Env) (R : Room) (s : State) (m : MethodId) (args : Array Value) (below : List Frame) (meth : Method) (c : Code) (Q : State → Prop) (G : Gh) (c0 z0 : Nat) (h : MH) (pc : Nat) (L S : List Value) : Prop :=
  ∀ (H : Heap) (locs : List Loc) (ls : Array Slot), Rep G h H → lrel G ls L → (∀ q ∈ locs, b0 G ≤ q.base) → W p l e R s m args below meth c H locs (h.2.1 - c0) (h.2.2 - z0) Q (F0 m pc ls (S.map (tr G)))
section CTXS
variable {p : Program} {l : Launch} {e : Env} {R : Room} {s : State} {m : MethodId} {args : Array Value} {below : List Frame} {meth : Method} {c : Code} {G : Gh} {d i : Nat}
theorem Ctx.b (C : Ctx p l R s m meth c G d i) : Base l G := C.1
theorem Ctx.x (C : Ctx p l R s m meth c G d i) : p.tables.exec = Jvm.exec := C.2.1
theorem Ctx.y (C : Ctx p l R s m meth c G d i) : c.code = mcode i := C.2.2.1
theorem Ctx.ml (C : Ctx p l R s m meth c G d i) : c.maxLocals = mloc i := C.2.2.2.1
theorem Ctx.r (C : Ctx p l R s m meth c G d i) : meth.sig.returnType = mret i := C.2.2.2.2.1
theorem Ctx.lk (C : Ctx p l R s m meth c G d i) : meth.locks = false := C.2.2.2.2.2.1
theorem Ctx.o (C : Ctx p l R s m meth c G d i) : s.vm.findClass (cn (mown i)) = some m.cls := C.2.2.2.2.2.2.1
theorem Ctx.w (C : Ctx p l R s m meth c G d i) : (g_s G).WarmedH s.vm := C.2.2.2.2.2.2.2.1
theorem Ctx.ex (C : Ctx p l R s m meth c G d i) : c.exceptionTable.toList.map (fun x => (x.startPc, x.endPc, x.handlerPc, x.catchType)) = mhan i := C.2.2.2.2.2.2.2.2.1
theorem Ctx.nm (C : Ctx p l R s m meth c G d i) : meth.name = (mnam i).name := C.2.2.2.2.2.2.2.2.2.1
theorem Ctx.fr (C : Ctx p l R s m meth c G d i) : d + 10 ≤ R.frames := C.2.2.2.2.2.2.2.2.2.2.1
theorem Ctx.lo (C : Ctx p l R s m meth c G d i) : 100 * d + 200 ≤ R.locals := C.2.2.2.2.2.2.2.2.2.2.2.1
theorem Ctx.bz (C : Ctx p l R s m meth c G d i) : b0 G ≤ s.heap.size := C.2.2.2.2.2.2.2.2.2.2.2.2.1
theorem Ctx.hp (C : Ctx p l R s m meth c G d i) : ∀ q : Nat, q < b0 G → s.heap[q]? = (g_s G).heap[q]? := C.2.2.2.2.2.2.2.2.2.2.2.2.2
theorem Ctx.wd (C : Ctx p l R s m meth c G d i) {w : Jvm.Cond} (hw : w ∈ lw_tbl) (hg : (w.onTables && w.keeps) = true) : w.before args s = true := C.b.wd C.w hw hg
end CTXS
