/-! THE MINI MACHINE: a small interpreter over the real decoder, with its own picture of the heap. An address below 5 is an old cell (0 the script, 1 ArrayList's empty array, 2 the String "CLGW", 3 its bytes, 4 the Class object of Object[]); new cells are numbered from 5 on in the order in which they are made. A cell: a tag (an object's class; 20 int[], 21 long[], 22 char[], 23 byte[], 24 Object[]; 30+k a fresh exception, 40+k a made one; 99 none) and its contents. -/
abbrev MO : Type := Nat × List Value
abbrev MH : Type := (Nat → MO) × Nat × Nat
def hput (h : MH) (a : Nat) (o : MO) : MH := (fun j => if j = a then o else h.1 j, h.2)
def hnew (h : MH) (o : MO) : MH := (fun j => if j = h.2.1 then o else h.1 j, h.2.1 + 1, h.2.2 + o.2.length)
abbrev HA : Type := Option (Nat × MO) ⊕ MO
def apH (h : MH) : HA → MH
  | .inl none => h
  | .inl (some (a, o)) => hput h a o
  | .inr o => hnew h o
/-- what comes of a step: on (place, locals, stack, what becomes of the heap); back with a value; a call (method, arguments, the rest of the stack); a throw -/
abbrev MA : Type := (Nat × List Value × List Value × HA) ⊕ (Option Value ⊕ ((Nat × List Value × List Value) ⊕ Nat))
def goK (pc : Nat) (L S : List Value) : Option MA := some (.inl (pc, L, S, .inl none))
def goP (pc : Nat) (L S : List Value) (a : Nat) (o : MO) : Option MA := some (.inl (pc, L, S, .inl (some (a, o))))
def goN (pc : Nat) (L S : List Value) (o : MO) : Option MA := some (.inl (pc, L, S, .inr o))
def mown (i : Nat) : Nat := (mtab.getD i (0, ⟨"", "", ""⟩, .empty, 0, none, [])).1
def mnam (i : Nat) : MethodName := (mtab.getD i (0, ⟨"", "", ""⟩, .empty, 0, none, [])).2.1
def mcode (i : Nat) : ByteArray := (mtab.getD i (0, ⟨"", "", ""⟩, .empty, 0, none, [])).2.2.1
def mloc (i : Nat) : Nat := (mtab.getD i (0, ⟨"", "", ""⟩, .empty, 0, none, [])).2.2.2.1
def mret (i : Nat) : Option FieldType := (mtab.getD i (0, ⟨"", "", ""⟩, .empty, 0, none, [])).2.2.2.2.1
def mhan (i : Nat) : List (Nat × Nat × Nat × Nat) := (mtab.getD i (0, ⟨"", "", ""⟩, .empty, 0, none, [])).2.2.2.2.2
def mpar (i : Nat) : Nat := ((parseMethodDescriptor (mnam i).desc).map (fun d => d.parameters.length)).getD 0
def lkp {α : Type} (l : List ((Nat × Nat) × α)) (o k : Nat) : Option α := (l.find? (fun e => e.1.1 == o && e.1.2 == k)).map (fun e => e.2)
def nlg (v : Value) : Bool := match v with | .long _ => false | .double _ => false | _ => true
def okp (L : List Value) : Nat → Bool
  | 0 => true
  | k + 1 => match L[k]? with | some v => nlg v | none => true
/-- so many words at the most lie on a stack -/
def okN : Nat → List Value → Bool
  | _, [] => true
  | n, v :: S => decide (v.category ≤ n) && okN (n - v.category) S
def ldI (k pc : Nat) (L S : List Value) : Option MA := match L[k]? with | some (.int x) => goK pc L (.int x :: S) | _ => none
def ldL (k pc : Nat) (L S : List Value) : Option MA := match L[k]? with | some (.long x) => goK pc L (.long x :: S) | _ => none
def ldA (k pc : Nat) (L S : List Value) : Option MA := match L[k]? with | some (.ref x) => goK pc L (.ref x :: S) | _ => none
def stI (k pc : Nat) (L S : List Value) : Option MA := match S with | .int x :: S' => if k < L.length ∧ okp L k = true then goK pc (L.set k (.int x)) S' else none | _ => none
def stL (k pc : Nat) (L S : List Value) : Option MA := match S with | .long x :: S' => if k + 1 < L.length ∧ okp L k = true then goK pc ((L.set k (.long x)).set (k + 1) .null) S' else none | _ => none
def stA (k pc : Nat) (L S : List Value) : Option MA := match S with | .ref x :: S' => if k < L.length ∧ okp L k = true then goK pc (L.set k (.ref x)) S' else none | _ => none
def bI (f : Int32 → Int32 → Int32) (pc : Nat) (L S : List Value) : Option MA := match S with | .int y :: .int x :: S' => goK (pc + 1) L (.int (f x y) :: S') | _ => none
def bL (f : Int64 → Int64 → Int64) (pc : Nat) (L S : List Value) : Option MA := match S with | .long y :: .long x :: S' => goK (pc + 1) L (.long (f x y) :: S') | _ => none
def bIz (f : Int32 → Int32 → Int32) (pc : Nat) (L S : List Value) : Option MA := match S with | .int y :: .int x :: S' => if y = 0 then none else goK (pc + 1) L (.int (f x y) :: S') | _ => none
def bLz (f : Int64 → Int64 → Int64) (pc : Nat) (L S : List Value) : Option MA := match S with | .long y :: .long x :: S' => if y = 0 then none else goK (pc + 1) L (.long (f x y) :: S') | _ => none
def tgt (pc : Nat) (off : Int) : Nat := ((pc : Int) + off).toNat
/-- the place to go to, where it lies in the code -/
def goT (pc : Nat) (off : Int) (L S : List Value) : Option MA := if 0 ≤ (pc : Int) + off then goK (tgt pc off) L S else none
/-- a branch: its target lies in the code in any case -/
def goB (b : Bool) (pc : Nat) (off : Int) (L S : List Value) : Option MA := if 0 ≤ (pc : Int) + off then (if b = true then goK (tgt pc off) L S else goK (pc + 3) L S) else none
def cmp (c : ClassFile.Cond) (x y : Int32) : Bool := match c with
  | .eq => decide (x = y) | .ne => decide (¬ x = y) | .lt => decide (x < y) | .ge => decide (y ≤ x) | .gt => decide (y < x) | .le => decide (x ≤ y)
/-- an element's place -/
def inb (i : Int32) (n : Nat) : Bool := decide (¬ i < 0) && decide (i.toNatClampNeg < n)
def aty (t : Nat) : FieldType := match t with | 20 => .int | 21 => .long | 22 => .char | 23 => .byte | _ => .object "java/lang/Object"
def ald (t : Nat) (pc : Nat) (L S : List Value) (h : MH) : Option MA := match S with
  | .int i :: .ref a :: S' => if (h.1 a).1 = t ∧ inb i (h.1 a).2.length = true then (match (h.1 a).2[i.toNatClampNeg]? with | some v => goK (pc + 1) L (v :: S') | none => none) else none
  | _ => none
/-- an object that may lie in an Object[] -/
def okE (h : MH) (v : Value) : Bool := match v with | .null => true | .ref y => decide (5 ≤ y) && ((h.1 y).1 == 3 || (h.1 y).1 == 4 || (h.1 y).1 == 5) | _ => false
def ast (t : Nat) (pc : Nat) (L S : List Value) (h : MH) : Option MA := match S with
  | v :: .int i :: .ref a :: S' => if 5 ≤ a ∧ (h.1 a).1 = t ∧ inb i (h.1 a).2.length = true then
      (match t, v with
       | 20, .int x => goP (pc + 1) L S' a (20, (h.1 a).2.set i.toNatClampNeg (.int x))
       | 21, .long x => goP (pc + 1) L S' a (21, (h.1 a).2.set i.toNatClampNeg (.long x))
       | 22, .int x => goP (pc + 1) L S' a (22, (h.1 a).2.set i.toNatClampNeg (.int (vp_nar .char x)))
       | 24, .ref y => if okE h (.ref y) = true then goP (pc + 1) L S' a (24, (h.1 a).2.set i.toNatClampNeg (.ref y)) else none
       | _, _ => none) else none
  | _ => none
def cpyL (xs ys : List Value) (sp dp n : Nat) : List Value := (List.range ys.length).map (fun k => if dp ≤ k ∧ k < dp + n then xs.getD (sp + (k - dp)) .null else ys.getD k .null)
def isI (v : Value) : Bool := match v with | .int _ => true | _ => false
/-- the calls that are steps of their own: Object(), an exception's constructor, arraycopy, clone, getClass -/
def natS (kind T pc : Nat) (L S : List Value) (h : MH) : Option MA := match kind, S with
  | 4, .ref _ :: S' => if okN 8 S' = true then goK (pc + 3) L S' else none
  | 5, .ref a :: S' => if 5 ≤ a ∧ (h.1 a).1 = 30 + T ∧ okN 8 S' = true then goP (pc + 3) L S' a (40 + T, (h.1 a).2) else none
  | 6, .int n :: .int dp :: .ref b :: .int sp :: .ref a :: S' =>
      if 5 ≤ a ∧ 5 ≤ b ∧ (h.1 a).1 = 24 ∧ (h.1 b).1 = 24 ∧ ¬ n < 0 ∧ ¬ dp < 0 ∧ ¬ sp < 0 ∧ sp.toNatClampNeg + n.toNatClampNeg ≤ (h.1 a).2.length ∧ dp.toNatClampNeg + n.toNatClampNeg ≤ (h.1 b).2.length ∧ (h.1 a).2.all (okE h) = true ∧ okN 8 S' = true then
        goP (pc + 3) L S' b (24, cpyL (h.1 a).2 (h.1 b).2 sp.toNatClampNeg dp.toNatClampNeg n.toNatClampNeg) else none
  | 7, .ref a :: S' => if 5 ≤ a ∧ (h.1 a).1 = 20 ∧ (h.1 a).2.all isI = true ∧ okN 8 S' = true then goN (pc + 3) L (.ref h.2.1 :: S') (20, (h.1 a).2) else none
  | 8, .ref a :: S' => if 5 ≤ a ∧ (h.1 a).1 = 24 ∧ okN 8 S' = true then goK (pc + 3) L (.ref 4 :: S') else none
  | _, _ => none
/-- a method's arguments off the stack: the last lies on top -/
def popN : Nat → List Value → List Value → Option (List Value × List Value)
  | 0, acc, S => some (acc, S)
  | n + 1, acc, v :: S => popN n (v :: acc) S
  | _ + 1, _, [] => none
/-- the locals at a method's start -/
def expA : List Value → List Value
  | [] => []
  | v :: vs => if v.category = 2 then v :: .null :: expA vs else v :: expA vs
def mlocs (j : Nat) (as : List Value) : List Value := expA as ++ List.replicate (mloc j - (expA as).length) .null
def okC (j : Nat) (as S : List Value) : Bool := okN 8 S && ((mlocs j as).length == mloc j)
def mcall (kind j T pc : Nat) (L S : List Value) (h : MH) : Option MA :=
  match kind with
  | 0 => match popN (mpar j) [] S with
    | some (as, S') => if okC j as S' = true then some (.inr (.inr (.inl (j, as, S')))) else none
    | none => none
  | 1 => match popN (mpar j) [] S with
    | some (as, .ref b :: S') => if okC j (.ref b :: as) S' = true ∧ (h.1 b).1 = T then some (.inr (.inr (.inl (j, .ref b :: as, S')))) else none
    | _ => none
  | 2 => match popN (mpar j) [] S with
    | some (as, .ref b :: S') => if okC j (.ref b :: as) S' = true then some (.inr (.inr (.inl (j, .ref b :: as, S')))) else none
    | _ => none
  | 3 => match popN (mpar j) [] S with
    | some (as, .ref b :: S') => if okC j (.ref b :: as) S' = true then some (.inr (.inr (.inl (j, .ref b :: as, S')))) else none
    | _ => none
  | k => natS k T pc L S h
def dfl (t : Nat) : List Value := (ftl.getD t []).map defaultValue
def swT (pc : Nat) (d lo hi : Int) (offs : List Int) (x : Int32) : Int := if x.toInt < lo ∨ hi < x.toInt then d else (offs[(x.toInt - lo).toNat]?).getD (-(pc : Int) - 1)
def lsO (ps : List (Int × Int)) (d : Int) (x : Int) : Int := match ps with
  | [] => d
  | (k, o) :: r => if x = k then o else lsO r d x
def stepA (i : Nat) (ins : Instr) (pc : Nat) (L S : List Value) (h : MH) : Option MA := match ins with
  | .aconst_null => goK (pc + 1) L (.null :: S)
  | .aload k => ldA k (pc + 2) L S
  | .aload_n k => ldA k.val (pc + 1) L S
  | .iload k => ldI k (pc + 2) L S
  | .iload_n k => ldI k.val (pc + 1) L S
  | .lload k => ldL k (pc + 2) L S
  | .lload_n k => ldL k.val (pc + 1) L S
  | .astore k => stA k (pc + 2) L S
  | .astore_n k => stA k.val (pc + 1) L S
  | .istore k => stI k (pc + 2) L S
  | .istore_n k => stI k.val (pc + 1) L S
  | .lstore k => stL k (pc + 2) L S
  | .lstore_n k => stL k.val (pc + 1) L S
  | .iconst n => goK (pc + 1) L (.int (Int32.ofInt n) :: S)
  | .bipush n => goK (pc + 2) L (.int (Int8.ofInt n).toInt32 :: S)
  | .sipush n => goK (pc + 3) L (.int (Int16.ofInt n).toInt32 :: S)
  | .lconst n => goK (pc + 1) L (.long (Int64.ofNat n.val) :: S)
  | .iinc k n => match L[k]? with
    | some (.int x) => if okp L k = true then goK (pc + 3) (L.set k (.int (x + Int32.ofInt n))) S else none
    | _ => none
  | .iadd => bI (fun x y => x + y) pc L S
  | .isub => bI (fun x y => x - y) pc L S
  | .imul => bI (fun x y => x * y) pc L S
  | .iand => bI (fun x y => x &&& y) pc L S
  | .ishr => bI (fun x y => x >>> (y &&& 31)) pc L S
  | .idiv => bIz (fun x y => x / y) pc L S
  | .irem => bIz (fun x y => x - x / y * y) pc L S
  | .ladd => bL (fun x y => x + y) pc L S
  | .lsub => bL (fun x y => x - y) pc L S
  | .lmul => bL (fun x y => x * y) pc L S
  | .ldiv => bLz (fun x y => x / y) pc L S
  | .lrem => bLz (fun x y => x - x / y * y) pc L S
  | .lcmp => match S with | .long y :: .long x :: S' => goK (pc + 1) L (.int (lg_cmp x y) :: S') | _ => none
  | .i2l => match S with | .int x :: S' => goK (pc + 1) L (.long x.toInt64 :: S') | _ => none
  | .l2i => match S with | .long x :: S' => goK (pc + 1) L (.int x.toInt32 :: S') | _ => none
  | .i2b => match S with | .int x :: S' => goK (pc + 1) L (.int x.toInt8.toInt32 :: S') | _ => none
  | .i2c => match S with | .int x :: S' => goK (pc + 1) L (.int (x.toUInt32 % 65536).toInt32 :: S') | _ => none
  | .dup => match S with | v :: S' => if nlg v = true then goK (pc + 1) L (v :: v :: S') else none | _ => none
  | .pop => match S with | v :: S' => if nlg v = true then goK (pc + 1) L S' else none | _ => none
  | .dup_x1 => match S with | v :: w :: S' => if nlg v = true ∧ nlg w = true then goK (pc + 1) L (v :: w :: v :: S') else none | _ => none
  | .dup2 => match S with | v :: w :: S' => if nlg v = true ∧ nlg w = true then goK (pc + 1) L (v :: w :: v :: w :: S') else none | _ => none
  | .goto off => goT pc off L S
  | .ifCond c off => match S with | .int x :: S' => goB (cmp c x 0) pc off L S' | _ => none
  | .if_icmp c off => match S with | .int y :: .int x :: S' => goB (cmp c x y) pc off L S' | _ => none
  | .if_acmp c off => match S with
    | .ref y :: .ref x :: S' => if x = y then goB (decide (c = .eq)) pc off L S' else if 5 ≤ x ∧ y < 4 then goB (decide (c = .ne)) pc off L S' else none
    | _ => none
  | .tableswitch d lo hi offs => match S with | .int x :: S' => goT pc (swT pc d lo hi offs.toList x) L S' | _ => none
  | .lookupswitch d ps => match S with | .int x :: S' => if (ps.toList.zip (ps.toList.drop 1)).all (fun (a, next) => a.1 < next.1) = true then goT pc (lsO ps.toList d x.toInt) L S' else none | _ => none
  | .iaload => ald 20 pc L S h
  | .laload => ald 21 pc L S h
  | .caload => ald 22 pc L S h
  | .baload => ald 23 pc L S h
  | .aaload => ald 24 pc L S h
  | .iastore => ast 20 pc L S h
  | .lastore => ast 21 pc L S h
  | .castore => ast 22 pc L S h
  | .aastore => ast 24 pc L S h
  | .arraylength => match S with | .ref a :: S' => if 20 ≤ (h.1 a).1 ∧ (h.1 a).1 ≤ 24 then goK (pc + 1) L (.int (nI (h.1 a).2.length) :: S') else none | _ => none
  | .newarray at_ => match S with
    | .int n :: S' => if ¬ n < 0 ∧ n.toNatClampNeg ≤ 100000 then (match at_ with
        | .int => goN (pc + 2) L (.ref h.2.1 :: S') (20, List.replicate n.toNatClampNeg (.int 0))
        | .long => goN (pc + 2) L (.ref h.2.1 :: S') (21, List.replicate n.toNatClampNeg (.long 0))
        | .char => goN (pc + 2) L (.ref h.2.1 :: S') (22, List.replicate n.toNatClampNeg (.int 0))
        | _ => none) else none
    | _ => none
  | .anewarray k => match S, lkp atab (mown i) k with
    | .int n :: S', some _ => if ¬ n < 0 ∧ n.toNatClampNeg ≤ 100000 then goN (pc + 3) L (.ref h.2.1 :: S') (24, List.replicate n.toNatClampNeg .null) else none
    | _, _ => none
  | .new k => match lkp ntab (mown i) k with
    | some t => if t < 8 then goN (pc + 3) L (.ref h.2.1 :: S) (t, dfl t) else if 30 ≤ t ∧ t < 33 then goN (pc + 3) L (.ref h.2.1 :: S) (t, List.replicate 6 .null) else none
    | none => none
  | .getfield k => match S, lkp ftab (mown i) k with
    | .ref a :: S', some (t, f, _, _) => if (h.1 a).1 = t then (match (h.1 a).2[f]? with | some v => goK (pc + 3) L (v :: S') | none => none) else none
    | _, _ => none
  | .putfield k => match S, lkp ftab (mown i) k with
    | v :: .ref a :: S', some (t, f, n, _) => if 5 ≤ a ∧ (h.1 a).1 = t ∧ narrow (fty t f) v = v ∧ fits (fty t f) v = true ∧ ((FT t f).2.2.2 = false ∨ ((mnam i).name = "<init>" ∧ (FT t f).1 = cn (mown i) ∧ n = false)) then goP (pc + 3) L S' a (t, (h.1 a).2.set f v) else none
    | _, _ => none
  | .getstatic k => match lkp stab (mown i) k with | some v => goK (pc + 3) L (v :: S) | none => none
  | .ldc k => match lkp ktab (mown i) k with | some (.int x) => goK (pc + 2) L (.int x :: S) | some (.ref x) => goK (pc + 2) L (.ref x :: S) | _ => none
  | .ldc2_w k => match lkp ktab (mown i) k with | some (.long x) => goK (pc + 3) L (.long x :: S) | _ => none
  | .checkcast k => match S, lkp xtab (mown i) k with
    | .ref a :: S', some t => if 5 ≤ a ∧ (h.1 a).1 = t then goK (pc + 3) L (.ref a :: S') else none
    | _, _ => none
  | .invokestatic k => match lkp ctab (mown i) k with
    | some (kind, j, T) => if kind = 0 ∨ kind = 6 then mcall kind j T pc L S h else none
    | none => none
  | .invokevirtual k => match lkp ctab (mown i) k with
    | some (kind, j, T) => if kind = 1 ∨ kind = 7 ∨ kind = 8 then mcall kind j T pc L S h else none
    | none => none
  | .invokespecial k => match lkp ctab (mown i) k with
    | some (kind, j, T) => if kind = 2 ∨ kind = 3 ∨ kind = 4 ∨ kind = 5 then mcall kind j T pc L S h else none
    | none => none
  | .athrow => match S with | .ref a :: _ => if 40 ≤ (h.1 a).1 ∧ (h.1 a).1 < 43 then some (.inr (.inr (.inr a))) else none | _ => none
  | .ireturn => match S, mret i with | [.int v], some ty => if narrow ty (.int v) = .int v then some (.inr (.inl (some (.int v)))) else none | _, _ => none
  | .lreturn => match S, mret i with | [.long v], some .long => some (.inr (.inl (some (.long v)))) | _, _ => none
  | .areturn => match S, mret i with
    | [.ref v], some (.object _) => some (.inr (.inl (some (.ref v))))
    | [.ref v], some (.array _) => some (.inr (.inl (some (.ref v))))
    | _, _ => none
  | .return_ => match S, mret i with | [], none => some (.inr (.inl none)) | _, _ => none
  | _ => none
/-- where an exception of the kind k goes that comes up at pc: none: not told; some none: out of the method; some (some q): to q -/
def hgo (o k pc : Nat) : List (Nat × Nat × Nat × Nat) → Option (Option Nat)
  | [] => none
  | (a, b, q, c) :: r => if a ≤ pc ∧ pc < b then (match lkp htab o c with | some e => if e = k then some (some q) else hgo o k pc r | none => none) else hgo o k pc r
def hnd (i pc t : Nat) : Option (Option Nat) := if 40 ≤ t ∧ t < 43 then (if mhan i = [] then some none else hgo (mown i) (t - 40) pc (mhan i)) else none
/-- the length of an instruction (a switch: any) -/
def okl (ins : Instr) (len : Nat) : Bool := match ins with
  | .tableswitch .. => true
  | .lookupswitch .. => true
  | .aload _ => len == 2 | .iload _ => len == 2 | .lload _ => len == 2 | .astore _ => len == 2 | .istore _ => len == 2 | .lstore _ => len == 2 | .bipush _ => len == 2 | .newarray _ => len == 2 | .ldc _ => len == 2
  | .sipush _ => len == 3 | .iinc _ _ => len == 3 | .goto _ => len == 3 | .ifCond _ _ => len == 3 | .if_icmp _ _ => len == 3 | .if_acmp _ _ => len == 3 | .anewarray _ => len == 3 | .new _ => len == 3 | .getfield _ => len == 3 | .putfield _ => len == 3 | .getstatic _ => len == 3 | .ldc2_w _ => len == 3 | .checkcast _ => len == 3 | .invokestatic _ => len == 3 | .invokevirtual _ => len == 3 | .invokespecial _ => len == 3
  | _ => len == 1
abbrev MR : Type := (Option Value ⊕ Nat) × MH
def exec : Nat → Nat → Nat → Nat → List Value → List Value → MH → Option MR
  | 0, _, _, _, _, _, _ => none
  | n + 1, d, i, pc, L, S, h =>
    match decode (mcode i) pc with
    | .error _ => none
    | .ok (ins, len) => match (if okl ins len = true then stepA i ins pc L S h else none) with
      | none => none
      | some (.inl (pc', L', S', act)) => exec n d i pc' L' S' (apH h act)
      | some (.inr (.inl v)) => some (.inl v, h)
      | some (.inr (.inr (.inl (j, as, S')))) => match d with
        | 0 => none
        | d' + 1 => match exec n d' j 0 (mlocs j as) [] h with
          | none => none
          | some (.inl v, h') => exec n (d' + 1) i (pc + len) L (v.toList ++ S') h'
          | some (.inr a, h') => match hnd i pc (h'.1 a).1 with
            | none => none
            | some none => some (.inr a, h')
            | some (some q) => exec n (d' + 1) i q L [.ref a] h'
      | some (.inr (.inr (.inr a))) => match hnd i pc (h.1 a).1 with
        | none => none
        | some none => some (.inr a, h)
        | some (some q) => exec n d i q L [.ref a] h
