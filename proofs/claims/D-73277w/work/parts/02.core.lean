/-! JVM-LITE: an interpreter over an abstract heap, of the program by its tables. A heap: cells in all, slots in all, the environment (constants of the launch), cells by address. A cell: tag, length, contents. -/
abbrev Cl : Type := Nat × Nat × (Nat → Value)
abbrev AH : Type := Nat × Nat × (Nat → Value) × (Nat → Option Cl)
abbrev Out : Type := Option Value ⊕ Nat
abbrev Rz : Type := Option (Out × AH)
abbrev Cf : Type := Nat × List Value × List Value × AH
abbrev Rs : Type := Option (Cf ⊕ (Out × AH))
abbrev Cll : Type := Nat → List Value → AH → Rz
def jn (h : AH) : Nat := h.1
def jsl (h : AH) : Nat := h.2.1
def je (h : AH) : Nat → Value := h.2.2.1
def jm (h : AH) : Nat → Option Cl := h.2.2.2
def jset (h : AH) (a : Nat) (c : Cl) : AH := (h.1, h.2.1, h.2.2.1, fun q => if q = a then some c else h.2.2.2 q)
def jpush (h : AH) (c : Cl) : AH := (h.1 + 1, h.2.1 + c.2.1, h.2.2.1, fun q => if q = h.1 then some c else h.2.2.2 q)
def jL (l : List Value) : Nat → Value := fun k => l.getD k .null
def ju (f : Nat → Value) (k : Nat) (v : Value) : Nat → Value := fun j => if j = k then v else f j
/-- what is no value: of a cell that isn't there -/
abbrev jno : Value := .retAddr 0
abbrev jhalf : Value := .retAddr 1
def jc (h : AH) (v : Value) : Option Cl := match v with
  | .ref a => jm h a
  | _ => none
def jf (c : Option Cl) (T : List Nat) (k : Nat) : Value := match c with
  | some (t, _, f) => if t ∈ T then f k else jno
  | none => jno
def rI {β : Type} (v : Value) (κ : Int32 → Option β) : Option β := match v with
  | .int x => κ x
  | _ => none
def rJ {β : Type} (v : Value) (κ : Int64 → Option β) : Option β := match v with
  | .long x => κ x
  | _ => none
def rR {β : Type} (v : Value) (κ : Value → Option β) : Option β := match v with
  | .null => κ .null
  | .ref a => κ (.ref a)
  | _ => none
def isI (v : Value) : Bool := match v with
  | .int _ => true
  | _ => false
def isJ (v : Value) : Bool := match v with
  | .long _ => true
  | _ => false
def isR (v : Value) : Bool := match v with
  | .null => true
  | .ref _ => true
  | _ => false
/-- may a field of this sort hold it -/
def okF (tc : Nat) (v : Value) : Bool := match v with
  | .int x => (Nat.beq tc 0) || (Nat.beq tc 3 && (x == 0 || x == 1)) || (Nat.beq tc 4 && x.toInt8.toInt32 == x)
  | .long _ => Nat.beq tc 1
  | .null => Nat.beq tc 2
  | .ref _ => Nat.beq tc 2
  | _ => false
def okRet (rc : Nat) (v : Option Value) : Bool := match v with
  | some (.int _) => Nat.beq rc 0
  | some (.long _) => Nat.beq rc 1
  | some .null => Nat.beq rc 2
  | some (.ref _) => Nat.beq rc 2
  | none => Nat.beq rc 3
  | _ => false
/-- a store to a field -/
def pF {β : Type} (h : AH) (o : Value) (T : List Nat) (k tc : Nat) (v : Value) (κ : AH → Option β) : Option β := match o with
  | .ref a => (match jm h a with
    | some (t, n, f) => if t ∈ T ∧ t < 100 ∧ okF tc v = true then κ (jset h a (t, n, ju f k v)) else none
    | none => none)
  | _ => none
/-- a component of an array whose tag is in T -/
def aG {β : Type} (h : AH) (o : Value) (T : List Nat) (i : Int32) (κ : Value → Option β) : Option β := match o with
  | .ref a => (match jm h a with
    | some (t, n, f) => if t ∈ T ∧ ¬ (i < 0 ∨ n ≤ i.toNatClampNeg) then κ (f i.toNatClampNeg) else none
    | none => none)
  | _ => none
def aS {β : Type} (h : AH) (o : Value) (T : List Nat) (i : Int32) (v : Value) (κ : AH → Option β) : Option β := match o with
  | .ref a => (match jm h a with
    | some (t, n, f) => if t ∈ T ∧ ¬ (i < 0 ∨ n ≤ i.toNatClampNeg) then κ (jset h a (t, n, ju f i.toNatClampNeg v)) else none
    | none => none)
  | _ => none
/-- a reference may lie in an array of references -/
def okA (h : AH) (o v : Value) : Bool := match v with
  | .null => true
  | .ref b => (match jc h o, jm h b with
    | some (t, _), some (t2, _) => (Nat.beq t 1040 && Nat.blt t2 1000) || (Nat.beq t 1050 && Nat.beq t2 4) || (Nat.beq t 1060 && Nat.beq t2 6)
    | _, _ => false)
  | _ => false
/-- an array's length -/
def aL {β : Type} (h : AH) (o : Value) (κ : Int32 → Option β) : Option β := match o with
  | .ref a => (match jm h a with
    | some (t, n, _) => if 1000 ≤ t then κ n.toInt32 else none
    | none => none)
  | _ => none
/-- a cast -/
def cK {β : Type} (h : AH) (v : Value) (T : List Nat) (κ : Option β) : Option β := match v with
  | .null => κ
  | .ref a => (match jm h a with
    | some (t, _) => if t ∈ T then κ else none
    | none => none)
  | _ => none
def iK {β : Type} (h : AH) (v : Value) (T T2 : List Nat) (κ : Int32 → Option β) : Option β := match v with
  | .null => κ 0
  | .ref a => (match jm h a with
    | some (t, _) => if t ∈ T then κ 1 else if t ∈ T2 then κ 0 else none
    | none => none)
  | _ => none
def jcpy (f g : Nat → Value) (sp dp n : Nat) : Nat → Value := fun k => if dp ≤ k ∧ k < dp + n then f (sp + (k - dp)) else g k
/-- two tags of arrays between which System.arraycopy may copy -/
def cpOk (t t2 : Nat) : Bool := (Nat.beq t2 1040 && (Nat.beq t 1040 || Nat.beq t 1041)) || (Nat.beq t2 1010 && (Nat.beq t 1010 || Nat.beq t 1011)) || (Nat.beq t2 1030 && Nat.beq t 1030) || (Nat.beq t2 1000 && Nat.beq t 1000)
/-- two ints as one long, as they lie in an int array -/
def jL2 (v w : Value) : Value := match v, w with
  | .int x, .int y => .long (x.toUInt32.toNat + 4294967296 * y.toUInt32.toNat).toUInt64.toInt64
  | _, _ => jno
/-- what the machine does itself -/
def jprim (y : Nat) (as : List Value) (h : AH) : Rz := match y, as with
  | 90000, [.ref _] => some (.inl none, h)
  | 90001, [.ref a, .int sp, .ref b, .int dp, .int n] => (match jm h a, jm h b with
    | some (t, n1, f), some (t2, n2, g) => if cpOk t t2 = true ∧ ¬ sp < 0 ∧ ¬ dp < 0 ∧ ¬ n < 0 ∧ sp.toNatClampNeg + n.toNatClampNeg ≤ n1 ∧ dp.toNatClampNeg + n.toNatClampNeg ≤ n2 then some (.inl none, jset h b (t2, n2, jcpy f g sp.toNatClampNeg dp.toNatClampNeg n.toNatClampNeg)) else none
    | _, _ => none)
  | 90002, [.ref a] => (match jm h a with
    | some (t, _) => if t = 1040 ∨ t = 1041 then some (.inl (some (je h 47)), h) else none
    | none => none)
  | 90003, [.ref u, .ref a, .long x] => (match jm h u, jm h a with
    | some (tu, _), some (t, n, f) => if tu = 159 ∧ t = 1000 ∧ x = 16 ∧ 2 ≤ n then some (.inl (some (jL2 (f 0) (f 1))), h) else none
    | _, _ => none)
  | _, _ => none
/-! the instructions -/
def gd {β : Type} (b : Bool) (r : Option β) : Option β := if b = true then r else none
def sA (st : List Value) (κ : Value → List Value → Rs) : Rs := match st with
  | v :: r => κ v r
  | [] => none
def sI (st : List Value) (κ : Int32 → List Value → Rs) : Rs := match st with
  | .int x :: r => κ x r
  | _ => none
def sJ (st : List Value) (κ : Int64 → List Value → Rs) : Rs := match st with
  | .long x :: r => κ x r
  | _ => none
/-- a reference -/
def sR (st : List Value) (κ : Value → List Value → Rs) : Rs := match st with
  | v :: r => rR v (fun v => κ v r)
  | [] => none
def nx (pc : Nat) (L st : List Value) (h : AH) : Rs := some (.inl (pc, L, st, h))
def lg (L : List Value) (i : Nat) : Value := L.getD i jno
/-- a jump -/
def jgo (pc : Nat) (off : Int) (L st : List Value) (h : AH) : Rs := gd (decide (0 ≤ (pc : Int) + off)) (nx ((pc : Int) + off).toNat L st h)
def jbr (b : Bool) (pc : Nat) (off : Int) (L st : List Value) (h : AH) : Rs := if b = true then jgo pc off L st h else nx (pc + 3) L st h
def cnd (c : ClassFile.Cond) (x y : Int32) : Bool := match c with
  | .eq => decide (x = y)
  | .ne => decide (¬ x = y)
  | .lt => decide (x < y)
  | .ge => decide (y ≤ x)
  | .gt => decide (y < x)
  | .le => decide (x ≤ y)
/-- an exception q at pc: the first handler whose range holds pc -/
def jthrow (y pc : Nat) (L : List Value) (h : AH) (q : Nat) : Rs := match (jtH y).find? (fun x => Nat.ble x.1 pc && Nat.blt pc x.2.1) with
  | none => some (.inr (.inr q, h))
  | some x => (match jm h q with
    | some (t, _) => if t ∈ x.2.2.2 then nx x.2.2.1 L [.ref q] h else none
    | none => none)
/-- what is thrown is an object -/
def aT {β : Type} (h : AH) (q : Nat) (κ : Option β) : Option β := match jm h q with
  | some (t, _) => if t < 100 then κ else none
  | none => none
/-- what a call's end makes of the caller -/
def jback (y pc q : Nat) (L rest : List Value) (rc : Nat) (r : Rz) : Rs := match r with
  | some (.inl v, h) => gd (okRet rc v) (nx q L (v.toList ++ rest) h)
  | some (.inr e, h) => jthrow y pc L h e
  | none => none
/-- which method a call runs: by its row and the arguments -/
def jtgt (h : AH) (r : Nat × Nat × Nat × Nat) (as : List Value) : Option Nat :=
  bif (Nat.beq r.1 2 || Nat.beq r.1 6) then (match as with
    | .ref a :: _ => (match jm h a with
      | some (t, _) => some (jtV r.2.1 t)
      | none => none)
    | _ => none)
  else some r.2.1
/-- how many values a call takes off the stack -/
def jargs (r : Nat × Nat × Nat × Nat) : Nat := bif Nat.beq r.1 0 then r.2.2.1 else bif (Nat.beq r.1 3 && Nat.beq r.2.1 90001) then 5 else r.2.2.1 + 1
def jcall (call : Cll) (y pc q : Nat) (L st : List Value) (h : AH) (r : Nat × Nat × Nat × Nat) (ok : Bool) : Rs :=
  gd (ok && Nat.ble (jargs r) st.length && Nat.ble st.length (jargs r + 10)) (match jtgt h r ((st.take (jargs r)).reverse) with
    | some y2 => jback y pc q L (st.drop (jargs r)) r.2.2.2 (call y2 ((st.take (jargs r)).reverse) h)
    | none => none)
def jkey (y idx : Nat) : Nat := bif Nat.blt idx 2000 then 2000 * (y / 1000) + idx else 0
/-- tag of exceptions that are made and thrown at once: the whole of new X; dup; invokespecial; athrow -/
abbrev jNSEE : Nat := 66
def jnew (y pc : Nat) (L st : List Value) (h : AH) (r : Nat × Nat × List Value) : Rs :=
  if r.1 = jNSEE then (match st with
    | [] => jthrow y (pc + 7) L (jpush h (r.1, r.2.1, jL r.2.2)) h.1
    | _ => none)
  else if r.1 = 0 then none
  else nx (pc + 3) L (.ref h.1 :: st) (jpush h (r.1, r.2.1, jL r.2.2))
/-- behind the new at pc stand dup, the exception's constructor, athrow -/
def chk66 (y pc : Nat) : Bool := (jtH y).isEmpty && match decode (jtCode y) (pc + 3), decode (jtCode y) (pc + 4), decode (jtCode y) (pc + 7) with
  | .ok (.dup, 1), .ok (.invokespecial ic, 3), .ok (.athrow, 1) => Nat.beq (jtC (jkey y ic)).1 5 && Nat.beq (jtC (jkey y ic)).2.1 66901
  | _, _, _ => false
def swT (x lo : Int32) (hi : Int32) (ts : List Nat) (d : Nat) : Nat := if x < lo ∨ hi < x then d else ts.getD (x - lo).toNatClampNeg d
def exi (call : Cll) (y pc : Nat) (L st : List Value) (h : AH) (len : Nat) (i : Instr) : Rs := match i with
  | .iconst n => gd (Nat.beq len 1) (nx (pc + 1) L (.int (Int32.ofInt n) :: st) h)
  | .bipush n => gd (Nat.beq len 2) (nx (pc + 2) L (.int (Int8.ofInt n).toInt32 :: st) h)
  | .sipush n => gd (Nat.beq len 3) (nx (pc + 3) L (.int (Int16.ofInt n).toInt32 :: st) h)
  | .lconst n => gd (Nat.beq len 1) (nx (pc + 1) L (.long (Int64.ofNat n) :: st) h)
  | .aconst_null => gd (Nat.beq len 1) (nx (pc + 1) L (.null :: st) h)
  | .iload_n k => gd (Nat.beq len 1) (rI (lg L k) fun x => nx (pc + 1) L (.int x :: st) h)
  | .iload k => gd (Nat.beq len 2) (rI (lg L k) fun x => nx (pc + 2) L (.int x :: st) h)
  | .lload_n k => gd (Nat.beq len 1) (rJ (lg L k) fun x => gd (lg L (k.val + 1) == jhalf) (nx (pc + 1) L (.long x :: st) h))
  | .lload k => gd (Nat.beq len 2) (rJ (lg L k) fun x => gd (lg L (k + 1) == jhalf) (nx (pc + 2) L (.long x :: st) h))
  | .aload_n k => gd (Nat.beq len 1) (rR (lg L k) fun x => nx (pc + 1) L (x :: st) h)
  | .aload k => gd (Nat.beq len 2) (rR (lg L k) fun x => nx (pc + 2) L (x :: st) h)
  | .istore_n k => gd (Nat.beq len 1 && Nat.blt k L.length) (sI st fun x r => nx (pc + 1) (L.set k (.int x)) r h)
  | .istore k => gd (Nat.beq len 2 && Nat.blt k L.length) (sI st fun x r => nx (pc + 2) (L.set k (.int x)) r h)
  | .astore_n k => gd (Nat.beq len 1 && Nat.blt k L.length) (sR st fun x r => nx (pc + 1) (L.set k x) r h)
  | .astore k => gd (Nat.beq len 2 && Nat.blt k L.length) (sR st fun x r => nx (pc + 2) (L.set k x) r h)
  | .lstore_n k => gd (Nat.beq len 1 && Nat.blt (k.val + 1) L.length) (sJ st fun x r => nx (pc + 1) ((L.set k (.long x)).set (k.val + 1) jhalf) r h)
  | .lstore k => gd (Nat.beq len 2 && Nat.blt (k + 1) L.length) (sJ st fun x r => nx (pc + 2) ((L.set k (.long x)).set (k + 1) jhalf) r h)
  | .iinc k n => gd (Nat.beq len 3 && Nat.blt k L.length) (rI (lg L k) fun x => nx (pc + 3) (L.set k (.int (x + Int32.ofInt n))) st h)
  | .iadd => gd (Nat.beq len 1) (sI st fun b r => sI r fun a r => nx (pc + 1) L (.int (a + b) :: r) h)
  | .isub => gd (Nat.beq len 1) (sI st fun b r => sI r fun a r => nx (pc + 1) L (.int (a - b) :: r) h)
  | .imul => gd (Nat.beq len 1) (sI st fun b r => sI r fun a r => nx (pc + 1) L (.int (a * b) :: r) h)
  | .iand => gd (Nat.beq len 1) (sI st fun b r => sI r fun a r => nx (pc + 1) L (.int (a &&& b) :: r) h)
  | .ior => gd (Nat.beq len 1) (sI st fun b r => sI r fun a r => nx (pc + 1) L (.int (a ||| b) :: r) h)
  | .ixor => gd (Nat.beq len 1) (sI st fun b r => sI r fun a r => nx (pc + 1) L (.int (a ^^^ b) :: r) h)
  | .idiv => gd (Nat.beq len 1) (sI st fun b r => sI r fun a r => if b = 0 then none else nx (pc + 1) L (.int (a / b) :: r) h)
  | .irem => gd (Nat.beq len 1) (sI st fun b r => sI r fun a r => if b = 0 then none else nx (pc + 1) L (.int (a - a / b * b) :: r) h)
  | .ineg => gd (Nat.beq len 1) (sI st fun a r => nx (pc + 1) L (.int (-a) :: r) h)
  | .ishl => gd (Nat.beq len 1) (sI st fun b r => sI r fun a r => nx (pc + 1) L (.int (a <<< (b &&& 31)) :: r) h)
  | .ishr => gd (Nat.beq len 1) (sI st fun b r => sI r fun a r => nx (pc + 1) L (.int (a >>> (b &&& 31)) :: r) h)
  | .iushr => gd (Nat.beq len 1) (sI st fun b r => sI r fun a r => nx (pc + 1) L (.int ((a.toUInt32 >>> (b.toUInt32 &&& Int32.toUInt32 31)).toInt32) :: r) h)
  | .ladd => gd (Nat.beq len 1) (sJ st fun b r => sJ r fun a r => nx (pc + 1) L (.long (a + b) :: r) h)
  | .lsub => gd (Nat.beq len 1) (sJ st fun b r => sJ r fun a r => nx (pc + 1) L (.long (a - b) :: r) h)
  | .land => gd (Nat.beq len 1) (sJ st fun b r => sJ r fun a r => nx (pc + 1) L (.long (a &&& b) :: r) h)
  | .lor => gd (Nat.beq len 1) (sJ st fun b r => sJ r fun a r => nx (pc + 1) L (.long (a ||| b) :: r) h)
  | .lxor => gd (Nat.beq len 1) (sJ st fun b r => sJ r fun a r => nx (pc + 1) L (.long (a ^^^ b) :: r) h)
  | .lshl => gd (Nat.beq len 1) (sI st fun b r => sJ r fun a r => nx (pc + 1) L (.long (a <<< (b.toInt64 &&& 63)) :: r) h)
  | .lshr => gd (Nat.beq len 1) (sI st fun b r => sJ r fun a r => nx (pc + 1) L (.long (a >>> (b.toInt64 &&& 63)) :: r) h)
  | .lushr => gd (Nat.beq len 1) (sI st fun b r => sJ r fun a r => nx (pc + 1) L (.long ((a.toUInt64 >>> (b.toInt64.toUInt64 &&& 63)).toInt64) :: r) h)
  | .lcmp => gd (Nat.beq len 1) (sJ st fun b r => sJ r fun a r => nx (pc + 1) L (.int (if b < a then 1 else if a = b then 0 else -1) :: r) h)
  | .i2l => gd (Nat.beq len 1) (sI st fun a r => nx (pc + 1) L (.long a.toInt64 :: r) h)
  | .l2i => gd (Nat.beq len 1) (sJ st fun a r => nx (pc + 1) L (.int a.toInt32 :: r) h)
  | .i2b => gd (Nat.beq len 1) (sI st fun a r => nx (pc + 1) L (.int a.toInt8.toInt32 :: r) h)
  | .i2c => gd (Nat.beq len 1) (sI st fun a r => nx (pc + 1) L (.int ((a.toUInt32 % 65536).toInt32) :: r) h)
  | .dup => gd (Nat.beq len 1) (sA st fun v r => gd (isI v || isR v) (nx (pc + 1) L (v :: v :: r) h))
  | .pop => gd (Nat.beq len 1) (sA st fun v r => gd (isI v || isR v) (nx (pc + 1) L r h))
  | .dup_x1 => gd (Nat.beq len 1) (sA st fun v r => sA r fun w r => gd ((isI v || isR v) && (isI w || isR w)) (nx (pc + 1) L (v :: w :: v :: r) h))
  | .dup2 => gd (Nat.beq len 1) (sA st fun v r => sA r fun w r => gd ((isI v || isR v) && (isI w || isR w)) (nx (pc + 1) L (v :: w :: v :: w :: r) h))
  | .goto off => gd (Nat.beq len 3) (jgo pc off L st h)
  | .ifCond c off => gd (Nat.beq len 3) (sI st fun x r => jbr (cnd c x 0) pc off L r h)
  | .if_icmp c off => gd (Nat.beq len 3) (sI st fun b r => sI r fun a r => jbr (cnd c a b) pc off L r h)
  | .if_acmp c off => gd (Nat.beq len 3) (sR st fun b r => sR r fun a r => jbr (match c with | .eq => decide (a = b) | .ne => decide (¬ a = b)) pc off L r h)
  | .ifnull off => gd (Nat.beq len 3) (sR st fun v r => jbr (decide (v = .null)) pc off L r h)
  | .ifnonnull off => gd (Nat.beq len 3) (sR st fun v r => jbr (decide (¬ v = .null)) pc off L r h)
  | .ireturn => gd (Nat.beq len 1) (match st with | [.int x] => gd (match jtRet y with | some .int => true | some .boolean => x == 0 || x == 1 | some .byte => x.toInt8.toInt32 == x | some .char => (x.toUInt32 % 65536).toInt32 == x | _ => false) (some (.inr (.inl (some (.int x)), h))) | _ => none)
  | .lreturn => gd (Nat.beq len 1) (match st with | [.long x] => gd (match jtRet y with | some .long => true | _ => false) (some (.inr (.inl (some (.long x)), h))) | _ => none)
  | .areturn => gd (Nat.beq len 1) (match st with | [v] => rR v fun v => gd (match jtRet y with | some (.object _) => true | some (.array _) => true | _ => false) (some (.inr (.inl (some v), h))) | _ => none)
  | .return_ => gd (Nat.beq len 1) (match st with | [] => gd (match jtRet y with | none => true | _ => false) (some (.inr (.inl none, h))) | _ => none)
  | .athrow => gd (Nat.beq len 1) (match st with | .ref q :: _ => aT h q (jthrow y pc L h q) | _ => none)
  | .getfield idx => gd (Nat.beq len 3) (sA st fun o r => bif Nat.beq (jtF (jkey y idx)).1 1 then rJ (jf (jc h o) (jtF (jkey y idx)).2.1 (jtF (jkey y idx)).2.2.1) fun x => nx (pc + 3) L (.long x :: r) h
      else bif Nat.beq (jtF (jkey y idx)).1 2 then rR (jf (jc h o) (jtF (jkey y idx)).2.1 (jtF (jkey y idx)).2.2.1) fun x => nx (pc + 3) L (x :: r) h
      else rI (jf (jc h o) (jtF (jkey y idx)).2.1 (jtF (jkey y idx)).2.2.1) fun x => nx (pc + 3) L (.int x :: r) h)
  | .putfield idx => gd (Nat.beq len 3) (sA st fun v r => sA r fun o r => gd (Nat.beq (jtF (jkey y idx)).2.2.2 0 || (Nat.beq (jtF (jkey y idx)).2.2.2 (y / 1000 + 1) && Nat.ble 900 (y % 1000))) (pF h o (jtF (jkey y idx)).2.1 (jtF (jkey y idx)).2.2.1 (jtF (jkey y idx)).1 v fun h => nx (pc + 3) L r h))
  | .getstatic idx => gd (Nat.beq len 3) (bif Nat.beq (jtS (jkey y idx)).1 0 then nx (pc + 3) L (.int (Int32.ofInt (jtS (jkey y idx)).2) :: st) h
      else bif Nat.beq (jtS (jkey y idx)).1 1 then rR (je h (jtS (jkey y idx)).2.toNat) fun v => nx (pc + 3) L (v :: st) h else none)
  | .ldc idx => gd (Nat.beq len 2) (bif Nat.beq (jtL (jkey y idx)).1 0 then nx (pc + 2) L (.int (Int32.ofInt (jtL (jkey y idx)).2) :: st) h
      else bif Nat.beq (jtL (jkey y idx)).1 1 then rR (je h (jtL (jkey y idx)).2.toNat) fun v => nx (pc + 2) L (v :: st) h else none)
  | .ldc_w idx => gd (Nat.beq len 3) (bif Nat.beq (jtL (jkey y idx)).1 0 then nx (pc + 3) L (.int (Int32.ofInt (jtL (jkey y idx)).2) :: st) h
      else bif (Nat.beq (jtL (jkey y idx)).1 1 && !(Nat.beq (jtL (jkey y idx)).2.toNat 47)) then rR (je h (jtL (jkey y idx)).2.toNat) fun v => nx (pc + 3) L (v :: st) h else none)
  | .ldc2_w idx => gd (Nat.beq len 3) (match jtL2 (jkey y idx) with | some x => nx (pc + 3) L (.long x :: st) h | none => none)
  | .iaload => gd (Nat.beq len 1) (sI st fun i r => sA r fun o r => aG h o [1000, 1001] i fun v => rI v fun x => nx (pc + 1) L (.int x :: r) h)
  | .baload => gd (Nat.beq len 1) (sI st fun i r => sA r fun o r => aG h o [1010, 1011, 1020] i fun v => rI v fun x => nx (pc + 1) L (.int x :: r) h)
  | .laload => gd (Nat.beq len 1) (sI st fun i r => sA r fun o r => aG h o [1030] i fun v => rJ v fun x => nx (pc + 1) L (.long x :: r) h)
  | .aaload => gd (Nat.beq len 1) (sI st fun i r => sA r fun o r => aG h o [1040, 1041, 1050, 1060, 1071] i fun v => rR v fun x => nx (pc + 1) L (x :: r) h)
  | .iastore => gd (Nat.beq len 1) (sI st fun x r => sI r fun i r => sA r fun o r => aS h o [1000] i (.int x) fun h => nx (pc + 1) L r h)
  | .bastore => gd (Nat.beq len 1) (sI st fun x r => sI r fun i r => sA r fun o r => (match jc h o with
      | some (t, _) => bif Nat.beq t 1010 then aS h o [1010] i (.int x.toInt8.toInt32) fun h => nx (pc + 1) L r h
        else gd (x == 0 || x == 1) (aS h o [1020] i (.int x) fun h => nx (pc + 1) L r h)
      | none => none))
  | .lastore => gd (Nat.beq len 1) (sJ st fun x r => sI r fun i r => sA r fun o r => aS h o [1030] i (.long x) fun h => nx (pc + 1) L r h)
  | .aastore => gd (Nat.beq len 1) (sA st fun v r => sI r fun i r => sA r fun o r => gd (okA h o v) (aS h o [1040, 1050, 1060] i v fun h => nx (pc + 1) L r h))
  | .arraylength => gd (Nat.beq len 1) (sA st fun o r => aL h o fun n => nx (pc + 1) L (.int n :: r) h)
  | .new idx => gd (Nat.beq len 3 && (!(Nat.beq (jtN (jkey y idx)).1 66) || chk66 y pc)) (jnew y pc L st h (jtN (jkey y idx)))
  | .newarray t => gd (Nat.beq len 2) (sI st fun n r => if n < 0 ∨ 60000000 ≤ n.toNatClampNeg then none else (match t with
      | .int => nx (pc + 2) L (.ref h.1 :: r) (jpush h (1000, n.toNatClampNeg, fun _ => .int 0))
      | .byte => nx (pc + 2) L (.ref h.1 :: r) (jpush h (1010, n.toNatClampNeg, fun _ => .int 0))
      | .boolean => nx (pc + 2) L (.ref h.1 :: r) (jpush h (1020, n.toNatClampNeg, fun _ => .int 0))
      | .long => nx (pc + 2) L (.ref h.1 :: r) (jpush h (1030, n.toNatClampNeg, fun _ => .long 0))
      | _ => none))
  | .anewarray idx => gd (Nat.beq len 3) (sI st fun n r => if n < 0 ∨ 60000000 ≤ n.toNatClampNeg ∨ jtA (jkey y idx) = 0 then none else nx (pc + 3) L (.ref h.1 :: r) (jpush h (jtA (jkey y idx), n.toNatClampNeg, fun _ => .null)))
  | .checkcast idx => gd (Nat.beq len 3) (sA st fun v r => cK h v (jtK (jkey y idx)).1 (nx (pc + 3) L (v :: r) h))
  | .instanceof idx => gd (Nat.beq len 3) (sA st fun v r => iK h v (jtK (jkey y idx)).1 (jtK (jkey y idx)).2 fun x => nx (pc + 3) L (.int x :: r) h)
  | .invokestatic idx => jcall call y pc (pc + 3) L st h (jtC (jkey y idx)) (Nat.beq len 3 && (Nat.beq (jtC (jkey y idx)).1 0 || (Nat.beq (jtC (jkey y idx)).1 3 && Nat.beq (jtC (jkey y idx)).2.1 90001)))
  | .invokespecial idx => jcall call y pc (pc + 3) L st h (jtC (jkey y idx)) (Nat.beq len 3 && (Nat.beq (jtC (jkey y idx)).1 4 || Nat.beq (jtC (jkey y idx)).1 5 || (Nat.beq (jtC (jkey y idx)).1 3 && Nat.beq (jtC (jkey y idx)).2.1 90000)))
  | .invokevirtual idx => jcall call y pc (pc + 3) L st h (jtC (jkey y idx)) (Nat.beq len 3 && (Nat.beq (jtC (jkey y idx)).1 1 || Nat.beq (jtC (jkey y idx)).1 2 || (Nat.beq (jtC (jkey y idx)).1 3 && Nat.beq (jtC (jkey y idx)).2.1 90002) || (Nat.beq (jtC (jkey y idx)).1 3 && Nat.beq (jtC (jkey y idx)).2.1 90003)))
  | .invokeinterface idx _ => jcall call y pc (pc + 5) L st h (jtC (jkey y idx)) (Nat.beq len 5 && Nat.beq (jtC (jkey y idx)).1 6)
  | .lookupswitch d ps => sI st fun x r => gd (decide (0 ≤ (pc : Int) + Op.lookupswitch.offset ps.toList d x.toInt) && (ps.toList.zip (ps.toList.drop 1)).all (fun (a, next) => a.1 < next.1)) (nx ((pc : Int) + Op.lookupswitch.offset ps.toList d x.toInt).toNat L r h)
  | .tableswitch d lo hi ts => sI st fun x r => gd (decide (0 ≤ (pc : Int) + d) && ts.toList.all (fun t => decide (0 ≤ (pc : Int) + t)) && decide (-1000 ≤ lo ∧ hi < 1000 ∧ (ts.size : Int) = hi - lo + 1)) (nx (swT x (Int32.ofInt lo) (Int32.ofInt hi) (ts.toList.map fun t => ((pc : Int) + t).toNat) ((pc : Int) + d).toNat) L r h)
  | _ => none
def stp (call : Cll) (y : Nat) (c : Cf) : Rs := match decode (jtCode y) c.1 with
  | .ok (i, len) => exi call y c.1 c.2.1 c.2.2.1 c.2.2.2 len i
  | .error _ => none
def jrun (call : Cll) (y : Nat) : Nat → Cf → Rz
  | 0, _ => none
  | n + 1, c => match stp call y c with
    | none => none
    | some (.inl c') => jrun call y n c'
    | some (.inr r) => some r
noncomputable def jlim (f : Nat → Rz) : Rz := @dite _ (∃ n r, f n = some r) (Classical.propDecidable _) (fun h => f h.choose) (fun _ => none)
/-- the locals at a method's entry -/
def jargL : List Value → List Value
  | [] => []
  | .long x :: r => .long x :: jhalf :: jargL r
  | v :: r => v :: jargL r
def jent (y : Nat) (as : List Value) : List Value := jargL as ++ List.replicate (jtML y - (jargL as).length) jno
/-- the receiver is of a class that has this method -/
def jrecv (y : Nat) (as : List Value) (h : AH) : Bool := jtStat y || (match as with
  | .ref a :: _ => (match jm h a with
    | some (t, _) => decide (t ∈ jtRecv y)
    | none => false)
  | _ => false)
noncomputable def M : Nat → Cll
  | 0, _, _, _ => none
  | d + 1, y, as, h => if 90000 ≤ y then jprim y as h else if jrecv y as h = true ∧ (jent y as).length = jtML y then jlim (fun n => jrun (M d) y n (0, jent y as, [], h)) else none
noncomputable def G (d y pc : Nat) (L st : List Value) (h : AH) : Rz := jlim (fun n => jrun (M d) y n (pc, L, st, h))
theorem jrun_mono {call : Cll} {y : Nat} : ∀ (n : Nat) (c : Cf) (r : Out × AH), jrun call y n c = some r → jrun call y (n + 1) c = some r
  | 0, c, r, h => by simp [jrun] at h
  | n + 1, c, r, h => by
    rw [jrun] at h ⊢
    cases hs : stp call y c with
    | none => rw [hs] at h; exact h
    | some q =>
      rw [hs] at h
      cases q with
      | inl c' => exact jrun_mono n c' r h
      | inr z => exact h
theorem jrun_le {call : Cll} {y : Nat} {n k : Nat} {c : Cf} {r : Out × AH} (h : jrun call y n c = some r) : jrun call y (n + k) c = some r := by
  induction k with
  | zero => exact h
  | succ k ih => exact jrun_mono _ _ _ ih
theorem jlim_some {call : Cll} {y : Nat} {c : Cf} {r : Out × AH} {n : Nat} (h : jrun call y n c = some r) : jlim (fun n => jrun call y n c) = some r := by
  unfold jlim
  have hx : ∃ n r, jrun call y n c = some r := ⟨n, r, h⟩
  rw [dif_pos hx]
  obtain ⟨r2, h2⟩ := hx.choose_spec
  have a := jrun_le (k := n) h2
  have b := jrun_le (k := hx.choose) h
  rw [Nat.add_comm] at b
  show jrun call y hx.choose c = some r
  rw [h2, ← a, b]
theorem jlim_ex {call : Cll} {y : Nat} {c : Cf} {r : Out × AH} (h : jlim (fun n => jrun call y n c) = some r) : ∃ n, jrun call y n c = some r := by
  unfold jlim at h
  by_cases hx : ∃ n r, jrun call y n c = some r
  · rw [dif_pos hx] at h; exact ⟨_, h⟩
  · rw [dif_neg hx] at h; cases h
theorem jlim_none {call : Cll} {y : Nat} {c : Cf} (h : ∀ n, jrun call y n c = none) : jlim (fun n => jrun call y n c) = none := by
  cases hr : jlim (fun n => jrun call y n c) with
  | none => rfl
  | some r => obtain ⟨n, h2⟩ := jlim_ex hr; rw [h n] at h2; cases h2
/-- the equation of the interpreter, without fuel -/
theorem G_step (d y pc : Nat) (L st : List Value) (h : AH) : G d y pc L st h = match stp (M d) y (pc, L, st, h) with
    | none => none
    | some (.inl c) => G d y c.1 c.2.1 c.2.2.1 c.2.2.2
    | some (.inr r) => some r := by
  have key : ∀ n, jrun (M d) y (n + 1) (pc, L, st, h) = match stp (M d) y (pc, L, st, h) with
    | none => none
    | some (.inl c) => jrun (M d) y n c
    | some (.inr r) => some r := fun n => rfl
  cases hs : stp (M d) y (pc, L, st, h) with
  | none =>
    refine jlim_none fun n => ?_
    cases n with
    | zero => rfl
    | succ n => rw [key, hs]
  | some q =>
    cases q with
    | inl c =>
      show G d y pc L st h = G d y c.1 c.2.1 c.2.2.1 c.2.2.2
      cases hr : G d y c.1 c.2.1 c.2.2.1 c.2.2.2 with
      | some r =>
        obtain ⟨n, hn⟩ := jlim_ex hr
        exact jlim_some (n := n + 1) (by rw [key, hs]; exact hn)
      | none =>
        refine jlim_none fun n => ?_
        cases n with
        | zero => rfl
        | succ n =>
          rw [key, hs]
          show jrun (M d) y n c = none
          cases hq : jrun (M d) y n c with
          | none => rfl
          | some r =>
            have h2 : G d y c.1 c.2.1 c.2.2.1 c.2.2.2 = some r := jlim_some hq
            rw [hr] at h2; cases h2
    | inr r => exact jlim_some (n := 1) (by rw [key, hs])
theorem M_eq {d y : Nat} {as : List Value} {h : AH} {L : List Value} (hp : Nat.ble 90000 y = false) (hr : jrecv y as h = true) (hL : jent y as = L) (hl : L.length = jtML y := by rfl) : M (d + 1) y as h = G d y 0 L [] h := by
  subst hL
  rw [M, if_neg (fun q => by rw [Nat.ble_eq_true_of_le q] at hp; cases hp), if_pos ⟨hr, hl⟩]
  rfl
