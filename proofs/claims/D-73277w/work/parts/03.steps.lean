/-! one equation an instruction -/
noncomputable def jk (d y : Nat) (r : Rs) : Rz := match r with
  | none => none
  | some (.inl c) => G d y c.1 c.2.1 c.2.2.1 c.2.2.2
  | some (.inr r) => some r
def cIx (r : Rz) (κ : Int32 → AH → Rz) (κx : Nat → AH → Rz) : Rz := match r with
  | some (.inl (some (.int x)), h) => κ x h
  | some (.inr e, h) => κx e h
  | _ => none
def cJx (r : Rz) (κ : Int64 → AH → Rz) (κx : Nat → AH → Rz) : Rz := match r with
  | some (.inl (some (.long x)), h) => κ x h
  | some (.inr e, h) => κx e h
  | _ => none
def cRx (r : Rz) (κ : Value → AH → Rz) (κx : Nat → AH → Rz) : Rz := match r with
  | some (.inl (some .null), h) => κ .null h
  | some (.inl (some (.ref a)), h) => κ (.ref a) h
  | some (.inr e, h) => κx e h
  | _ => none
def cVx (r : Rz) (κ : AH → Rz) (κx : Nat → AH → Rz) : Rz := match r with
  | some (.inl none, h) => κ h
  | some (.inr e, h) => κx e h
  | _ => none
def cX (e : Nat) (h : AH) : Rz := some (.inr e, h)
abbrev cI (r : Rz) (κ : Int32 → AH → Rz) : Rz := cIx r κ cX
abbrev cJ (r : Rz) (κ : Int64 → AH → Rz) : Rz := cJx r κ cX
abbrev cR (r : Rz) (κ : Value → AH → Rz) : Rz := cRx r κ cX
abbrev cV (r : Rz) (κ : AH → Rz) : Rz := cVx r κ cX
/-- a call by the receiver's class -/
noncomputable def Mv (d v : Nat) (as : List Value) (h : AH) : Rz := match as with
  | .ref a :: _ => (match jm h a with
    | some (t, _) => M d (jtV v t) as h
    | none => none)
  | _ => none
def ckR {β : Type} (v : Value) (κ : Option β) : Option β := if isR v = true then κ else none
section
variable {d y pc : Nat} {L st : List Value} {h : AH} {cc : ByteArray}
theorem g_of {i : Instr} {len : Nat} (hc : jtCode y = cc) (hd : decode cc pc = .ok (i, len)) : G d y pc L st h = jk d y (exi (M d) y pc L st h len i) := by
  rw [G_step]; simp only [stp, hc, hd]; rfl
theorem jk_rI {v : Value} {κ : Int32 → Rs} : jk d y (rI v κ) = rI v (fun x => jk d y (κ x)) := by cases v <;> rfl
theorem jk_rJ {v : Value} {κ : Int64 → Rs} : jk d y (rJ v κ) = rJ v (fun x => jk d y (κ x)) := by cases v <;> rfl
theorem jk_rR {v : Value} {κ : Value → Rs} : jk d y (rR v κ) = rR v (fun x => jk d y (κ x)) := by cases v <;> rfl
theorem jk_pF {h : AH} {o : Value} {T : List Nat} {k tc : Nat} {v : Value} {κ : AH → Rs} : jk d y (pF h o T k tc v κ) = pF h o T k tc v (fun h => jk d y (κ h)) := by
  cases o with
  | ref a =>
    simp only [pF]
    cases jm h a with
    | none => rfl
    | some c => obtain ⟨t, n, f⟩ := c; simp only []; split <;> rfl
  | _ => rfl
theorem jk_aG {h : AH} {o : Value} {T : List Nat} {i : Int32} {κ : Value → Rs} : jk d y (aG h o T i κ) = aG h o T i (fun v => jk d y (κ v)) := by
  cases o with
  | ref a =>
    simp only [aG]
    cases jm h a with
    | none => rfl
    | some c => obtain ⟨t, n, f⟩ := c; simp only []; split <;> rfl
  | _ => rfl
theorem jk_aS {h : AH} {o : Value} {T : List Nat} {i : Int32} {v : Value} {κ : AH → Rs} : jk d y (aS h o T i v κ) = aS h o T i v (fun h => jk d y (κ h)) := by
  cases o with
  | ref a =>
    simp only [aS]
    cases jm h a with
    | none => rfl
    | some c => obtain ⟨t, n, f⟩ := c; simp only []; split <;> rfl
  | _ => rfl
theorem jk_aL {h : AH} {o : Value} {κ : Int32 → Rs} : jk d y (aL h o κ) = aL h o (fun v => jk d y (κ v)) := by
  cases o with
  | ref a =>
    simp only [aL]
    cases jm h a with
    | none => rfl
    | some c => obtain ⟨t, n, f⟩ := c; simp only []; split <;> rfl
  | _ => rfl
theorem jk_cK {h : AH} {v : Value} {T : List Nat} {κ : Rs} : jk d y (cK h v T κ) = cK h v T (jk d y κ) := by
  cases v with
  | ref a =>
    simp only [cK]
    cases jm h a with
    | none => rfl
    | some c => obtain ⟨t, n, f⟩ := c; simp only []; split <;> rfl
  | _ => rfl
theorem jk_iK {h : AH} {v : Value} {T T2 : List Nat} {κ : Int32 → Rs} : jk d y (iK h v T T2 κ) = iK h v T T2 (fun x => jk d y (κ x)) := by
  cases v with
  | ref a =>
    simp only [iK]
    cases jm h a with
    | none => rfl
    | some c =>
      obtain ⟨t, n, f⟩ := c
      simp only []
      split
      · rfl
      · split <;> rfl
  | _ => rfl
theorem jk_gd {b : Bool} {r : Rs} : jk d y (gd b r) = gd b (jk d y r) := by cases b <;> rfl
theorem g_iconst {n : Int} {x : Int32} (hc : jtCode y = cc) (hd : decode cc pc = .ok (.iconst n, 1)) (hx : Int32.ofInt n = x) : G d y pc L st h = G d y (pc + 1) L (.int x :: st) h := by subst hx; exact (g_of hc hd).trans rfl
theorem g_bipush {n : Int} {x : Int32} (hc : jtCode y = cc) (hd : decode cc pc = .ok (.bipush n, 2)) (hx : (Int8.ofInt n).toInt32 = x) : G d y pc L st h = G d y (pc + 2) L (.int x :: st) h := by subst hx; exact (g_of hc hd).trans rfl
theorem g_sipush {n : Int} {x : Int32} (hc : jtCode y = cc) (hd : decode cc pc = .ok (.sipush n, 3)) (hx : (Int16.ofInt n).toInt32 = x) : G d y pc L st h = G d y (pc + 3) L (.int x :: st) h := by subst hx; exact (g_of hc hd).trans rfl
theorem g_lconst {n : Fin 2} {x : Int64} (hc : jtCode y = cc) (hd : decode cc pc = .ok (.lconst n, 1)) (hx : Int64.ofNat n = x) : G d y pc L st h = G d y (pc + 1) L (.long x :: st) h := by subst hx; exact (g_of hc hd).trans rfl
theorem g_aconst_null (hc : jtCode y = cc) (hd : decode cc pc = .ok (.aconst_null, 1)) : G d y pc L st h = G d y (pc + 1) L (.null :: st) h := (g_of hc hd).trans rfl
theorem g_iload_n {k : Fin 4} {x : Int32} (hc : jtCode y = cc) (hd : decode cc pc = .ok (.iload_n k, 1)) (hl : lg L k = .int x) : G d y pc L st h = G d y (pc + 1) L (.int x :: st) h := by
  rw [g_of hc hd]; simp only [exi, hl]; rfl
theorem g_iload {k : Nat} {x : Int32} (hc : jtCode y = cc) (hd : decode cc pc = .ok (.iload k, 2)) (hl : lg L k = .int x) : G d y pc L st h = G d y (pc + 2) L (.int x :: st) h := by
  rw [g_of hc hd]; simp only [exi, hl]; rfl
theorem g_lload_n {k : Fin 4} {x : Int64} (hc : jtCode y = cc) (hd : decode cc pc = .ok (.lload_n k, 1)) (hl : lg L k = .long x) (hl2 : lg L (k.val + 1) = jhalf) : G d y pc L st h = G d y (pc + 1) L (.long x :: st) h := by
  rw [g_of hc hd]; simp only [exi, hl, hl2]; rfl
theorem g_lload {k : Nat} {x : Int64} (hc : jtCode y = cc) (hd : decode cc pc = .ok (.lload k, 2)) (hl : lg L k = .long x) (hl2 : lg L (k + 1) = jhalf) : G d y pc L st h = G d y (pc + 2) L (.long x :: st) h := by
  rw [g_of hc hd]; simp only [exi, hl, hl2]; rfl
theorem g_aload_n {k : Fin 4} {a : Nat} (hc : jtCode y = cc) (hd : decode cc pc = .ok (.aload_n k, 1)) (hl : lg L k = .ref a) : G d y pc L st h = G d y (pc + 1) L (.ref a :: st) h := by
  rw [g_of hc hd]; simp only [exi, hl]; rfl
theorem g_aload {k : Nat} {a : Nat} (hc : jtCode y = cc) (hd : decode cc pc = .ok (.aload k, 2)) (hl : lg L k = .ref a) : G d y pc L st h = G d y (pc + 2) L (.ref a :: st) h := by
  rw [g_of hc hd]; simp only [exi, hl]; rfl
theorem rR_ck {v : Value} {κ : Value → Rs} : jk d y (rR v κ) = ckR v (jk d y (κ v)) := by cases v <;> rfl
/-- a variable that may hold null, or what is no reference -/
theorem g_aload_nV {k : Fin 4} {v : Value} (hc : jtCode y = cc) (hd : decode cc pc = .ok (.aload_n k, 1)) (hl : lg L k = v) : G d y pc L st h = ckR v (G d y (pc + 1) L (v :: st) h) := by
  rw [g_of hc hd]; simp only [exi, hl]; exact (rR_ck (κ := fun x => nx _ L (x :: st) h))
theorem g_aloadV {k : Nat} {v : Value} (hc : jtCode y = cc) (hd : decode cc pc = .ok (.aload k, 2)) (hl : lg L k = v) : G d y pc L st h = ckR v (G d y (pc + 2) L (v :: st) h) := by
  rw [g_of hc hd]; simp only [exi, hl]; exact (rR_ck (κ := fun x => nx _ L (x :: st) h))
theorem g_istore_n {k : Fin 4} {x : Int32} {L' : List Value} (hc : jtCode y = cc) (hd : decode cc pc = .ok (.istore_n k, 1)) (hk : Nat.blt k L.length = true) (hL : L.set k (.int x) = L') : G d y pc L (.int x :: st) h = G d y (pc + 1) L' st h := by
  subst hL; rw [g_of hc hd]; simp only [exi, hk]; rfl
theorem g_istore {k : Nat} {x : Int32} {L' : List Value} (hc : jtCode y = cc) (hd : decode cc pc = .ok (.istore k, 2)) (hk : Nat.blt k L.length = true) (hL : L.set k (.int x) = L') : G d y pc L (.int x :: st) h = G d y (pc + 2) L' st h := by
  subst hL; rw [g_of hc hd]; simp only [exi, hk]; rfl
theorem g_astore_n {k : Fin 4} {a : Nat} {L' : List Value} (hc : jtCode y = cc) (hd : decode cc pc = .ok (.astore_n k, 1)) (hk : Nat.blt k L.length = true) (hL : L.set k (.ref a) = L') : G d y pc L (.ref a :: st) h = G d y (pc + 1) L' st h := by
  subst hL; rw [g_of hc hd]; simp only [exi, hk]; rfl
theorem g_astore {k : Nat} {a : Nat} {L' : List Value} (hc : jtCode y = cc) (hd : decode cc pc = .ok (.astore k, 2)) (hk : Nat.blt k L.length = true) (hL : L.set k (.ref a) = L') : G d y pc L (.ref a :: st) h = G d y (pc + 2) L' st h := by
  subst hL; rw [g_of hc hd]; simp only [exi, hk]; rfl
theorem g_astore_nV {k : Fin 4} {v : Value} {L' : List Value} (hc : jtCode y = cc) (hd : decode cc pc = .ok (.astore_n k, 1)) (hk : Nat.blt k L.length = true) (hL : L.set k v = L') : G d y pc L (v :: st) h = ckR v (G d y (pc + 1) L' st h) := by
  subst hL; rw [g_of hc hd]; simp only [exi, hk]; cases v <;> rfl
theorem g_astoreV {k : Nat} {v : Value} {L' : List Value} (hc : jtCode y = cc) (hd : decode cc pc = .ok (.astore k, 2)) (hk : Nat.blt k L.length = true) (hL : L.set k v = L') : G d y pc L (v :: st) h = ckR v (G d y (pc + 2) L' st h) := by
  subst hL; rw [g_of hc hd]; simp only [exi, hk]; cases v <;> rfl
theorem g_lstore_n {k : Fin 4} {x : Int64} {L' : List Value} (hc : jtCode y = cc) (hd : decode cc pc = .ok (.lstore_n k, 1)) (hk : Nat.blt (k.val + 1) L.length = true) (hL : (L.set k (.long x)).set (k.val + 1) jhalf = L') : G d y pc L (.long x :: st) h = G d y (pc + 1) L' st h := by
  subst hL; rw [g_of hc hd]; simp only [exi, hk]; rfl
theorem g_lstore {k : Nat} {x : Int64} {L' : List Value} (hc : jtCode y = cc) (hd : decode cc pc = .ok (.lstore k, 2)) (hk : Nat.blt (k + 1) L.length = true) (hL : (L.set k (.long x)).set (k + 1) jhalf = L') : G d y pc L (.long x :: st) h = G d y (pc + 2) L' st h := by
  subst hL; rw [g_of hc hd]; simp only [exi, hk]; rfl
theorem g_iinc {k : Nat} {n : Int} {x c : Int32} {L' : List Value} (hc : jtCode y = cc) (hd : decode cc pc = .ok (.iinc k n, 3)) (hk : Nat.blt k L.length = true) (hl : lg L k = .int x) (hn : Int32.ofInt n = c) (hL : L.set k (.int (x + c)) = L') : G d y pc L st h = G d y (pc + 3) L' st h := by
  subst hn; subst hL; rw [g_of hc hd]; simp only [exi, hk, hl]; rfl
theorem g_iadd {a b : Int32} (hc : jtCode y = cc) (hd : decode cc pc = .ok (.iadd, 1)) : G d y pc L (.int b :: .int a :: st) h = G d y (pc + 1) L (.int (a + b) :: st) h := (g_of hc hd).trans rfl
theorem g_isub {a b : Int32} (hc : jtCode y = cc) (hd : decode cc pc = .ok (.isub, 1)) : G d y pc L (.int b :: .int a :: st) h = G d y (pc + 1) L (.int (a - b) :: st) h := (g_of hc hd).trans rfl
theorem g_imul {a b : Int32} (hc : jtCode y = cc) (hd : decode cc pc = .ok (.imul, 1)) : G d y pc L (.int b :: .int a :: st) h = G d y (pc + 1) L (.int (a * b) :: st) h := (g_of hc hd).trans rfl
theorem g_iand {a b : Int32} (hc : jtCode y = cc) (hd : decode cc pc = .ok (.iand, 1)) : G d y pc L (.int b :: .int a :: st) h = G d y (pc + 1) L (.int (a &&& b) :: st) h := (g_of hc hd).trans rfl
theorem g_ior {a b : Int32} (hc : jtCode y = cc) (hd : decode cc pc = .ok (.ior, 1)) : G d y pc L (.int b :: .int a :: st) h = G d y (pc + 1) L (.int (a ||| b) :: st) h := (g_of hc hd).trans rfl
theorem g_ixor {a b : Int32} (hc : jtCode y = cc) (hd : decode cc pc = .ok (.ixor, 1)) : G d y pc L (.int b :: .int a :: st) h = G d y (pc + 1) L (.int (a ^^^ b) :: st) h := (g_of hc hd).trans rfl
def dZ {β : Type} (b : Int32) (κ : Option β) : Option β := if b = 0 then none else κ
theorem g_idiv {a b : Int32} (hc : jtCode y = cc) (hd : decode cc pc = .ok (.idiv, 1)) : G d y pc L (.int b :: .int a :: st) h = dZ b (G d y (pc + 1) L (.int (a / b) :: st) h) := by
  rw [g_of hc hd]; simp only [exi, gd, sI, dZ]; by_cases hb : b = 0 <;> simp only [hb] <;> rfl
theorem g_irem {a b : Int32} (hc : jtCode y = cc) (hd : decode cc pc = .ok (.irem, 1)) : G d y pc L (.int b :: .int a :: st) h = dZ b (G d y (pc + 1) L (.int (a - a / b * b) :: st) h) := by
  rw [g_of hc hd]; simp only [exi, gd, sI, dZ]; by_cases hb : b = 0 <;> simp only [hb] <;> rfl
theorem g_ineg {a : Int32} (hc : jtCode y = cc) (hd : decode cc pc = .ok (.ineg, 1)) : G d y pc L (.int a :: st) h = G d y (pc + 1) L (.int (-a) :: st) h := (g_of hc hd).trans rfl
theorem g_ishl {a b : Int32} (hc : jtCode y = cc) (hd : decode cc pc = .ok (.ishl, 1)) : G d y pc L (.int b :: .int a :: st) h = G d y (pc + 1) L (.int (a <<< (b &&& 31)) :: st) h := (g_of hc hd).trans rfl
theorem g_ishr {a b : Int32} (hc : jtCode y = cc) (hd : decode cc pc = .ok (.ishr, 1)) : G d y pc L (.int b :: .int a :: st) h = G d y (pc + 1) L (.int (a >>> (b &&& 31)) :: st) h := (g_of hc hd).trans rfl
theorem g_iushr {a b : Int32} (hc : jtCode y = cc) (hd : decode cc pc = .ok (.iushr, 1)) : G d y pc L (.int b :: .int a :: st) h = G d y (pc + 1) L (.int ((a.toUInt32 >>> (b.toUInt32 &&& Int32.toUInt32 31)).toInt32) :: st) h := (g_of hc hd).trans rfl
theorem g_ladd {a b : Int64} (hc : jtCode y = cc) (hd : decode cc pc = .ok (.ladd, 1)) : G d y pc L (.long b :: .long a :: st) h = G d y (pc + 1) L (.long (a + b) :: st) h := (g_of hc hd).trans rfl
theorem g_lsub {a b : Int64} (hc : jtCode y = cc) (hd : decode cc pc = .ok (.lsub, 1)) : G d y pc L (.long b :: .long a :: st) h = G d y (pc + 1) L (.long (a - b) :: st) h := (g_of hc hd).trans rfl
theorem g_land {a b : Int64} (hc : jtCode y = cc) (hd : decode cc pc = .ok (.land, 1)) : G d y pc L (.long b :: .long a :: st) h = G d y (pc + 1) L (.long (a &&& b) :: st) h := (g_of hc hd).trans rfl
theorem g_lor {a b : Int64} (hc : jtCode y = cc) (hd : decode cc pc = .ok (.lor, 1)) : G d y pc L (.long b :: .long a :: st) h = G d y (pc + 1) L (.long (a ||| b) :: st) h := (g_of hc hd).trans rfl
theorem g_lxor {a b : Int64} (hc : jtCode y = cc) (hd : decode cc pc = .ok (.lxor, 1)) : G d y pc L (.long b :: .long a :: st) h = G d y (pc + 1) L (.long (a ^^^ b) :: st) h := (g_of hc hd).trans rfl
theorem g_lshl {a : Int64} {b : Int32} (hc : jtCode y = cc) (hd : decode cc pc = .ok (.lshl, 1)) : G d y pc L (.int b :: .long a :: st) h = G d y (pc + 1) L (.long (a <<< (b.toInt64 &&& 63)) :: st) h := (g_of hc hd).trans rfl
theorem g_lshr {a : Int64} {b : Int32} (hc : jtCode y = cc) (hd : decode cc pc = .ok (.lshr, 1)) : G d y pc L (.int b :: .long a :: st) h = G d y (pc + 1) L (.long (a >>> (b.toInt64 &&& 63)) :: st) h := (g_of hc hd).trans rfl
theorem g_lushr {a : Int64} {b : Int32} (hc : jtCode y = cc) (hd : decode cc pc = .ok (.lushr, 1)) : G d y pc L (.int b :: .long a :: st) h = G d y (pc + 1) L (.long ((a.toUInt64 >>> (b.toInt64.toUInt64 &&& 63)).toInt64) :: st) h := (g_of hc hd).trans rfl
def lcm (a b : Int64) : Int32 := if b < a then 1 else if a = b then 0 else -1
theorem g_lcmp {a b : Int64} (hc : jtCode y = cc) (hd : decode cc pc = .ok (.lcmp, 1)) : G d y pc L (.long b :: .long a :: st) h = G d y (pc + 1) L (.int (lcm a b) :: st) h := (g_of hc hd).trans rfl
theorem g_i2l {a : Int32} (hc : jtCode y = cc) (hd : decode cc pc = .ok (.i2l, 1)) : G d y pc L (.int a :: st) h = G d y (pc + 1) L (.long a.toInt64 :: st) h := (g_of hc hd).trans rfl
theorem g_l2i {a : Int64} (hc : jtCode y = cc) (hd : decode cc pc = .ok (.l2i, 1)) : G d y pc L (.long a :: st) h = G d y (pc + 1) L (.int a.toInt32 :: st) h := (g_of hc hd).trans rfl
theorem g_i2b {a : Int32} (hc : jtCode y = cc) (hd : decode cc pc = .ok (.i2b, 1)) : G d y pc L (.int a :: st) h = G d y (pc + 1) L (.int a.toInt8.toInt32 :: st) h := (g_of hc hd).trans rfl
theorem g_i2c {a : Int32} (hc : jtCode y = cc) (hd : decode cc pc = .ok (.i2c, 1)) : G d y pc L (.int a :: st) h = G d y (pc + 1) L (.int ((a.toUInt32 % 65536).toInt32) :: st) h := (g_of hc hd).trans rfl
theorem g_dup_i {a : Int32} (hc : jtCode y = cc) (hd : decode cc pc = .ok (.dup, 1)) : G d y pc L (.int a :: st) h = G d y (pc + 1) L (.int a :: .int a :: st) h := (g_of hc hd).trans rfl
theorem g_dup_r {a : Nat} (hc : jtCode y = cc) (hd : decode cc pc = .ok (.dup, 1)) : G d y pc L (.ref a :: st) h = G d y (pc + 1) L (.ref a :: .ref a :: st) h := (g_of hc hd).trans rfl
/-- a value of one word -/
def ckW {β : Type} (v : Value) (κ : Option β) : Option β := if (isI v || isR v) = true then κ else none
theorem g_dup {v : Value} (hc : jtCode y = cc) (hd : decode cc pc = .ok (.dup, 1)) : G d y pc L (v :: st) h = ckW v (G d y (pc + 1) L (v :: v :: st) h) := by
  rw [g_of hc hd]; simp only [exi, sA, jk_gd]; rfl
theorem g_pop {v : Value} (hc : jtCode y = cc) (hd : decode cc pc = .ok (.pop, 1)) : G d y pc L (v :: st) h = ckW v (G d y (pc + 1) L st h) := by
  rw [g_of hc hd]; simp only [exi, sA, jk_gd]; rfl
theorem g_dup_x1 {v w : Value} (hc : jtCode y = cc) (hd : decode cc pc = .ok (.dup_x1, 1)) : G d y pc L (v :: w :: st) h = ckW v (ckW w (G d y (pc + 1) L (v :: w :: v :: st) h)) := by
  rw [g_of hc hd]; simp only [exi, sA, jk_gd]; cases v <;> cases w <;> rfl
theorem g_dup2 {v w : Value} (hc : jtCode y = cc) (hd : decode cc pc = .ok (.dup2, 1)) : G d y pc L (v :: w :: st) h = ckW v (ckW w (G d y (pc + 1) L (v :: w :: v :: w :: st) h)) := by
  rw [g_of hc hd]; simp only [exi, sA, jk_gd]; cases v <;> cases w <;> rfl
theorem jgo_to {off : Int} {tgt : Nat} (ht : (pc : Int) + off = (tgt : Int)) : jk d y (jgo pc off L st h) = G d y tgt L st h := by
  simp only [jgo, ht]; rw [show decide (0 ≤ (tgt : Int)) = true from decide_eq_true (Int.natCast_nonneg _)]; rfl
theorem g_goto {off : Int} {tgt : Nat} (hc : jtCode y = cc) (hd : decode cc pc = .ok (.goto off, 3)) (ht : (pc : Int) + off = (tgt : Int)) : G d y pc L st h = G d y tgt L st h := (g_of hc hd).trans (jgo_to ht)
theorem jbr_to {b : Bool} {P : Prop} {hP : Decidable P} {off : Int} {tgt : Nat} (hb : b = decide P) (ht : (pc : Int) + off = (tgt : Int)) : jk d y (jbr b pc off L st h) = if P then G d y tgt L st h else G d y (pc + 3) L st h := by
  subst hb
  by_cases h0 : P
  · rw [if_pos h0, jbr, if_pos (decide_eq_true h0)]; exact jgo_to ht
  · rw [if_neg h0, jbr, if_neg (by rw [decide_eq_false h0]; decide)]; rfl
theorem g_if_eq {x : Int32} {off : Int} {tgt : Nat} (hc : jtCode y = cc) (hd : decode cc pc = .ok (.ifCond .eq off, 3)) (ht : (pc : Int) + off = (tgt : Int)) : G d y pc L (.int x :: st) h = if x = 0 then G d y tgt L st h else G d y (pc + 3) L st h := (g_of hc hd).trans (jbr_to rfl ht)
theorem g_if_ne {x : Int32} {off : Int} {tgt : Nat} (hc : jtCode y = cc) (hd : decode cc pc = .ok (.ifCond .ne off, 3)) (ht : (pc : Int) + off = (tgt : Int)) : G d y pc L (.int x :: st) h = if x = 0 then G d y (pc + 3) L st h else G d y tgt L st h := by
  rw [g_of hc hd]; refine (jbr_to (P := ¬ x = 0) rfl ht).trans ?_; by_cases h0 : x = 0 <;> simp [h0]
theorem g_if_lt {x : Int32} {off : Int} {tgt : Nat} (hc : jtCode y = cc) (hd : decode cc pc = .ok (.ifCond .lt off, 3)) (ht : (pc : Int) + off = (tgt : Int)) : G d y pc L (.int x :: st) h = if x < 0 then G d y tgt L st h else G d y (pc + 3) L st h := (g_of hc hd).trans (jbr_to rfl ht)
theorem g_if_ge {x : Int32} {off : Int} {tgt : Nat} (hc : jtCode y = cc) (hd : decode cc pc = .ok (.ifCond .ge off, 3)) (ht : (pc : Int) + off = (tgt : Int)) : G d y pc L (.int x :: st) h = if 0 ≤ x then G d y tgt L st h else G d y (pc + 3) L st h := (g_of hc hd).trans (jbr_to rfl ht)
theorem g_if_gt {x : Int32} {off : Int} {tgt : Nat} (hc : jtCode y = cc) (hd : decode cc pc = .ok (.ifCond .gt off, 3)) (ht : (pc : Int) + off = (tgt : Int)) : G d y pc L (.int x :: st) h = if 0 < x then G d y tgt L st h else G d y (pc + 3) L st h := (g_of hc hd).trans (jbr_to rfl ht)
theorem g_if_le {x : Int32} {off : Int} {tgt : Nat} (hc : jtCode y = cc) (hd : decode cc pc = .ok (.ifCond .le off, 3)) (ht : (pc : Int) + off = (tgt : Int)) : G d y pc L (.int x :: st) h = if x ≤ 0 then G d y tgt L st h else G d y (pc + 3) L st h := (g_of hc hd).trans (jbr_to rfl ht)
theorem g_icmp_eq {a b : Int32} {off : Int} {tgt : Nat} (hc : jtCode y = cc) (hd : decode cc pc = .ok (.if_icmp .eq off, 3)) (ht : (pc : Int) + off = (tgt : Int)) : G d y pc L (.int b :: .int a :: st) h = if a = b then G d y tgt L st h else G d y (pc + 3) L st h := (g_of hc hd).trans (jbr_to rfl ht)
theorem g_icmp_ne {a b : Int32} {off : Int} {tgt : Nat} (hc : jtCode y = cc) (hd : decode cc pc = .ok (.if_icmp .ne off, 3)) (ht : (pc : Int) + off = (tgt : Int)) : G d y pc L (.int b :: .int a :: st) h = if a = b then G d y (pc + 3) L st h else G d y tgt L st h := by
  rw [g_of hc hd]; refine (jbr_to (P := ¬ a = b) rfl ht).trans ?_; by_cases h0 : a = b <;> simp [h0]
theorem g_icmp_lt {a b : Int32} {off : Int} {tgt : Nat} (hc : jtCode y = cc) (hd : decode cc pc = .ok (.if_icmp .lt off, 3)) (ht : (pc : Int) + off = (tgt : Int)) : G d y pc L (.int b :: .int a :: st) h = if a < b then G d y tgt L st h else G d y (pc + 3) L st h := (g_of hc hd).trans (jbr_to rfl ht)
theorem g_icmp_ge {a b : Int32} {off : Int} {tgt : Nat} (hc : jtCode y = cc) (hd : decode cc pc = .ok (.if_icmp .ge off, 3)) (ht : (pc : Int) + off = (tgt : Int)) : G d y pc L (.int b :: .int a :: st) h = if b ≤ a then G d y tgt L st h else G d y (pc + 3) L st h := (g_of hc hd).trans (jbr_to rfl ht)
theorem g_icmp_gt {a b : Int32} {off : Int} {tgt : Nat} (hc : jtCode y = cc) (hd : decode cc pc = .ok (.if_icmp .gt off, 3)) (ht : (pc : Int) + off = (tgt : Int)) : G d y pc L (.int b :: .int a :: st) h = if b < a then G d y tgt L st h else G d y (pc + 3) L st h := (g_of hc hd).trans (jbr_to rfl ht)
theorem g_icmp_le {a b : Int32} {off : Int} {tgt : Nat} (hc : jtCode y = cc) (hd : decode cc pc = .ok (.if_icmp .le off, 3)) (ht : (pc : Int) + off = (tgt : Int)) : G d y pc L (.int b :: .int a :: st) h = if a ≤ b then G d y tgt L st h else G d y (pc + 3) L st h := (g_of hc hd).trans (jbr_to rfl ht)
theorem jk_sR {v : Value} {κ : Value → List Value → Rs} : jk d y (sR (v :: st) κ) = ckR v (jk d y (κ v st)) := by cases v <;> rfl
theorem g_acmp_eq {v w : Value} {off : Int} {tgt : Nat} (hc : jtCode y = cc) (hd : decode cc pc = .ok (.if_acmp .eq off, 3)) (ht : (pc : Int) + off = (tgt : Int)) : G d y pc L (w :: v :: st) h = ckR w (ckR v (if v = w then G d y tgt L st h else G d y (pc + 3) L st h)) := by
  rw [g_of hc hd]; simp only [exi, jk_gd, jk_sR]; rw [jbr_to (P := v = w) rfl ht]; rfl
theorem g_acmp_ne {v w : Value} {off : Int} {tgt : Nat} (hc : jtCode y = cc) (hd : decode cc pc = .ok (.if_acmp .ne off, 3)) (ht : (pc : Int) + off = (tgt : Int)) : G d y pc L (w :: v :: st) h = ckR w (ckR v (if v = w then G d y (pc + 3) L st h else G d y tgt L st h)) := by
  rw [g_of hc hd]; simp only [exi, jk_gd, jk_sR]; rw [jbr_to (P := ¬ v = w) rfl ht]; by_cases h0 : v = w <;> simp only [h0] <;> rfl
theorem g_ifnull {v : Value} {off : Int} {tgt : Nat} (hc : jtCode y = cc) (hd : decode cc pc = .ok (.ifnull off, 3)) (ht : (pc : Int) + off = (tgt : Int)) : G d y pc L (v :: st) h = ckR v (if v = .null then G d y tgt L st h else G d y (pc + 3) L st h) := by
  rw [g_of hc hd]; simp only [exi, jk_gd, jk_sR]; rw [jbr_to (P := v = .null) rfl ht]; rfl
theorem g_ifnonnull {v : Value} {off : Int} {tgt : Nat} (hc : jtCode y = cc) (hd : decode cc pc = .ok (.ifnonnull off, 3)) (ht : (pc : Int) + off = (tgt : Int)) : G d y pc L (v :: st) h = ckR v (if v = .null then G d y (pc + 3) L st h else G d y tgt L st h) := by
  rw [g_of hc hd]; simp only [exi, jk_gd, jk_sR]; rw [jbr_to (P := ¬ v = .null) rfl ht]; by_cases h0 : v = .null <;> simp only [h0] <;> rfl
/-- the answers -/
def okZ {β : Type} (x : Int32) (κ : Option β) : Option β := if (x == 0 || x == 1) = true then κ else none
theorem g_ireturn {x : Int32} (hc : jtCode y = cc) (hd : decode cc pc = .ok (.ireturn, 1)) (hr : jtRet y = some .int) : G d y pc L [.int x] h = some (.inl (some (.int x)), h) := by
  rw [g_of hc hd]; simp only [exi, hr]; rfl
theorem g_zreturn {x : Int32} (hc : jtCode y = cc) (hd : decode cc pc = .ok (.ireturn, 1)) (hr : jtRet y = some .boolean) : G d y pc L [.int x] h = okZ x (some (.inl (some (.int x)), h)) := by
  rw [g_of hc hd]; simp only [exi, hr, jk_gd]; rfl
def okB {β : Type} (x : Int32) (κ : Option β) : Option β := if (x.toInt8.toInt32 == x) = true then κ else none
def okC {β : Type} (x : Int32) (κ : Option β) : Option β := if ((x.toUInt32 % 65536).toInt32 == x) = true then κ else none
theorem g_breturn {x : Int32} (hc : jtCode y = cc) (hd : decode cc pc = .ok (.ireturn, 1)) (hr : jtRet y = some .byte) : G d y pc L [.int x] h = okB x (some (.inl (some (.int x)), h)) := by
  rw [g_of hc hd]; simp only [exi, hr, jk_gd]; rfl
theorem g_creturn {x : Int32} (hc : jtCode y = cc) (hd : decode cc pc = .ok (.ireturn, 1)) (hr : jtRet y = some .char) : G d y pc L [.int x] h = okC x (some (.inl (some (.int x)), h)) := by
  rw [g_of hc hd]; simp only [exi, hr, jk_gd]; rfl
theorem g_lreturn {x : Int64} (hc : jtCode y = cc) (hd : decode cc pc = .ok (.lreturn, 1)) (hr : jtRet y = some .long) : G d y pc L [.long x] h = some (.inl (some (.long x)), h) := by
  rw [g_of hc hd]; simp only [exi, hr]; rfl
theorem g_areturn {v : Value} {o : String} (hc : jtCode y = cc) (hd : decode cc pc = .ok (.areturn, 1)) (hr : jtRet y = some (.object o)) : G d y pc L [v] h = ckR v (some (.inl (some v), h)) := by
  rw [g_of hc hd]; simp only [exi, hr]; cases v <;> rfl
theorem g_areturnA {v : Value} {t : FieldType} (hc : jtCode y = cc) (hd : decode cc pc = .ok (.areturn, 1)) (hr : jtRet y = some (.array t)) : G d y pc L [v] h = ckR v (some (.inl (some v), h)) := by
  rw [g_of hc hd]; simp only [exi, hr]; cases v <;> rfl
theorem g_return (hc : jtCode y = cc) (hd : decode cc pc = .ok (.return_, 1)) (hr : jtRet y = none) : G d y pc L [] h = some (.inl none, h) := by
  rw [g_of hc hd]; simp only [exi, hr]; rfl
/-! fields -/
theorem g_getI {o : Value} {idx tc k fin : Nat} {T : List Nat} (hc : jtCode y = cc) (hd : decode cc pc = .ok (.getfield idx, 3)) (hf : jtF (jkey y idx) = (tc, T, k, fin)) (ht : (Nat.beq tc 1 || Nat.beq tc 2) = false) : G d y pc L (o :: st) h = rI (jf (jc h o) T k) fun x => G d y (pc + 3) L (.int x :: st) h := by
  have h1 : Nat.beq tc 1 = false := by cases hb : Nat.beq tc 1 <;> simp_all
  have h2 : Nat.beq tc 2 = false := by cases hb : Nat.beq tc 2 <;> simp_all
  rw [g_of hc hd]; simp only [exi, hf, h1, h2, sA, jk_gd, cond_false, jk_rI]; rfl
theorem g_getJ {o : Value} {idx k fin : Nat} {T : List Nat} (hc : jtCode y = cc) (hd : decode cc pc = .ok (.getfield idx, 3)) (hf : jtF (jkey y idx) = (1, T, k, fin)) : G d y pc L (o :: st) h = rJ (jf (jc h o) T k) fun x => G d y (pc + 3) L (.long x :: st) h := by
  rw [g_of hc hd]; simp only [exi, hf, sA, jk_gd]; exact jk_rJ
theorem g_getR {o : Value} {idx k fin : Nat} {T : List Nat} (hc : jtCode y = cc) (hd : decode cc pc = .ok (.getfield idx, 3)) (hf : jtF (jkey y idx) = (2, T, k, fin)) : G d y pc L (o :: st) h = rR (jf (jc h o) T k) fun x => G d y (pc + 3) L (x :: st) h := by
  rw [g_of hc hd]; simp only [exi, hf, sA, jk_gd, show Nat.beq 2 1 = false from rfl, show Nat.beq 2 2 = true from rfl, cond_false, cond_true, jk_rR]; rfl
theorem g_put {o v : Value} {idx tc k : Nat} {T : List Nat} (hc : jtCode y = cc) (hd : decode cc pc = .ok (.putfield idx, 3)) (hf : jtF (jkey y idx) = (tc, T, k, 0)) : G d y pc L (v :: o :: st) h = pF h o T k tc v fun h => G d y (pc + 3) L st h := by
  rw [g_of hc hd]; simp only [exi, hf, sA, jk_gd]; exact jk_pF
theorem g_putF {o v : Value} {idx tc k fin : Nat} {T : List Nat} (hc : jtCode y = cc) (hd : decode cc pc = .ok (.putfield idx, 3)) (hf : jtF (jkey y idx) = (tc, T, k, fin)) (hy : (Nat.beq fin (y / 1000 + 1) && Nat.ble 900 (y % 1000)) = true) : G d y pc L (v :: o :: st) h = pF h o T k tc v fun h => G d y (pc + 3) L st h := by
  rw [g_of hc hd]; simp only [exi, hf, sA, jk_gd, hy, Bool.or_true]; exact jk_pF
theorem g_getsI {idx : Nat} {n : Int} {x : Int32} (hc : jtCode y = cc) (hd : decode cc pc = .ok (.getstatic idx, 3)) (hf : jtS (jkey y idx) = (0, n)) (hx : Int32.ofInt n = x) : G d y pc L st h = G d y (pc + 3) L (.int x :: st) h := by
  subst hx; rw [g_of hc hd]; simp only [exi, hf]; rfl
theorem g_getsR {idx : Nat} {n : Int} {k : Nat} (hc : jtCode y = cc) (hd : decode cc pc = .ok (.getstatic idx, 3)) (hf : jtS (jkey y idx) = (1, n)) (hk : n.toNat = k) : G d y pc L st h = rR (je h k) fun v => G d y (pc + 3) L (v :: st) h := by
  subst hk; rw [g_of hc hd]; simp only [exi, hf, jk_gd, show Nat.beq 1 0 = false from rfl, show Nat.beq 1 1 = true from rfl, cond_false, cond_true, jk_rR]; rfl
theorem g_ldcI {idx : Nat} {n : Int} {x : Int32} (hc : jtCode y = cc) (hd : decode cc pc = .ok (.ldc idx, 2)) (hf : jtL (jkey y idx) = (0, n)) (hx : Int32.ofInt n = x) : G d y pc L st h = G d y (pc + 2) L (.int x :: st) h := by
  subst hx; rw [g_of hc hd]; simp only [exi, hf]; rfl
theorem g_ldcR {idx : Nat} {n : Int} {k : Nat} (hc : jtCode y = cc) (hd : decode cc pc = .ok (.ldc idx, 2)) (hf : jtL (jkey y idx) = (1, n)) (hk : n.toNat = k) : G d y pc L st h = rR (je h k) fun v => G d y (pc + 2) L (v :: st) h := by
  subst hk; rw [g_of hc hd]; simp only [exi, hf, jk_gd, show Nat.beq 1 0 = false from rfl, show Nat.beq 1 1 = true from rfl, cond_false, cond_true, jk_rR]; rfl
theorem g_ldcwI {idx : Nat} {n : Int} {x : Int32} (hc : jtCode y = cc) (hd : decode cc pc = .ok (.ldc_w idx, 3)) (hf : jtL (jkey y idx) = (0, n)) (hx : Int32.ofInt n = x) : G d y pc L st h = G d y (pc + 3) L (.int x :: st) h := by
  subst hx; rw [g_of hc hd]; simp only [exi, hf]; rfl
theorem g_ldcwR {idx : Nat} {n : Int} {k : Nat} (hc : jtCode y = cc) (hd : decode cc pc = .ok (.ldc_w idx, 3)) (hf : jtL (jkey y idx) = (1, n)) (hk : n.toNat = k) (h47 : Nat.beq k 47 = false := by rfl) : G d y pc L st h = rR (je h k) fun v => G d y (pc + 3) L (v :: st) h := by
  subst hk; rw [g_of hc hd]; simp only [exi, hf, jk_gd, show Nat.beq 1 0 = false from rfl, show Nat.beq 1 1 = true from rfl, h47, Bool.not_false, Bool.and_true, cond_false, cond_true, jk_rR]; rfl
theorem g_ldc2 {idx : Nat} {x : Int64} (hc : jtCode y = cc) (hd : decode cc pc = .ok (.ldc2_w idx, 3)) (hf : jtL2 (jkey y idx) = some x) : G d y pc L st h = G d y (pc + 3) L (.long x :: st) h := by
  rw [g_of hc hd]; simp only [exi, hf]; rfl
/-! arrays -/
theorem g_iaload {o : Value} {i : Int32} (hc : jtCode y = cc) (hd : decode cc pc = .ok (.iaload, 1)) : G d y pc L (.int i :: o :: st) h = aG h o [1000, 1001] i fun v => rI v fun x => G d y (pc + 1) L (.int x :: st) h := by
  rw [g_of hc hd]; simp only [exi, sA, sI, jk_gd, jk_aG, jk_rI]; rfl
theorem g_baload {o : Value} {i : Int32} (hc : jtCode y = cc) (hd : decode cc pc = .ok (.baload, 1)) : G d y pc L (.int i :: o :: st) h = aG h o [1010, 1011, 1020] i fun v => rI v fun x => G d y (pc + 1) L (.int x :: st) h := by
  rw [g_of hc hd]; simp only [exi, sA, sI, jk_gd, jk_aG, jk_rI]; rfl
theorem g_laload {o : Value} {i : Int32} (hc : jtCode y = cc) (hd : decode cc pc = .ok (.laload, 1)) : G d y pc L (.int i :: o :: st) h = aG h o [1030] i fun v => rJ v fun x => G d y (pc + 1) L (.long x :: st) h := by
  rw [g_of hc hd]; simp only [exi, sA, sI, jk_gd, jk_aG, jk_rJ]; rfl
theorem g_aaload {o : Value} {i : Int32} (hc : jtCode y = cc) (hd : decode cc pc = .ok (.aaload, 1)) : G d y pc L (.int i :: o :: st) h = aG h o [1040, 1041, 1050, 1060, 1071] i fun v => rR v fun x => G d y (pc + 1) L (x :: st) h := by
  rw [g_of hc hd]; simp only [exi, sA, sI, jk_gd, jk_aG, jk_rR]; rfl
theorem g_iastore {o : Value} {i x : Int32} (hc : jtCode y = cc) (hd : decode cc pc = .ok (.iastore, 1)) : G d y pc L (.int x :: .int i :: o :: st) h = aS h o [1000] i (.int x) fun h => G d y (pc + 1) L st h := by
  rw [g_of hc hd]; simp only [exi, sA, sI, jk_gd, jk_aS]; rfl
theorem g_lastore {o : Value} {i : Int32} {x : Int64} (hc : jtCode y = cc) (hd : decode cc pc = .ok (.lastore, 1)) : G d y pc L (.long x :: .int i :: o :: st) h = aS h o [1030] i (.long x) fun h => G d y (pc + 1) L st h := by
  rw [g_of hc hd]; simp only [exi, sA, sI, sJ, jk_gd, jk_aS]; rfl
/-- a store to an array of bytes, or of booleans -/
def aSb {β : Type} (h : AH) (o : Value) (i x : Int32) (κ : AH → Option β) : Option β := match jc h o with
  | some (t, _) => bif Nat.beq t 1010 then aS h o [1010] i (.int x.toInt8.toInt32) κ else gd (x == 0 || x == 1) (aS h o [1020] i (.int x) κ)
  | none => none
theorem g_bastore {o : Value} {i x : Int32} (hc : jtCode y = cc) (hd : decode cc pc = .ok (.bastore, 1)) : G d y pc L (.int x :: .int i :: o :: st) h = aSb h o i x fun h => G d y (pc + 1) L st h := by
  rw [g_of hc hd]
  simp only [exi, sA, sI, jk_gd, aSb]
  cases hm : jc h o with
  | none => rfl
  | some c =>
    obtain ⟨t, n, f⟩ := c
    simp only []
    cases hb : Nat.beq t 1010 with
    | false => simp only [cond_false, jk_gd, jk_aS]; rfl
    | true => simp only [cond_true, jk_aS]; rfl
def aSr {β : Type} (h : AH) (o v : Value) (i : Int32) (κ : AH → Option β) : Option β := gd (okA h o v) (aS h o [1040, 1050, 1060] i v κ)
theorem g_aastore {o v : Value} {i : Int32} (hc : jtCode y = cc) (hd : decode cc pc = .ok (.aastore, 1)) : G d y pc L (v :: .int i :: o :: st) h = aSr h o v i fun h => G d y (pc + 1) L st h := by
  rw [g_of hc hd]; simp only [exi, sA, sI, jk_gd, jk_aS, aSr]; rfl
theorem g_alen {o : Value} (hc : jtCode y = cc) (hd : decode cc pc = .ok (.arraylength, 1)) : G d y pc L (o :: st) h = aL h o fun n => G d y (pc + 1) L (.int n :: st) h := by
  rw [g_of hc hd]; simp only [exi, sA, jk_gd, jk_aL]; rfl
def nA {β : Type} (n : Int32) (κ : Option β) : Option β := if n < 0 ∨ 60000000 ≤ n.toNatClampNeg then none else κ
theorem g_newI {n : Int32} (hc : jtCode y = cc) (hd : decode cc pc = .ok (.newarray .int, 2)) : G d y pc L (.int n :: st) h = nA n (G d y (pc + 2) L (.ref h.1 :: st) (jpush h (1000, n.toNatClampNeg, fun _ => .int 0))) := by
  rw [g_of hc hd]; simp only [exi, sI, jk_gd, nA]; by_cases h0 : n < 0 ∨ 60000000 ≤ n.toNatClampNeg <;> simp only [h0] <;> rfl
theorem g_newB {n : Int32} (hc : jtCode y = cc) (hd : decode cc pc = .ok (.newarray .byte, 2)) : G d y pc L (.int n :: st) h = nA n (G d y (pc + 2) L (.ref h.1 :: st) (jpush h (1010, n.toNatClampNeg, fun _ => .int 0))) := by
  rw [g_of hc hd]; simp only [exi, sI, jk_gd, nA]; by_cases h0 : n < 0 ∨ 60000000 ≤ n.toNatClampNeg <;> simp only [h0] <;> rfl
theorem g_newZ {n : Int32} (hc : jtCode y = cc) (hd : decode cc pc = .ok (.newarray .boolean, 2)) : G d y pc L (.int n :: st) h = nA n (G d y (pc + 2) L (.ref h.1 :: st) (jpush h (1020, n.toNatClampNeg, fun _ => .int 0))) := by
  rw [g_of hc hd]; simp only [exi, sI, jk_gd, nA]; by_cases h0 : n < 0 ∨ 60000000 ≤ n.toNatClampNeg <;> simp only [h0] <;> rfl
theorem g_newJ {n : Int32} (hc : jtCode y = cc) (hd : decode cc pc = .ok (.newarray .long, 2)) : G d y pc L (.int n :: st) h = nA n (G d y (pc + 2) L (.ref h.1 :: st) (jpush h (1030, n.toNatClampNeg, fun _ => .long 0))) := by
  rw [g_of hc hd]; simp only [exi, sI, jk_gd, nA]; by_cases h0 : n < 0 ∨ 60000000 ≤ n.toNatClampNeg <;> simp only [h0] <;> rfl
theorem g_newR {n : Int32} {idx t : Nat} (hc : jtCode y = cc) (hd : decode cc pc = .ok (.anewarray idx, 3)) (ht : jtA (jkey y idx) = t) (ht0 : Nat.beq t 0 = false) : G d y pc L (.int n :: st) h = nA n (G d y (pc + 3) L (.ref h.1 :: st) (jpush h (t, n.toNatClampNeg, fun _ => .null))) := by
  have h1 : ¬ t = 0 := fun e => by subst e; cases ht0
  rw [g_of hc hd]; simp only [exi, sI, jk_gd, nA, ht, h1, or_false]; by_cases h0 : n < 0 ∨ 60000000 ≤ n.toNatClampNeg <;> simp only [h0] <;> rfl
theorem g_pop_i {a : Int32} (hc : jtCode y = cc) (hd : decode cc pc = .ok (.pop, 1)) : G d y pc L (.int a :: st) h = G d y (pc + 1) L st h := (g_of hc hd).trans rfl
theorem g_pop_r {a : Nat} (hc : jtCode y = cc) (hd : decode cc pc = .ok (.pop, 1)) : G d y pc L (.ref a :: st) h = G d y (pc + 1) L st h := (g_of hc hd).trans rfl
theorem g_dup_x1_ir {a : Int32} {b : Nat} (hc : jtCode y = cc) (hd : decode cc pc = .ok (.dup_x1, 1)) : G d y pc L (.int a :: .ref b :: st) h = G d y (pc + 1) L (.int a :: .ref b :: .int a :: st) h := (g_of hc hd).trans rfl
theorem g_dup_x1_rr {a b : Nat} (hc : jtCode y = cc) (hd : decode cc pc = .ok (.dup_x1, 1)) : G d y pc L (.ref a :: .ref b :: st) h = G d y (pc + 1) L (.ref a :: .ref b :: .ref a :: st) h := (g_of hc hd).trans rfl
theorem g_dup2_ir {a : Int32} {b : Nat} (hc : jtCode y = cc) (hd : decode cc pc = .ok (.dup2, 1)) : G d y pc L (.int a :: .ref b :: st) h = G d y (pc + 1) L (.int a :: .ref b :: .int a :: .ref b :: st) h := (g_of hc hd).trans rfl
theorem g_dup2_iv {a : Int32} {v : Value} (hc : jtCode y = cc) (hd : decode cc pc = .ok (.dup2, 1)) : G d y pc L (.int a :: v :: st) h = ckW v (G d y (pc + 1) L (.int a :: v :: .int a :: v :: st) h) := by
  rw [g_of hc hd]; simp only [exi, sA, jk_gd]; cases v <;> rfl
theorem g_zreturn0 (hc : jtCode y = cc) (hd : decode cc pc = .ok (.ireturn, 1)) (hr : jtRet y = some .boolean) : G d y pc L [.int 0] h = some (.inl (some (.int 0)), h) := by
  rw [g_of hc hd]; simp only [exi, hr]; rfl
theorem g_zreturn1 (hc : jtCode y = cc) (hd : decode cc pc = .ok (.ireturn, 1)) (hr : jtRet y = some .boolean) : G d y pc L [.int 1] h = some (.inl (some (.int 1)), h) := by
  rw [g_of hc hd]; simp only [exi, hr]; rfl
theorem g_areturn_r {a : Nat} {o : String} (hc : jtCode y = cc) (hd : decode cc pc = .ok (.areturn, 1)) (hr : jtRet y = some (.object o)) : G d y pc L [.ref a] h = some (.inl (some (.ref a)), h) := by
  rw [g_of hc hd]; simp only [exi, hr]; rfl
theorem g_areturn_n {o : String} (hc : jtCode y = cc) (hd : decode cc pc = .ok (.areturn, 1)) (hr : jtRet y = some (.object o)) : G d y pc L [.null] h = some (.inl (some .null), h) := by
  rw [g_of hc hd]; simp only [exi, hr]; rfl
theorem g_areturnA_r {a : Nat} {t : FieldType} (hc : jtCode y = cc) (hd : decode cc pc = .ok (.areturn, 1)) (hr : jtRet y = some (.array t)) : G d y pc L [.ref a] h = some (.inl (some (.ref a)), h) := by
  rw [g_of hc hd]; simp only [exi, hr]; rfl
theorem g_aload_nN {k : Fin 4} (hc : jtCode y = cc) (hd : decode cc pc = .ok (.aload_n k, 1)) (hl : lg L k = .null) : G d y pc L st h = G d y (pc + 1) L (.null :: st) h := by
  rw [g_of hc hd]; simp only [exi, hl]; rfl
theorem g_astore_nN {k : Fin 4} {L' : List Value} (hc : jtCode y = cc) (hd : decode cc pc = .ok (.astore_n k, 1)) (hk : Nat.blt k L.length = true) (hL : L.set k .null = L') : G d y pc L (.null :: st) h = G d y (pc + 1) L' st h := by
  subst hL; rw [g_of hc hd]; simp only [exi, hk]; rfl
theorem g_astoreN {k : Nat} {L' : List Value} (hc : jtCode y = cc) (hd : decode cc pc = .ok (.astore k, 2)) (hk : Nat.blt k L.length = true) (hL : L.set k .null = L') : G d y pc L (.null :: st) h = G d y (pc + 2) L' st h := by
  subst hL; rw [g_of hc hd]; simp only [exi, hk]; rfl
theorem g_acmp_eq_rr {a b : Nat} {off : Int} {tgt : Nat} (hc : jtCode y = cc) (hd : decode cc pc = .ok (.if_acmp .eq off, 3)) (ht : (pc : Int) + off = (tgt : Int)) : G d y pc L (.ref b :: .ref a :: st) h = if (Value.ref a) = .ref b then G d y tgt L st h else G d y (pc + 3) L st h := (g_acmp_eq hc hd ht).trans rfl
theorem g_acmp_ne_rr {a b : Nat} {off : Int} {tgt : Nat} (hc : jtCode y = cc) (hd : decode cc pc = .ok (.if_acmp .ne off, 3)) (ht : (pc : Int) + off = (tgt : Int)) : G d y pc L (.ref b :: .ref a :: st) h = if (Value.ref a) = .ref b then G d y (pc + 3) L st h else G d y tgt L st h := (g_acmp_ne hc hd ht).trans rfl
/-! objects -/
theorem g_new {idx t n : Nat} {l : List Value} (hc : jtCode y = cc) (hd : decode cc pc = .ok (.new idx, 3)) (hf : jtN (jkey y idx) = (t, n, l)) (h0 : (Nat.beq t 66 || Nat.beq t 0) = false) : G d y pc L st h = G d y (pc + 3) L (.ref h.1 :: st) (jpush h (t, n, jL l)) := by
  have h1 : ¬ t = 66 := fun e => by subst e; cases h0
  have h2 : ¬ t = 0 := fun e => by subst e; cases h0
  have h3 : Nat.beq t 66 = false := by cases hb : Nat.beq t 66 with | false => rfl | true => exact absurd (Nat.eq_of_beq_eq_true hb) h1
  rw [g_of hc hd]; simp only [exi, hf, jnew, jk_gd, h1, h2, h3, if_false, Bool.not_false, Bool.true_or, Bool.and_true]; rfl
/-- what an exception e does at pc where no handler's range is -/
theorem jthrow_out {e : Nat} (hh : (jtH y).find? (fun x => Nat.ble x.1 pc && Nat.blt pc x.2.1) = none) : jk d y (jthrow y pc L h e) = cX e h := by
  simp only [jthrow, hh]; rfl
/-- a handler takes an exception of the tags T -/
def hK {β : Type} (h : AH) (e : Nat) (T : List Nat) (κ : Option β) : Option β := match jm h e with
  | some (t, _) => if t ∈ T then κ else none
  | none => none
theorem jthrow_in {e a b t : Nat} {T : List Nat} (hh : (jtH y).find? (fun x => Nat.ble x.1 pc && Nat.blt pc x.2.1) = some (a, b, t, T)) : jk d y (jthrow y pc L h e) = hK h e T (G d y t L [.ref e] h) := by
  simp only [jthrow, hh, hK]
  cases hm : jm h e with
  | none => rfl
  | some c => obtain ⟨t0, n, f⟩ := c; simp only []; split <;> rfl
theorem g_throwNew {idx n : Nat} {l : List Value} (hc : jtCode y = cc) (hd : decode cc pc = .ok (.new idx, 3)) (hf : jtN (jkey y idx) = (66, n, l)) (hh : (jtH y).find? (fun x => Nat.ble x.1 (pc + 7) && Nat.blt (pc + 7) x.2.1) = none) (h66 : chk66 y pc = true) : G d y pc L [] h = cX h.1 (jpush h (66, n, jL l)) := by
  rw [g_of hc hd]; simp only [exi, hf, jk_gd, h66, Bool.or_true, Bool.and_true]; exact jthrow_out hh
theorem g_athrow {e : Nat} (hc : jtCode y = cc) (hd : decode cc pc = .ok (.athrow, 1)) (hh : (jtH y).find? (fun x => Nat.ble x.1 pc && Nat.blt pc x.2.1) = none) : G d y pc L (.ref e :: st) h = aT h e (cX e h) := by
  rw [g_of hc hd]; simp only [exi, jk_gd, aT]
  cases jm h e with
  | none => rfl
  | some c =>
    obtain ⟨t, n, f⟩ := c
    simp only []
    split
    · exact jthrow_out hh
    · rfl
theorem g_cast {v : Value} {idx : Nat} {T T2 : List Nat} (hc : jtCode y = cc) (hd : decode cc pc = .ok (.checkcast idx, 3)) (hf : jtK (jkey y idx) = (T, T2)) : G d y pc L (v :: st) h = cK h v T (G d y (pc + 3) L (v :: st) h) := by
  rw [g_of hc hd]; simp only [exi, sA, hf, jk_gd, jk_cK]; rfl
theorem g_inst {v : Value} {idx : Nat} {T T2 : List Nat} (hc : jtCode y = cc) (hd : decode cc pc = .ok (.instanceof idx, 3)) (hf : jtK (jkey y idx) = (T, T2)) : G d y pc L (v :: st) h = iK h v T T2 fun x => G d y (pc + 3) L (.int x :: st) h := by
  rw [g_of hc hd]; simp only [exi, sA, hf, jk_gd, jk_iK]; rfl
/-! calls -/
theorem jback_I {q : Nat} {rest : List Value} {r : Rz} {κx : Nat → AH → Rz} (hx : ∀ e h, jk d y (jthrow y pc L h e) = κx e h) : jk d y (jback y pc q L rest 0 r) = cIx r (fun x h => G d y q L (.int x :: rest) h) κx := by
  cases r with
  | none => rfl
  | some z =>
    obtain ⟨o, h⟩ := z
    cases o with
    | inr e => exact hx e h
    | inl v =>
      cases v with
      | none => rfl
      | some v => cases v <;> rfl
theorem jback_J {q : Nat} {rest : List Value} {r : Rz} {κx : Nat → AH → Rz} (hx : ∀ e h, jk d y (jthrow y pc L h e) = κx e h) : jk d y (jback y pc q L rest 1 r) = cJx r (fun x h => G d y q L (.long x :: rest) h) κx := by
  cases r with
  | none => rfl
  | some z =>
    obtain ⟨o, h⟩ := z
    cases o with
    | inr e => exact hx e h
    | inl v =>
      cases v with
      | none => rfl
      | some v => cases v <;> rfl
theorem jback_R {q : Nat} {rest : List Value} {r : Rz} {κx : Nat → AH → Rz} (hx : ∀ e h, jk d y (jthrow y pc L h e) = κx e h) : jk d y (jback y pc q L rest 2 r) = cRx r (fun x h => G d y q L (x :: rest) h) κx := by
  cases r with
  | none => rfl
  | some z =>
    obtain ⟨o, h⟩ := z
    cases o with
    | inr e => exact hx e h
    | inl v =>
      cases v with
      | none => rfl
      | some v => cases v <;> rfl
theorem jback_V {q : Nat} {rest : List Value} {r : Rz} {κx : Nat → AH → Rz} (hx : ∀ e h, jk d y (jthrow y pc L h e) = κx e h) : jk d y (jback y pc q L rest 3 r) = cVx r (fun h => G d y q L rest h) κx := by
  cases r with
  | none => rfl
  | some z =>
    obtain ⟨o, h⟩ := z
    cases o with
    | inr e => exact hx e h
    | inl v =>
      cases v with
      | none => rfl
      | some v => cases v <;> rfl
/-- the method's callee, by its row -/
noncomputable def Mr (d : Nat) (r : Nat × Nat × Nat × Nat) (as : List Value) (h : AH) : Rz := bif (Nat.beq r.1 2 || Nat.beq r.1 6) then Mv d r.2.1 as h else M d r.2.1 as h
theorem jcall_eq {q : Nat} {r : Nat × Nat × Nat × Nat} {ok : Bool} {as rest : List Value} (hok : ok = true) (hst : st = as.reverse ++ rest) (hn : as.length = jargs r) (hl : Nat.ble rest.length 10 = true) : jk d y (jcall (M d) y pc q L st h r ok) = jk d y (jback y pc q L rest r.2.2.2 (Mr d r as h)) := by
  have h1 : st.take (jargs r) = as.reverse := by rw [hst, ← hn]; simp
  have h2 : st.drop (jargs r) = rest := by rw [hst, ← hn]; simp
  have h3 : Nat.ble (jargs r) st.length = true := Nat.ble_eq_true_of_le (by rw [hst, ← hn]; simp)
  have h4 : Nat.ble st.length (jargs r + 10) = true := Nat.ble_eq_true_of_le (by have := Nat.le_of_ble_eq_true hl; rw [hst, ← hn]; simp; omega)
  simp only [jcall, hok, h1, h2, h3, h4, List.reverse_reverse, Bool.and_self, gd, if_true]
  unfold jtgt Mr
  cases hb : (Nat.beq r.1 2 || Nat.beq r.1 6) with
  | false => rfl
  | true =>
    simp only [cond_true, Mv]
    cases as with
    | nil => rfl
    | cons v l =>
      cases v with
      | ref a =>
        simp only []
        cases hm : jm h a with
        | none => rfl
        | some c => rfl
      | _ => rfl
theorem g_static {idx : Nat} {r : Nat × Nat × Nat × Nat} {as rest : List Value} (hc : jtCode y = cc) (hd : decode cc pc = .ok (.invokestatic idx, 3)) (hr : jtC (jkey y idx) = r) (hok : (Nat.beq 3 3 && (Nat.beq r.1 0 || (Nat.beq r.1 3 && Nat.beq r.2.1 90001))) = true) (hst : st = as.reverse ++ rest) (hn : as.length = jargs r) (hl : Nat.ble rest.length 10 = true) : G d y pc L st h = jk d y (jback y pc (pc + 3) L rest r.2.2.2 (Mr d r as h)) := by
  subst hr; exact (g_of hc hd).trans (jcall_eq hok hst hn hl)
theorem g_special {idx : Nat} {r : Nat × Nat × Nat × Nat} {as rest : List Value} (hc : jtCode y = cc) (hd : decode cc pc = .ok (.invokespecial idx, 3)) (hr : jtC (jkey y idx) = r) (hok : (Nat.beq 3 3 && (Nat.beq r.1 4 || Nat.beq r.1 5 || (Nat.beq r.1 3 && Nat.beq r.2.1 90000))) = true) (hst : st = as.reverse ++ rest) (hn : as.length = jargs r) (hl : Nat.ble rest.length 10 = true) : G d y pc L st h = jk d y (jback y pc (pc + 3) L rest r.2.2.2 (Mr d r as h)) := by
  subst hr; exact (g_of hc hd).trans (jcall_eq hok hst hn hl)
theorem g_virtual {idx : Nat} {r : Nat × Nat × Nat × Nat} {as rest : List Value} (hc : jtCode y = cc) (hd : decode cc pc = .ok (.invokevirtual idx, 3)) (hr : jtC (jkey y idx) = r) (hok : (Nat.beq 3 3 && (Nat.beq r.1 1 || Nat.beq r.1 2 || (Nat.beq r.1 3 && Nat.beq r.2.1 90002) || (Nat.beq r.1 3 && Nat.beq r.2.1 90003))) = true) (hst : st = as.reverse ++ rest) (hn : as.length = jargs r) (hl : Nat.ble rest.length 10 = true) : G d y pc L st h = jk d y (jback y pc (pc + 3) L rest r.2.2.2 (Mr d r as h)) := by
  subst hr; exact (g_of hc hd).trans (jcall_eq hok hst hn hl)
theorem g_face {idx n : Nat} {r : Nat × Nat × Nat × Nat} {as rest : List Value} (hc : jtCode y = cc) (hd : decode cc pc = .ok (.invokeinterface idx n, 5)) (hr : jtC (jkey y idx) = r) (hok : (Nat.beq 5 5 && Nat.beq r.1 6) = true) (hst : st = as.reverse ++ rest) (hn : as.length = jargs r) (hl : Nat.ble rest.length 10 = true) : G d y pc L st h = jk d y (jback y pc (pc + 5) L rest r.2.2.2 (Mr d r as h)) := by
  subst hr; exact (g_of hc hd).trans (jcall_eq hok hst hn hl)
/-- where a lookupswitch goes -/
def lkT (x : Int32) (ps : List (Int × Nat)) (d : Nat) : Nat := match ps with
  | [] => d
  | (a, o) :: r => if x.toInt = a then o else lkT x r d
theorem lkT_eq {pc : Nat} {x : Int32} {dd : Int} {td : Nat} (htd : ((pc : Int) + dd).toNat = td) : ∀ {ps : List (Int × Int)} {tl : List (Int × Nat)}, ps.map (fun p => (p.1, ((pc : Int) + p.2).toNat)) = tl → ((pc : Int) + Op.lookupswitch.offset ps dd x.toInt).toNat = lkT x tl td
  | [], _, h => by subst h; exact htd
  | (a, o) :: r, _, h => by
    subst h
    simp only [List.map_cons, lkT, Op.lookupswitch.offset]
    by_cases e : x.toInt = a
    · rw [if_pos e, if_pos e.symm]
    · rw [if_neg e, if_neg (Ne.symm e)]; exact lkT_eq htd rfl
theorem lk_pos {pc : Nat} {k dd : Int} (h0 : 0 ≤ (pc : Int) + dd) : ∀ {ps : List (Int × Int)}, ps.all (fun p => decide (0 ≤ (pc : Int) + p.2)) = true → 0 ≤ (pc : Int) + Op.lookupswitch.offset ps dd k
  | [], _ => h0
  | (a, o) :: r, h => by
    simp only [List.all_cons, Bool.and_eq_true, decide_eq_true_eq] at h
    simp only [Op.lookupswitch.offset]
    by_cases e : a = k
    · rw [if_pos e]; exact h.1
    · rw [if_neg e]; exact lk_pos h0 h.2
theorem g_lookup {dd : Int} {ps : Array (Int × Int)} {x : Int32} {tl : List (Int × Nat)} {td : Nat} (hc : jtCode y = cc) (hd : ∃ len, decode cc pc = .ok (.lookupswitch dd ps, len)) (h0 : decide (0 ≤ (pc : Int) + dd) = true) (h1 : ps.toList.all (fun p => decide (0 ≤ (pc : Int) + p.2)) = true) (h2 : (ps.toList.zip (ps.toList.drop 1)).all (fun (a, next) => a.1 < next.1) = true)
    (htl : (ps.toList.map fun p => (p.1, ((pc : Int) + p.2).toNat)) = tl) (htd : ((pc : Int) + dd).toNat = td) : G d y pc L (.int x :: st) h = G d y (lkT x tl td) L st h := by
  obtain ⟨len, hd⟩ := hd
  rw [g_of hc hd, ← lkT_eq htd htl]
  simp only [exi, sI, h2, decide_eq_true (lk_pos (k := x.toInt) (of_decide_eq_true h0) h1)]
  rfl
theorem g_switch {dd lo hi : Int} {ts : Array Int} {x a b : Int32} {tl : List Nat} {td : Nat} (hc : jtCode y = cc) (hd : ∃ len, decode cc pc = .ok (.tableswitch dd lo hi ts, len)) (hok : (decide (0 ≤ (pc : Int) + dd) && ts.toList.all (fun t => decide (0 ≤ (pc : Int) + t)) && decide (-1000 ≤ lo ∧ hi < 1000 ∧ (ts.size : Int) = hi - lo + 1)) = true)
    (ha : Int32.ofInt lo = a) (hb : Int32.ofInt hi = b) (htl : (ts.toList.map fun t => ((pc : Int) + t).toNat) = tl) (htd : ((pc : Int) + dd).toNat = td) : G d y pc L (.int x :: st) h = G d y (swT x a b tl td) L st h := by
  obtain ⟨len, hd⟩ := hd
  subst ha; subst hb; subst htl; subst htd
  rw [g_of hc hd]; simp only [exi, sI, hok]; rfl
end
/-! under the binders -/
theorem if_cg {P : Prop} [Decidable P] {a a' b b' : Rz} (h1 : a = a') (h2 : b = b') : (if P then a else b) = if P then a' else b' := by rw [h1, h2]
theorem rI_cg {v : Value} {κ κ' : Int32 → Rz} (h : ∀ x, κ x = κ' x) : rI v κ = rI v κ' := by rw [funext h]
theorem rJ_cg {v : Value} {κ κ' : Int64 → Rz} (h : ∀ x, κ x = κ' x) : rJ v κ = rJ v κ' := by rw [funext h]
theorem rR_cg {v : Value} {κ κ' : Value → Rz} (h : ∀ x, κ x = κ' x) : rR v κ = rR v κ' := by rw [funext h]
theorem pF_cg {h : AH} {o : Value} {T : List Nat} {k tc : Nat} {v : Value} {κ κ' : AH → Rz} (e : ∀ x, κ x = κ' x) : pF h o T k tc v κ = pF h o T k tc v κ' := by rw [funext e]
theorem aG_cg {h : AH} {o : Value} {T : List Nat} {i : Int32} {κ κ' : Value → Rz} (e : ∀ x, κ x = κ' x) : aG h o T i κ = aG h o T i κ' := by rw [funext e]
theorem aS_cg {h : AH} {o : Value} {T : List Nat} {i : Int32} {v : Value} {κ κ' : AH → Rz} (e : ∀ x, κ x = κ' x) : aS h o T i v κ = aS h o T i v κ' := by rw [funext e]
theorem aSb_cg {h : AH} {o : Value} {i x : Int32} {κ κ' : AH → Rz} (e : ∀ x, κ x = κ' x) : aSb h o i x κ = aSb h o i x κ' := by rw [funext e]
theorem aSr_cg {h : AH} {o v : Value} {i : Int32} {κ κ' : AH → Rz} (e : ∀ x, κ x = κ' x) : aSr h o v i κ = aSr h o v i κ' := by rw [funext e]
theorem aL_cg {h : AH} {o : Value} {κ κ' : Int32 → Rz} (e : ∀ x, κ x = κ' x) : aL h o κ = aL h o κ' := by rw [funext e]
theorem iK_cg {h : AH} {v : Value} {T T2 : List Nat} {κ κ' : Int32 → Rz} (e : ∀ x, κ x = κ' x) : iK h v T T2 κ = iK h v T T2 κ' := by rw [funext e]
theorem cK_cg {h : AH} {v : Value} {T : List Nat} {κ κ' : Rz} (e : κ = κ') : cK h v T κ = cK h v T κ' := by rw [e]
theorem ckR_cg {v : Value} {κ κ' : Rz} (e : κ = κ') : ckR v κ = ckR v κ' := by rw [e]
theorem ckW_cg {v : Value} {κ κ' : Rz} (e : κ = κ') : ckW v κ = ckW v κ' := by rw [e]
theorem dZ_cg {v : Int32} {κ κ' : Rz} (e : κ = κ') : dZ v κ = dZ v κ' := by rw [e]
theorem nA_cg {v : Int32} {κ κ' : Rz} (e : κ = κ') : nA v κ = nA v κ' := by rw [e]
theorem okZ_cg {v : Int32} {κ κ' : Rz} (e : κ = κ') : okZ v κ = okZ v κ' := by rw [e]
theorem cI_cg {r : Rz} {κ κ' : Int32 → AH → Rz} {x : Nat → AH → Rz} (e : ∀ v h, κ v h = κ' v h) : cIx r κ x = cIx r κ' x := by rw [funext fun v => funext (e v)]
theorem cJ_cg {r : Rz} {κ κ' : Int64 → AH → Rz} {x : Nat → AH → Rz} (e : ∀ v h, κ v h = κ' v h) : cJx r κ x = cJx r κ' x := by rw [funext fun v => funext (e v)]
theorem cR_cg {r : Rz} {κ κ' : Value → AH → Rz} {x : Nat → AH → Rz} (e : ∀ v h, κ v h = κ' v h) : cRx r κ x = cRx r κ' x := by rw [funext fun v => funext (e v)]
theorem cV_cg {r : Rz} {κ κ' : AH → Rz} {x : Nat → AH → Rz} (e : ∀ h, κ h = κ' h) : cVx r κ x = cVx r κ' x := by rw [funext e]
theorem cIx_cg {r : Rz} {κ κ' : Int32 → AH → Rz} {x x' : Nat → AH → Rz} (e : ∀ v h, κ v h = κ' v h) (ex : ∀ v h, x v h = x' v h) : cIx r κ x = cIx r κ' x' := by rw [funext fun v => funext (e v), funext fun v => funext (ex v)]
theorem cRx_cg {r : Rz} {κ κ' : Value → AH → Rz} {x x' : Nat → AH → Rz} (e : ∀ v h, κ v h = κ' v h) (ex : ∀ v h, x v h = x' v h) : cRx r κ x = cRx r κ' x' := by rw [funext fun v => funext (e v), funext fun v => funext (ex v)]
theorem cVx_cg {r : Rz} {κ κ' : AH → Rz} {x x' : Nat → AH → Rz} (e : ∀ h, κ h = κ' h) (ex : ∀ v h, x v h = x' v h) : cVx r κ x = cVx r κ' x' := by rw [funext e, funext fun v => funext (ex v)]
theorem okB_cg {v : Int32} {κ κ' : Rz} (e : κ = κ') : okB v κ = okB v κ' := by rw [e]
theorem hK_cg {h : AH} {q : Nat} {T : List Nat} {κ κ' : Rz} (e : κ = κ') : hK h q T κ = hK h q T κ' := by rw [e]
/-- a heap gets a name -/
def nmH (hp : AH) (κ : AH → Rz) : Rz := κ hp
theorem nm_in {a : Rz} {hp : AH} {κ : AH → Rz} (e : a = κ hp) : a = nmH hp κ := e
theorem jargL_R {v : Value} {r : List Value} (hv : isR v = true) : jargL (v :: r) = v :: jargL r := by cases v <;> first | rfl | cases hv
