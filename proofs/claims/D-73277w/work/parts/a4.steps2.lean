/-! one equation an instruction, of the interpreter with pseudo-cells (written by tools/m2steps.py) -/
noncomputable def jkH (d y : Nat) (r : Rs) : Rz := match r with
  | none => none
  | some (.inl c) => G2 d y c.1 c.2.1 c.2.2.1 c.2.2.2
  | some (.inr r) => some r
/-- a call by the receiver's class -/
noncomputable def MvH (d v : Nat) (as : List Value) (h : AH) : Rz := match as with
  | .ref a :: _ => (match jm h a with
    | some (t, _) => M2 d (jtV v t) as h
    | none => none)
  | _ => none
section
variable {d y pc : Nat} {L st : List Value} {h : AH} {cc : ByteArray}
theorem g_ofH {i : Instr} {len : Nat} (hc : jtCode y = cc) (hd : decode cc pc = .ok (i, len)) : G2 d y pc L st h = jkH d y (exi (M2 d) y pc L st h len i) := by
  rw [G2_step]; simp only [stp, hc, hd]; rfl
theorem jk_rIH {v : Value} {κ : Int32 → Rs} : jkH d y (rI v κ) = rI v (fun x => jkH d y (κ x)) := by cases v <;> rfl
theorem jk_rJH {v : Value} {κ : Int64 → Rs} : jkH d y (rJ v κ) = rJ v (fun x => jkH d y (κ x)) := by cases v <;> rfl
theorem jk_rRH {v : Value} {κ : Value → Rs} : jkH d y (rR v κ) = rR v (fun x => jkH d y (κ x)) := by cases v <;> rfl
theorem jk_pFH {h : AH} {o : Value} {T : List Nat} {k tc : Nat} {v : Value} {κ : AH → Rs} : jkH d y (pF h o T k tc v κ) = pF h o T k tc v (fun h => jkH d y (κ h)) := by
  cases o with
  | ref a =>
    simp only [pF]
    cases jm h a with
    | none => rfl
    | some c => obtain ⟨t, n, f⟩ := c; simp only []; split <;> rfl
  | _ => rfl
theorem jk_aGH {h : AH} {o : Value} {T : List Nat} {i : Int32} {κ : Value → Rs} : jkH d y (aG h o T i κ) = aG h o T i (fun v => jkH d y (κ v)) := by
  cases o with
  | ref a =>
    simp only [aG]
    cases jm h a with
    | none => rfl
    | some c => obtain ⟨t, n, f⟩ := c; simp only []; split <;> rfl
  | _ => rfl
theorem jk_aSH {h : AH} {o : Value} {T : List Nat} {i : Int32} {v : Value} {κ : AH → Rs} : jkH d y (aS h o T i v κ) = aS h o T i v (fun h => jkH d y (κ h)) := by
  cases o with
  | ref a =>
    simp only [aS]
    cases jm h a with
    | none => rfl
    | some c => obtain ⟨t, n, f⟩ := c; simp only []; split <;> rfl
  | _ => rfl
theorem jk_aLH {h : AH} {o : Value} {κ : Int32 → Rs} : jkH d y (aL h o κ) = aL h o (fun v => jkH d y (κ v)) := by
  cases o with
  | ref a =>
    simp only [aL]
    cases jm h a with
    | none => rfl
    | some c => obtain ⟨t, n, f⟩ := c; simp only []; split <;> rfl
  | _ => rfl
theorem jk_cKH {h : AH} {v : Value} {T : List Nat} {κ : Rs} : jkH d y (cK h v T κ) = cK h v T (jkH d y κ) := by
  cases v with
  | ref a =>
    simp only [cK]
    cases jm h a with
    | none => rfl
    | some c => obtain ⟨t, n, f⟩ := c; simp only []; split <;> rfl
  | _ => rfl
theorem jk_iKH {h : AH} {v : Value} {T T2 : List Nat} {κ : Int32 → Rs} : jkH d y (iK h v T T2 κ) = iK h v T T2 (fun x => jkH d y (κ x)) := by
  cases v with
  | ref a =>
    simp only [iK]
    cases jm h a with
    | none => rfl
    | some c =>
      obtain ⟨t, n, f⟩ := c
      simp only []
      split
      · rfl
      · split <;> rfl
  | _ => rfl
theorem jk_gdH {b : Bool} {r : Rs} : jkH d y (gd b r) = gd b (jkH d y r) := by cases b <;> rfl
theorem g_iconstH {n : Int} {x : Int32} (hc : jtCode y = cc) (hd : decode cc pc = .ok (.iconst n, 1)) (hx : Int32.ofInt n = x) : G2 d y pc L st h = G2 d y (pc + 1) L (.int x :: st) h := by subst hx; exact (g_ofH hc hd).trans rfl
theorem g_bipushH {n : Int} {x : Int32} (hc : jtCode y = cc) (hd : decode cc pc = .ok (.bipush n, 2)) (hx : (Int8.ofInt n).toInt32 = x) : G2 d y pc L st h = G2 d y (pc + 2) L (.int x :: st) h := by subst hx; exact (g_ofH hc hd).trans rfl
theorem g_sipushH {n : Int} {x : Int32} (hc : jtCode y = cc) (hd : decode cc pc = .ok (.sipush n, 3)) (hx : (Int16.ofInt n).toInt32 = x) : G2 d y pc L st h = G2 d y (pc + 3) L (.int x :: st) h := by subst hx; exact (g_ofH hc hd).trans rfl
theorem g_lconstH {n : Fin 2} {x : Int64} (hc : jtCode y = cc) (hd : decode cc pc = .ok (.lconst n, 1)) (hx : Int64.ofNat n = x) : G2 d y pc L st h = G2 d y (pc + 1) L (.long x :: st) h := by subst hx; exact (g_ofH hc hd).trans rfl
theorem g_aconst_nullH (hc : jtCode y = cc) (hd : decode cc pc = .ok (.aconst_null, 1)) : G2 d y pc L st h = G2 d y (pc + 1) L (.null :: st) h := (g_ofH hc hd).trans rfl
theorem g_iload_nH {k : Fin 4} {x : Int32} (hc : jtCode y = cc) (hd : decode cc pc = .ok (.iload_n k, 1)) (hl : lg L k = .int x) : G2 d y pc L st h = G2 d y (pc + 1) L (.int x :: st) h := by
  rw [g_ofH hc hd]; simp only [exi, hl]; rfl
theorem g_iloadH {k : Nat} {x : Int32} (hc : jtCode y = cc) (hd : decode cc pc = .ok (.iload k, 2)) (hl : lg L k = .int x) : G2 d y pc L st h = G2 d y (pc + 2) L (.int x :: st) h := by
  rw [g_ofH hc hd]; simp only [exi, hl]; rfl
theorem g_lload_nH {k : Fin 4} {x : Int64} (hc : jtCode y = cc) (hd : decode cc pc = .ok (.lload_n k, 1)) (hl : lg L k = .long x) (hl2 : lg L (k.val + 1) = jhalf) : G2 d y pc L st h = G2 d y (pc + 1) L (.long x :: st) h := by
  rw [g_ofH hc hd]; simp only [exi, hl, hl2]; rfl
theorem g_lloadH {k : Nat} {x : Int64} (hc : jtCode y = cc) (hd : decode cc pc = .ok (.lload k, 2)) (hl : lg L k = .long x) (hl2 : lg L (k + 1) = jhalf) : G2 d y pc L st h = G2 d y (pc + 2) L (.long x :: st) h := by
  rw [g_ofH hc hd]; simp only [exi, hl, hl2]; rfl
theorem g_aload_nH {k : Fin 4} {a : Nat} (hc : jtCode y = cc) (hd : decode cc pc = .ok (.aload_n k, 1)) (hl : lg L k = .ref a) : G2 d y pc L st h = G2 d y (pc + 1) L (.ref a :: st) h := by
  rw [g_ofH hc hd]; simp only [exi, hl]; rfl
theorem g_aloadH {k : Nat} {a : Nat} (hc : jtCode y = cc) (hd : decode cc pc = .ok (.aload k, 2)) (hl : lg L k = .ref a) : G2 d y pc L st h = G2 d y (pc + 2) L (.ref a :: st) h := by
  rw [g_ofH hc hd]; simp only [exi, hl]; rfl
theorem rR_ckH {v : Value} {κ : Value → Rs} : jkH d y (rR v κ) = ckR v (jkH d y (κ v)) := by cases v <;> rfl
/-- a variable that may hold null, or what is no reference -/
theorem g_aload_nVH {k : Fin 4} {v : Value} (hc : jtCode y = cc) (hd : decode cc pc = .ok (.aload_n k, 1)) (hl : lg L k = v) : G2 d y pc L st h = ckR v (G2 d y (pc + 1) L (v :: st) h) := by
  rw [g_ofH hc hd]; simp only [exi, hl]; exact (rR_ckH (κ := fun x => nx _ L (x :: st) h))
theorem g_aloadVH {k : Nat} {v : Value} (hc : jtCode y = cc) (hd : decode cc pc = .ok (.aload k, 2)) (hl : lg L k = v) : G2 d y pc L st h = ckR v (G2 d y (pc + 2) L (v :: st) h) := by
  rw [g_ofH hc hd]; simp only [exi, hl]; exact (rR_ckH (κ := fun x => nx _ L (x :: st) h))
theorem g_istore_nH {k : Fin 4} {x : Int32} {L' : List Value} (hc : jtCode y = cc) (hd : decode cc pc = .ok (.istore_n k, 1)) (hk : Nat.blt k L.length = true) (hL : L.set k (.int x) = L') : G2 d y pc L (.int x :: st) h = G2 d y (pc + 1) L' st h := by
  subst hL; rw [g_ofH hc hd]; simp only [exi, hk]; rfl
theorem g_istoreH {k : Nat} {x : Int32} {L' : List Value} (hc : jtCode y = cc) (hd : decode cc pc = .ok (.istore k, 2)) (hk : Nat.blt k L.length = true) (hL : L.set k (.int x) = L') : G2 d y pc L (.int x :: st) h = G2 d y (pc + 2) L' st h := by
  subst hL; rw [g_ofH hc hd]; simp only [exi, hk]; rfl
theorem g_astore_nH {k : Fin 4} {a : Nat} {L' : List Value} (hc : jtCode y = cc) (hd : decode cc pc = .ok (.astore_n k, 1)) (hk : Nat.blt k L.length = true) (hL : L.set k (.ref a) = L') : G2 d y pc L (.ref a :: st) h = G2 d y (pc + 1) L' st h := by
  subst hL; rw [g_ofH hc hd]; simp only [exi, hk]; rfl
theorem g_astoreH {k : Nat} {a : Nat} {L' : List Value} (hc : jtCode y = cc) (hd : decode cc pc = .ok (.astore k, 2)) (hk : Nat.blt k L.length = true) (hL : L.set k (.ref a) = L') : G2 d y pc L (.ref a :: st) h = G2 d y (pc + 2) L' st h := by
  subst hL; rw [g_ofH hc hd]; simp only [exi, hk]; rfl
theorem g_astore_nVH {k : Fin 4} {v : Value} {L' : List Value} (hc : jtCode y = cc) (hd : decode cc pc = .ok (.astore_n k, 1)) (hk : Nat.blt k L.length = true) (hL : L.set k v = L') : G2 d y pc L (v :: st) h = ckR v (G2 d y (pc + 1) L' st h) := by
  subst hL; rw [g_ofH hc hd]; simp only [exi, hk]; cases v <;> rfl
theorem g_astoreVH {k : Nat} {v : Value} {L' : List Value} (hc : jtCode y = cc) (hd : decode cc pc = .ok (.astore k, 2)) (hk : Nat.blt k L.length = true) (hL : L.set k v = L') : G2 d y pc L (v :: st) h = ckR v (G2 d y (pc + 2) L' st h) := by
  subst hL; rw [g_ofH hc hd]; simp only [exi, hk]; cases v <;> rfl
theorem g_lstore_nH {k : Fin 4} {x : Int64} {L' : List Value} (hc : jtCode y = cc) (hd : decode cc pc = .ok (.lstore_n k, 1)) (hk : Nat.blt (k.val + 1) L.length = true) (hL : (L.set k (.long x)).set (k.val + 1) jhalf = L') : G2 d y pc L (.long x :: st) h = G2 d y (pc + 1) L' st h := by
  subst hL; rw [g_ofH hc hd]; simp only [exi, hk]; rfl
theorem g_lstoreH {k : Nat} {x : Int64} {L' : List Value} (hc : jtCode y = cc) (hd : decode cc pc = .ok (.lstore k, 2)) (hk : Nat.blt (k + 1) L.length = true) (hL : (L.set k (.long x)).set (k + 1) jhalf = L') : G2 d y pc L (.long x :: st) h = G2 d y (pc + 2) L' st h := by
  subst hL; rw [g_ofH hc hd]; simp only [exi, hk]; rfl
theorem g_iincH {k : Nat} {n : Int} {x c : Int32} {L' : List Value} (hc : jtCode y = cc) (hd : decode cc pc = .ok (.iinc k n, 3)) (hk : Nat.blt k L.length = true) (hl : lg L k = .int x) (hn : Int32.ofInt n = c) (hL : L.set k (.int (x + c)) = L') : G2 d y pc L st h = G2 d y (pc + 3) L' st h := by
  subst hn; subst hL; rw [g_ofH hc hd]; simp only [exi, hk, hl]; rfl
theorem g_iaddH {a b : Int32} (hc : jtCode y = cc) (hd : decode cc pc = .ok (.iadd, 1)) : G2 d y pc L (.int b :: .int a :: st) h = G2 d y (pc + 1) L (.int (a + b) :: st) h := (g_ofH hc hd).trans rfl
theorem g_isubH {a b : Int32} (hc : jtCode y = cc) (hd : decode cc pc = .ok (.isub, 1)) : G2 d y pc L (.int b :: .int a :: st) h = G2 d y (pc + 1) L (.int (a - b) :: st) h := (g_ofH hc hd).trans rfl
theorem g_imulH {a b : Int32} (hc : jtCode y = cc) (hd : decode cc pc = .ok (.imul, 1)) : G2 d y pc L (.int b :: .int a :: st) h = G2 d y (pc + 1) L (.int (a * b) :: st) h := (g_ofH hc hd).trans rfl
theorem g_iandH {a b : Int32} (hc : jtCode y = cc) (hd : decode cc pc = .ok (.iand, 1)) : G2 d y pc L (.int b :: .int a :: st) h = G2 d y (pc + 1) L (.int (a &&& b) :: st) h := (g_ofH hc hd).trans rfl
theorem g_iorH {a b : Int32} (hc : jtCode y = cc) (hd : decode cc pc = .ok (.ior, 1)) : G2 d y pc L (.int b :: .int a :: st) h = G2 d y (pc + 1) L (.int (a ||| b) :: st) h := (g_ofH hc hd).trans rfl
theorem g_ixorH {a b : Int32} (hc : jtCode y = cc) (hd : decode cc pc = .ok (.ixor, 1)) : G2 d y pc L (.int b :: .int a :: st) h = G2 d y (pc + 1) L (.int (a ^^^ b) :: st) h := (g_ofH hc hd).trans rfl
theorem g_idivH {a b : Int32} (hc : jtCode y = cc) (hd : decode cc pc = .ok (.idiv, 1)) : G2 d y pc L (.int b :: .int a :: st) h = dZ b (G2 d y (pc + 1) L (.int (a / b) :: st) h) := by
  rw [g_ofH hc hd]; simp only [exi, gd, sI, dZ]; by_cases hb : b = 0 <;> simp only [hb] <;> rfl
theorem g_iremH {a b : Int32} (hc : jtCode y = cc) (hd : decode cc pc = .ok (.irem, 1)) : G2 d y pc L (.int b :: .int a :: st) h = dZ b (G2 d y (pc + 1) L (.int (a - a / b * b) :: st) h) := by
  rw [g_ofH hc hd]; simp only [exi, gd, sI, dZ]; by_cases hb : b = 0 <;> simp only [hb] <;> rfl
theorem g_inegH {a : Int32} (hc : jtCode y = cc) (hd : decode cc pc = .ok (.ineg, 1)) : G2 d y pc L (.int a :: st) h = G2 d y (pc + 1) L (.int (-a) :: st) h := (g_ofH hc hd).trans rfl
theorem g_ishlH {a b : Int32} (hc : jtCode y = cc) (hd : decode cc pc = .ok (.ishl, 1)) : G2 d y pc L (.int b :: .int a :: st) h = G2 d y (pc + 1) L (.int (a <<< (b &&& 31)) :: st) h := (g_ofH hc hd).trans rfl
theorem g_ishrH {a b : Int32} (hc : jtCode y = cc) (hd : decode cc pc = .ok (.ishr, 1)) : G2 d y pc L (.int b :: .int a :: st) h = G2 d y (pc + 1) L (.int (a >>> (b &&& 31)) :: st) h := (g_ofH hc hd).trans rfl
theorem g_iushrH {a b : Int32} (hc : jtCode y = cc) (hd : decode cc pc = .ok (.iushr, 1)) : G2 d y pc L (.int b :: .int a :: st) h = G2 d y (pc + 1) L (.int ((a.toUInt32 >>> (b.toUInt32 &&& Int32.toUInt32 31)).toInt32) :: st) h := (g_ofH hc hd).trans rfl
theorem g_laddH {a b : Int64} (hc : jtCode y = cc) (hd : decode cc pc = .ok (.ladd, 1)) : G2 d y pc L (.long b :: .long a :: st) h = G2 d y (pc + 1) L (.long (a + b) :: st) h := (g_ofH hc hd).trans rfl
theorem g_lsubH {a b : Int64} (hc : jtCode y = cc) (hd : decode cc pc = .ok (.lsub, 1)) : G2 d y pc L (.long b :: .long a :: st) h = G2 d y (pc + 1) L (.long (a - b) :: st) h := (g_ofH hc hd).trans rfl
theorem g_landH {a b : Int64} (hc : jtCode y = cc) (hd : decode cc pc = .ok (.land, 1)) : G2 d y pc L (.long b :: .long a :: st) h = G2 d y (pc + 1) L (.long (a &&& b) :: st) h := (g_ofH hc hd).trans rfl
theorem g_lorH {a b : Int64} (hc : jtCode y = cc) (hd : decode cc pc = .ok (.lor, 1)) : G2 d y pc L (.long b :: .long a :: st) h = G2 d y (pc + 1) L (.long (a ||| b) :: st) h := (g_ofH hc hd).trans rfl
theorem g_lxorH {a b : Int64} (hc : jtCode y = cc) (hd : decode cc pc = .ok (.lxor, 1)) : G2 d y pc L (.long b :: .long a :: st) h = G2 d y (pc + 1) L (.long (a ^^^ b) :: st) h := (g_ofH hc hd).trans rfl
theorem g_lshlH {a : Int64} {b : Int32} (hc : jtCode y = cc) (hd : decode cc pc = .ok (.lshl, 1)) : G2 d y pc L (.int b :: .long a :: st) h = G2 d y (pc + 1) L (.long (a <<< (b.toInt64 &&& 63)) :: st) h := (g_ofH hc hd).trans rfl
theorem g_lshrH {a : Int64} {b : Int32} (hc : jtCode y = cc) (hd : decode cc pc = .ok (.lshr, 1)) : G2 d y pc L (.int b :: .long a :: st) h = G2 d y (pc + 1) L (.long (a >>> (b.toInt64 &&& 63)) :: st) h := (g_ofH hc hd).trans rfl
theorem g_lushrH {a : Int64} {b : Int32} (hc : jtCode y = cc) (hd : decode cc pc = .ok (.lushr, 1)) : G2 d y pc L (.int b :: .long a :: st) h = G2 d y (pc + 1) L (.long ((a.toUInt64 >>> (b.toInt64.toUInt64 &&& 63)).toInt64) :: st) h := (g_ofH hc hd).trans rfl
theorem g_lcmpH {a b : Int64} (hc : jtCode y = cc) (hd : decode cc pc = .ok (.lcmp, 1)) : G2 d y pc L (.long b :: .long a :: st) h = G2 d y (pc + 1) L (.int (lcm a b) :: st) h := (g_ofH hc hd).trans rfl
theorem g_i2lH {a : Int32} (hc : jtCode y = cc) (hd : decode cc pc = .ok (.i2l, 1)) : G2 d y pc L (.int a :: st) h = G2 d y (pc + 1) L (.long a.toInt64 :: st) h := (g_ofH hc hd).trans rfl
theorem g_l2iH {a : Int64} (hc : jtCode y = cc) (hd : decode cc pc = .ok (.l2i, 1)) : G2 d y pc L (.long a :: st) h = G2 d y (pc + 1) L (.int a.toInt32 :: st) h := (g_ofH hc hd).trans rfl
theorem g_i2bH {a : Int32} (hc : jtCode y = cc) (hd : decode cc pc = .ok (.i2b, 1)) : G2 d y pc L (.int a :: st) h = G2 d y (pc + 1) L (.int a.toInt8.toInt32 :: st) h := (g_ofH hc hd).trans rfl
theorem g_i2cH {a : Int32} (hc : jtCode y = cc) (hd : decode cc pc = .ok (.i2c, 1)) : G2 d y pc L (.int a :: st) h = G2 d y (pc + 1) L (.int ((a.toUInt32 % 65536).toInt32) :: st) h := (g_ofH hc hd).trans rfl
theorem g_dup_iH {a : Int32} (hc : jtCode y = cc) (hd : decode cc pc = .ok (.dup, 1)) : G2 d y pc L (.int a :: st) h = G2 d y (pc + 1) L (.int a :: .int a :: st) h := (g_ofH hc hd).trans rfl
theorem g_dup_rH {a : Nat} (hc : jtCode y = cc) (hd : decode cc pc = .ok (.dup, 1)) : G2 d y pc L (.ref a :: st) h = G2 d y (pc + 1) L (.ref a :: .ref a :: st) h := (g_ofH hc hd).trans rfl
theorem g_dupH {v : Value} (hc : jtCode y = cc) (hd : decode cc pc = .ok (.dup, 1)) : G2 d y pc L (v :: st) h = ckW v (G2 d y (pc + 1) L (v :: v :: st) h) := by
  rw [g_ofH hc hd]; simp only [exi, sA, jk_gdH]; rfl
theorem g_popH {v : Value} (hc : jtCode y = cc) (hd : decode cc pc = .ok (.pop, 1)) : G2 d y pc L (v :: st) h = ckW v (G2 d y (pc + 1) L st h) := by
  rw [g_ofH hc hd]; simp only [exi, sA, jk_gdH]; rfl
theorem g_dup_x1H {v w : Value} (hc : jtCode y = cc) (hd : decode cc pc = .ok (.dup_x1, 1)) : G2 d y pc L (v :: w :: st) h = ckW v (ckW w (G2 d y (pc + 1) L (v :: w :: v :: st) h)) := by
  rw [g_ofH hc hd]; simp only [exi, sA, jk_gdH]; cases v <;> cases w <;> rfl
theorem g_dup2H {v w : Value} (hc : jtCode y = cc) (hd : decode cc pc = .ok (.dup2, 1)) : G2 d y pc L (v :: w :: st) h = ckW v (ckW w (G2 d y (pc + 1) L (v :: w :: v :: w :: st) h)) := by
  rw [g_ofH hc hd]; simp only [exi, sA, jk_gdH]; cases v <;> cases w <;> rfl
theorem jgo_toH {off : Int} {tgt : Nat} (ht : (pc : Int) + off = (tgt : Int)) : jkH d y (jgo pc off L st h) = G2 d y tgt L st h := by
  simp only [jgo, ht]; rw [show decide (0 ≤ (tgt : Int)) = true from decide_eq_true (Int.natCast_nonneg _)]; rfl
theorem g_gotoH {off : Int} {tgt : Nat} (hc : jtCode y = cc) (hd : decode cc pc = .ok (.goto off, 3)) (ht : (pc : Int) + off = (tgt : Int)) : G2 d y pc L st h = G2 d y tgt L st h := (g_ofH hc hd).trans (jgo_toH ht)
theorem jbr_toH {b : Bool} {P : Prop} {hP : Decidable P} {off : Int} {tgt : Nat} (hb : b = decide P) (ht : (pc : Int) + off = (tgt : Int)) : jkH d y (jbr b pc off L st h) = if P then G2 d y tgt L st h else G2 d y (pc + 3) L st h := by
  subst hb
  by_cases h0 : P
  · rw [if_pos h0, jbr, if_pos (decide_eq_true h0)]; exact jgo_toH ht
  · rw [if_neg h0, jbr, if_neg (by rw [decide_eq_false h0]; decide)]; rfl
theorem g_if_eqH {x : Int32} {off : Int} {tgt : Nat} (hc : jtCode y = cc) (hd : decode cc pc = .ok (.ifCond .eq off, 3)) (ht : (pc : Int) + off = (tgt : Int)) : G2 d y pc L (.int x :: st) h = if x = 0 then G2 d y tgt L st h else G2 d y (pc + 3) L st h := (g_ofH hc hd).trans (jbr_toH rfl ht)
theorem g_if_neH {x : Int32} {off : Int} {tgt : Nat} (hc : jtCode y = cc) (hd : decode cc pc = .ok (.ifCond .ne off, 3)) (ht : (pc : Int) + off = (tgt : Int)) : G2 d y pc L (.int x :: st) h = if x = 0 then G2 d y (pc + 3) L st h else G2 d y tgt L st h := by
  rw [g_ofH hc hd]; refine (jbr_toH (P := ¬ x = 0) rfl ht).trans ?_; by_cases h0 : x = 0 <;> simp [h0]
theorem g_if_ltH {x : Int32} {off : Int} {tgt : Nat} (hc : jtCode y = cc) (hd : decode cc pc = .ok (.ifCond .lt off, 3)) (ht : (pc : Int) + off = (tgt : Int)) : G2 d y pc L (.int x :: st) h = if x < 0 then G2 d y tgt L st h else G2 d y (pc + 3) L st h := (g_ofH hc hd).trans (jbr_toH rfl ht)
theorem g_if_geH {x : Int32} {off : Int} {tgt : Nat} (hc : jtCode y = cc) (hd : decode cc pc = .ok (.ifCond .ge off, 3)) (ht : (pc : Int) + off = (tgt : Int)) : G2 d y pc L (.int x :: st) h = if 0 ≤ x then G2 d y tgt L st h else G2 d y (pc + 3) L st h := (g_ofH hc hd).trans (jbr_toH rfl ht)
theorem g_if_gtH {x : Int32} {off : Int} {tgt : Nat} (hc : jtCode y = cc) (hd : decode cc pc = .ok (.ifCond .gt off, 3)) (ht : (pc : Int) + off = (tgt : Int)) : G2 d y pc L (.int x :: st) h = if 0 < x then G2 d y tgt L st h else G2 d y (pc + 3) L st h := (g_ofH hc hd).trans (jbr_toH rfl ht)
theorem g_if_leH {x : Int32} {off : Int} {tgt : Nat} (hc : jtCode y = cc) (hd : decode cc pc = .ok (.ifCond .le off, 3)) (ht : (pc : Int) + off = (tgt : Int)) : G2 d y pc L (.int x :: st) h = if x ≤ 0 then G2 d y tgt L st h else G2 d y (pc + 3) L st h := (g_ofH hc hd).trans (jbr_toH rfl ht)
theorem g_icmp_eqH {a b : Int32} {off : Int} {tgt : Nat} (hc : jtCode y = cc) (hd : decode cc pc = .ok (.if_icmp .eq off, 3)) (ht : (pc : Int) + off = (tgt : Int)) : G2 d y pc L (.int b :: .int a :: st) h = if a = b then G2 d y tgt L st h else G2 d y (pc + 3) L st h := (g_ofH hc hd).trans (jbr_toH rfl ht)
theorem g_icmp_neH {a b : Int32} {off : Int} {tgt : Nat} (hc : jtCode y = cc) (hd : decode cc pc = .ok (.if_icmp .ne off, 3)) (ht : (pc : Int) + off = (tgt : Int)) : G2 d y pc L (.int b :: .int a :: st) h = if a = b then G2 d y (pc + 3) L st h else G2 d y tgt L st h := by
  rw [g_ofH hc hd]; refine (jbr_toH (P := ¬ a = b) rfl ht).trans ?_; by_cases h0 : a = b <;> simp [h0]
theorem g_icmp_ltH {a b : Int32} {off : Int} {tgt : Nat} (hc : jtCode y = cc) (hd : decode cc pc = .ok (.if_icmp .lt off, 3)) (ht : (pc : Int) + off = (tgt : Int)) : G2 d y pc L (.int b :: .int a :: st) h = if a < b then G2 d y tgt L st h else G2 d y (pc + 3) L st h := (g_ofH hc hd).trans (jbr_toH rfl ht)
theorem g_icmp_geH {a b : Int32} {off : Int} {tgt : Nat} (hc : jtCode y = cc) (hd : decode cc pc = .ok (.if_icmp .ge off, 3)) (ht : (pc : Int) + off = (tgt : Int)) : G2 d y pc L (.int b :: .int a :: st) h = if b ≤ a then G2 d y tgt L st h else G2 d y (pc + 3) L st h := (g_ofH hc hd).trans (jbr_toH rfl ht)
theorem g_icmp_gtH {a b : Int32} {off : Int} {tgt : Nat} (hc : jtCode y = cc) (hd : decode cc pc = .ok (.if_icmp .gt off, 3)) (ht : (pc : Int) + off = (tgt : Int)) : G2 d y pc L (.int b :: .int a :: st) h = if b < a then G2 d y tgt L st h else G2 d y (pc + 3) L st h := (g_ofH hc hd).trans (jbr_toH rfl ht)
theorem g_icmp_leH {a b : Int32} {off : Int} {tgt : Nat} (hc : jtCode y = cc) (hd : decode cc pc = .ok (.if_icmp .le off, 3)) (ht : (pc : Int) + off = (tgt : Int)) : G2 d y pc L (.int b :: .int a :: st) h = if a ≤ b then G2 d y tgt L st h else G2 d y (pc + 3) L st h := (g_ofH hc hd).trans (jbr_toH rfl ht)
theorem jk_sRH {v : Value} {κ : Value → List Value → Rs} : jkH d y (sR (v :: st) κ) = ckR v (jkH d y (κ v st)) := by cases v <;> rfl
theorem g_acmp_eqH {v w : Value} {off : Int} {tgt : Nat} (hc : jtCode y = cc) (hd : decode cc pc = .ok (.if_acmp .eq off, 3)) (ht : (pc : Int) + off = (tgt : Int)) : G2 d y pc L (w :: v :: st) h = ckR w (ckR v (if v = w then G2 d y tgt L st h else G2 d y (pc + 3) L st h)) := by
  rw [g_ofH hc hd]; simp only [exi, jk_gdH, jk_sRH]; rw [jbr_toH (P := v = w) rfl ht]; rfl
theorem g_acmp_neH {v w : Value} {off : Int} {tgt : Nat} (hc : jtCode y = cc) (hd : decode cc pc = .ok (.if_acmp .ne off, 3)) (ht : (pc : Int) + off = (tgt : Int)) : G2 d y pc L (w :: v :: st) h = ckR w (ckR v (if v = w then G2 d y (pc + 3) L st h else G2 d y tgt L st h)) := by
  rw [g_ofH hc hd]; simp only [exi, jk_gdH, jk_sRH]; rw [jbr_toH (P := ¬ v = w) rfl ht]; by_cases h0 : v = w <;> simp only [h0] <;> rfl
theorem g_ifnullH {v : Value} {off : Int} {tgt : Nat} (hc : jtCode y = cc) (hd : decode cc pc = .ok (.ifnull off, 3)) (ht : (pc : Int) + off = (tgt : Int)) : G2 d y pc L (v :: st) h = ckR v (if v = .null then G2 d y tgt L st h else G2 d y (pc + 3) L st h) := by
  rw [g_ofH hc hd]; simp only [exi, jk_gdH, jk_sRH]; rw [jbr_toH (P := v = .null) rfl ht]; rfl
theorem g_ifnonnullH {v : Value} {off : Int} {tgt : Nat} (hc : jtCode y = cc) (hd : decode cc pc = .ok (.ifnonnull off, 3)) (ht : (pc : Int) + off = (tgt : Int)) : G2 d y pc L (v :: st) h = ckR v (if v = .null then G2 d y (pc + 3) L st h else G2 d y tgt L st h) := by
  rw [g_ofH hc hd]; simp only [exi, jk_gdH, jk_sRH]; rw [jbr_toH (P := ¬ v = .null) rfl ht]; by_cases h0 : v = .null <;> simp only [h0] <;> rfl
theorem g_ireturnH {x : Int32} (hc : jtCode y = cc) (hd : decode cc pc = .ok (.ireturn, 1)) (hr : jtRet y = some .int) : G2 d y pc L [.int x] h = some (.inl (some (.int x)), h) := by
  rw [g_ofH hc hd]; simp only [exi, hr]; rfl
theorem g_zreturnH {x : Int32} (hc : jtCode y = cc) (hd : decode cc pc = .ok (.ireturn, 1)) (hr : jtRet y = some .boolean) : G2 d y pc L [.int x] h = okZ x (some (.inl (some (.int x)), h)) := by
  rw [g_ofH hc hd]; simp only [exi, hr, jk_gdH]; rfl
theorem g_breturnH {x : Int32} (hc : jtCode y = cc) (hd : decode cc pc = .ok (.ireturn, 1)) (hr : jtRet y = some .byte) : G2 d y pc L [.int x] h = okB x (some (.inl (some (.int x)), h)) := by
  rw [g_ofH hc hd]; simp only [exi, hr, jk_gdH]; rfl
theorem g_creturnH {x : Int32} (hc : jtCode y = cc) (hd : decode cc pc = .ok (.ireturn, 1)) (hr : jtRet y = some .char) : G2 d y pc L [.int x] h = okC x (some (.inl (some (.int x)), h)) := by
  rw [g_ofH hc hd]; simp only [exi, hr, jk_gdH]; rfl
theorem g_lreturnH {x : Int64} (hc : jtCode y = cc) (hd : decode cc pc = .ok (.lreturn, 1)) (hr : jtRet y = some .long) : G2 d y pc L [.long x] h = some (.inl (some (.long x)), h) := by
  rw [g_ofH hc hd]; simp only [exi, hr]; rfl
theorem g_areturnH {v : Value} {o : String} (hc : jtCode y = cc) (hd : decode cc pc = .ok (.areturn, 1)) (hr : jtRet y = some (.object o)) : G2 d y pc L [v] h = ckR v (some (.inl (some v), h)) := by
  rw [g_ofH hc hd]; simp only [exi, hr]; cases v <;> rfl
theorem g_areturnAH {v : Value} {t : FieldType} (hc : jtCode y = cc) (hd : decode cc pc = .ok (.areturn, 1)) (hr : jtRet y = some (.array t)) : G2 d y pc L [v] h = ckR v (some (.inl (some v), h)) := by
  rw [g_ofH hc hd]; simp only [exi, hr]; cases v <;> rfl
theorem g_returnH (hc : jtCode y = cc) (hd : decode cc pc = .ok (.return_, 1)) (hr : jtRet y = none) : G2 d y pc L [] h = some (.inl none, h) := by
  rw [g_ofH hc hd]; simp only [exi, hr]; rfl
theorem g_getIH {o : Value} {idx tc k fin : Nat} {T : List Nat} (hc : jtCode y = cc) (hd : decode cc pc = .ok (.getfield idx, 3)) (hf : jtF (jkey y idx) = (tc, T, k, fin)) (ht : (Nat.beq tc 1 || Nat.beq tc 2) = false) : G2 d y pc L (o :: st) h = rI (jf (jc h o) T k) fun x => G2 d y (pc + 3) L (.int x :: st) h := by
  have h1 : Nat.beq tc 1 = false := by cases hb : Nat.beq tc 1 <;> simp_all
  have h2 : Nat.beq tc 2 = false := by cases hb : Nat.beq tc 2 <;> simp_all
  rw [g_ofH hc hd]; simp only [exi, hf, h1, h2, sA, jk_gdH, cond_false, jk_rIH]; rfl
theorem g_getJH {o : Value} {idx k fin : Nat} {T : List Nat} (hc : jtCode y = cc) (hd : decode cc pc = .ok (.getfield idx, 3)) (hf : jtF (jkey y idx) = (1, T, k, fin)) : G2 d y pc L (o :: st) h = rJ (jf (jc h o) T k) fun x => G2 d y (pc + 3) L (.long x :: st) h := by
  rw [g_ofH hc hd]; simp only [exi, hf, sA, jk_gdH]; exact jk_rJH
theorem g_getRH {o : Value} {idx k fin : Nat} {T : List Nat} (hc : jtCode y = cc) (hd : decode cc pc = .ok (.getfield idx, 3)) (hf : jtF (jkey y idx) = (2, T, k, fin)) : G2 d y pc L (o :: st) h = rR (jf (jc h o) T k) fun x => G2 d y (pc + 3) L (x :: st) h := by
  rw [g_ofH hc hd]; simp only [exi, hf, sA, jk_gdH, show Nat.beq 2 1 = false from rfl, show Nat.beq 2 2 = true from rfl, cond_false, cond_true, jk_rRH]; rfl
theorem g_putH {o v : Value} {idx tc k : Nat} {T : List Nat} (hc : jtCode y = cc) (hd : decode cc pc = .ok (.putfield idx, 3)) (hf : jtF (jkey y idx) = (tc, T, k, 0)) : G2 d y pc L (v :: o :: st) h = pF h o T k tc v fun h => G2 d y (pc + 3) L st h := by
  rw [g_ofH hc hd]; simp only [exi, hf, sA, jk_gdH]; exact jk_pFH
theorem g_putFH {o v : Value} {idx tc k fin : Nat} {T : List Nat} (hc : jtCode y = cc) (hd : decode cc pc = .ok (.putfield idx, 3)) (hf : jtF (jkey y idx) = (tc, T, k, fin)) (hy : (Nat.beq fin (y / 1000 + 1) && Nat.ble 900 (y % 1000)) = true) : G2 d y pc L (v :: o :: st) h = pF h o T k tc v fun h => G2 d y (pc + 3) L st h := by
  rw [g_ofH hc hd]; simp only [exi, hf, sA, jk_gdH, hy, Bool.or_true]; exact jk_pFH
theorem g_getsIH {idx : Nat} {n : Int} {x : Int32} (hc : jtCode y = cc) (hd : decode cc pc = .ok (.getstatic idx, 3)) (hf : jtS (jkey y idx) = (0, n)) (hx : Int32.ofInt n = x) : G2 d y pc L st h = G2 d y (pc + 3) L (.int x :: st) h := by
  subst hx; rw [g_ofH hc hd]; simp only [exi, hf]; rfl
theorem g_getsRH {idx : Nat} {n : Int} {k : Nat} (hc : jtCode y = cc) (hd : decode cc pc = .ok (.getstatic idx, 3)) (hf : jtS (jkey y idx) = (1, n)) (hk : n.toNat = k) : G2 d y pc L st h = rR (je h k) fun v => G2 d y (pc + 3) L (v :: st) h := by
  subst hk; rw [g_ofH hc hd]; simp only [exi, hf, jk_gdH, show Nat.beq 1 0 = false from rfl, show Nat.beq 1 1 = true from rfl, cond_false, cond_true, jk_rRH]; rfl
theorem g_ldcIH {idx : Nat} {n : Int} {x : Int32} (hc : jtCode y = cc) (hd : decode cc pc = .ok (.ldc idx, 2)) (hf : jtL (jkey y idx) = (0, n)) (hx : Int32.ofInt n = x) : G2 d y pc L st h = G2 d y (pc + 2) L (.int x :: st) h := by
  subst hx; rw [g_ofH hc hd]; simp only [exi, hf]; rfl
theorem g_ldcRH {idx : Nat} {n : Int} {k : Nat} (hc : jtCode y = cc) (hd : decode cc pc = .ok (.ldc idx, 2)) (hf : jtL (jkey y idx) = (1, n)) (hk : n.toNat = k) : G2 d y pc L st h = rR (je h k) fun v => G2 d y (pc + 2) L (v :: st) h := by
  subst hk; rw [g_ofH hc hd]; simp only [exi, hf, jk_gdH, show Nat.beq 1 0 = false from rfl, show Nat.beq 1 1 = true from rfl, cond_false, cond_true, jk_rRH]; rfl
theorem g_ldcwIH {idx : Nat} {n : Int} {x : Int32} (hc : jtCode y = cc) (hd : decode cc pc = .ok (.ldc_w idx, 3)) (hf : jtL (jkey y idx) = (0, n)) (hx : Int32.ofInt n = x) : G2 d y pc L st h = G2 d y (pc + 3) L (.int x :: st) h := by
  subst hx; rw [g_ofH hc hd]; simp only [exi, hf]; rfl
theorem g_ldcwRH {idx : Nat} {n : Int} {k : Nat} (hc : jtCode y = cc) (hd : decode cc pc = .ok (.ldc_w idx, 3)) (hf : jtL (jkey y idx) = (1, n)) (hk : n.toNat = k) (h47 : Nat.beq k 47 = false := by rfl) : G2 d y pc L st h = rR (je h k) fun v => G2 d y (pc + 3) L (v :: st) h := by
  subst hk; rw [g_ofH hc hd]; simp only [exi, hf, jk_gdH, show Nat.beq 1 0 = false from rfl, show Nat.beq 1 1 = true from rfl, h47, Bool.not_false, Bool.and_true, cond_false, cond_true, jk_rRH]; rfl
theorem g_ldc2H {idx : Nat} {x : Int64} (hc : jtCode y = cc) (hd : decode cc pc = .ok (.ldc2_w idx, 3)) (hf : jtL2 (jkey y idx) = some x) : G2 d y pc L st h = G2 d y (pc + 3) L (.long x :: st) h := by
  rw [g_ofH hc hd]; simp only [exi, hf]; rfl
theorem g_ialoadH {o : Value} {i : Int32} (hc : jtCode y = cc) (hd : decode cc pc = .ok (.iaload, 1)) : G2 d y pc L (.int i :: o :: st) h = aG h o [1000, 1001] i fun v => rI v fun x => G2 d y (pc + 1) L (.int x :: st) h := by
  rw [g_ofH hc hd]; simp only [exi, sA, sI, jk_gdH, jk_aGH, jk_rIH]; rfl
theorem g_baloadH {o : Value} {i : Int32} (hc : jtCode y = cc) (hd : decode cc pc = .ok (.baload, 1)) : G2 d y pc L (.int i :: o :: st) h = aG h o [1010, 1011, 1020] i fun v => rI v fun x => G2 d y (pc + 1) L (.int x :: st) h := by
  rw [g_ofH hc hd]; simp only [exi, sA, sI, jk_gdH, jk_aGH, jk_rIH]; rfl
theorem g_laloadH {o : Value} {i : Int32} (hc : jtCode y = cc) (hd : decode cc pc = .ok (.laload, 1)) : G2 d y pc L (.int i :: o :: st) h = aG h o [1030] i fun v => rJ v fun x => G2 d y (pc + 1) L (.long x :: st) h := by
  rw [g_ofH hc hd]; simp only [exi, sA, sI, jk_gdH, jk_aGH, jk_rJH]; rfl
theorem g_aaloadH {o : Value} {i : Int32} (hc : jtCode y = cc) (hd : decode cc pc = .ok (.aaload, 1)) : G2 d y pc L (.int i :: o :: st) h = aG h o [1040, 1041, 1050, 1060, 1071] i fun v => rR v fun x => G2 d y (pc + 1) L (x :: st) h := by
  rw [g_ofH hc hd]; simp only [exi, sA, sI, jk_gdH, jk_aGH, jk_rRH]; rfl
theorem g_iastoreH {o : Value} {i x : Int32} (hc : jtCode y = cc) (hd : decode cc pc = .ok (.iastore, 1)) : G2 d y pc L (.int x :: .int i :: o :: st) h = aS h o [1000] i (.int x) fun h => G2 d y (pc + 1) L st h := by
  rw [g_ofH hc hd]; simp only [exi, sA, sI, jk_gdH, jk_aSH]; rfl
theorem g_lastoreH {o : Value} {i : Int32} {x : Int64} (hc : jtCode y = cc) (hd : decode cc pc = .ok (.lastore, 1)) : G2 d y pc L (.long x :: .int i :: o :: st) h = aS h o [1030] i (.long x) fun h => G2 d y (pc + 1) L st h := by
  rw [g_ofH hc hd]; simp only [exi, sA, sI, sJ, jk_gdH, jk_aSH]; rfl
theorem g_bastoreH {o : Value} {i x : Int32} (hc : jtCode y = cc) (hd : decode cc pc = .ok (.bastore, 1)) : G2 d y pc L (.int x :: .int i :: o :: st) h = aSb h o i x fun h => G2 d y (pc + 1) L st h := by
  rw [g_ofH hc hd]
  simp only [exi, sA, sI, jk_gdH, aSb]
  cases hm : jc h o with
  | none => rfl
  | some c =>
    obtain ⟨t, n, f⟩ := c
    simp only []
    cases hb : Nat.beq t 1010 with
    | false => simp only [cond_false, jk_gdH, jk_aSH]; rfl
    | true => simp only [cond_true, jk_aSH]; rfl
theorem g_aastoreH {o v : Value} {i : Int32} (hc : jtCode y = cc) (hd : decode cc pc = .ok (.aastore, 1)) : G2 d y pc L (v :: .int i :: o :: st) h = aSr h o v i fun h => G2 d y (pc + 1) L st h := by
  rw [g_ofH hc hd]; simp only [exi, sA, sI, jk_gdH, jk_aSH, aSr]; rfl
theorem g_alenH {o : Value} (hc : jtCode y = cc) (hd : decode cc pc = .ok (.arraylength, 1)) : G2 d y pc L (o :: st) h = aL h o fun n => G2 d y (pc + 1) L (.int n :: st) h := by
  rw [g_ofH hc hd]; simp only [exi, sA, jk_gdH, jk_aLH]; rfl
theorem g_newIH {n : Int32} (hc : jtCode y = cc) (hd : decode cc pc = .ok (.newarray .int, 2)) : G2 d y pc L (.int n :: st) h = nA n (G2 d y (pc + 2) L (.ref h.1 :: st) (jpush h (1000, n.toNatClampNeg, fun _ => .int 0))) := by
  rw [g_ofH hc hd]; simp only [exi, sI, jk_gdH, nA]; by_cases h0 : n < 0 ∨ 60000000 ≤ n.toNatClampNeg <;> simp only [h0] <;> rfl
theorem g_newBH {n : Int32} (hc : jtCode y = cc) (hd : decode cc pc = .ok (.newarray .byte, 2)) : G2 d y pc L (.int n :: st) h = nA n (G2 d y (pc + 2) L (.ref h.1 :: st) (jpush h (1010, n.toNatClampNeg, fun _ => .int 0))) := by
  rw [g_ofH hc hd]; simp only [exi, sI, jk_gdH, nA]; by_cases h0 : n < 0 ∨ 60000000 ≤ n.toNatClampNeg <;> simp only [h0] <;> rfl
theorem g_newZH {n : Int32} (hc : jtCode y = cc) (hd : decode cc pc = .ok (.newarray .boolean, 2)) : G2 d y pc L (.int n :: st) h = nA n (G2 d y (pc + 2) L (.ref h.1 :: st) (jpush h (1020, n.toNatClampNeg, fun _ => .int 0))) := by
  rw [g_ofH hc hd]; simp only [exi, sI, jk_gdH, nA]; by_cases h0 : n < 0 ∨ 60000000 ≤ n.toNatClampNeg <;> simp only [h0] <;> rfl
theorem g_newJH {n : Int32} (hc : jtCode y = cc) (hd : decode cc pc = .ok (.newarray .long, 2)) : G2 d y pc L (.int n :: st) h = nA n (G2 d y (pc + 2) L (.ref h.1 :: st) (jpush h (1030, n.toNatClampNeg, fun _ => .long 0))) := by
  rw [g_ofH hc hd]; simp only [exi, sI, jk_gdH, nA]; by_cases h0 : n < 0 ∨ 60000000 ≤ n.toNatClampNeg <;> simp only [h0] <;> rfl
theorem g_newRH {n : Int32} {idx t : Nat} (hc : jtCode y = cc) (hd : decode cc pc = .ok (.anewarray idx, 3)) (ht : jtA (jkey y idx) = t) (ht0 : Nat.beq t 0 = false) : G2 d y pc L (.int n :: st) h = nA n (G2 d y (pc + 3) L (.ref h.1 :: st) (jpush h (t, n.toNatClampNeg, fun _ => .null))) := by
  have h1 : ¬ t = 0 := fun e => by subst e; cases ht0
  rw [g_ofH hc hd]; simp only [exi, sI, jk_gdH, nA, ht, h1, or_false]; by_cases h0 : n < 0 ∨ 60000000 ≤ n.toNatClampNeg <;> simp only [h0] <;> rfl
theorem g_pop_iH {a : Int32} (hc : jtCode y = cc) (hd : decode cc pc = .ok (.pop, 1)) : G2 d y pc L (.int a :: st) h = G2 d y (pc + 1) L st h := (g_ofH hc hd).trans rfl
theorem g_pop_rH {a : Nat} (hc : jtCode y = cc) (hd : decode cc pc = .ok (.pop, 1)) : G2 d y pc L (.ref a :: st) h = G2 d y (pc + 1) L st h := (g_ofH hc hd).trans rfl
theorem g_dup_x1_irH {a : Int32} {b : Nat} (hc : jtCode y = cc) (hd : decode cc pc = .ok (.dup_x1, 1)) : G2 d y pc L (.int a :: .ref b :: st) h = G2 d y (pc + 1) L (.int a :: .ref b :: .int a :: st) h := (g_ofH hc hd).trans rfl
theorem g_dup_x1_rrH {a b : Nat} (hc : jtCode y = cc) (hd : decode cc pc = .ok (.dup_x1, 1)) : G2 d y pc L (.ref a :: .ref b :: st) h = G2 d y (pc + 1) L (.ref a :: .ref b :: .ref a :: st) h := (g_ofH hc hd).trans rfl
theorem g_dup2_irH {a : Int32} {b : Nat} (hc : jtCode y = cc) (hd : decode cc pc = .ok (.dup2, 1)) : G2 d y pc L (.int a :: .ref b :: st) h = G2 d y (pc + 1) L (.int a :: .ref b :: .int a :: .ref b :: st) h := (g_ofH hc hd).trans rfl
theorem g_dup2_ivH {a : Int32} {v : Value} (hc : jtCode y = cc) (hd : decode cc pc = .ok (.dup2, 1)) : G2 d y pc L (.int a :: v :: st) h = ckW v (G2 d y (pc + 1) L (.int a :: v :: .int a :: v :: st) h) := by
  rw [g_ofH hc hd]; simp only [exi, sA, jk_gdH]; cases v <;> rfl
theorem g_zreturn0H (hc : jtCode y = cc) (hd : decode cc pc = .ok (.ireturn, 1)) (hr : jtRet y = some .boolean) : G2 d y pc L [.int 0] h = some (.inl (some (.int 0)), h) := by
  rw [g_ofH hc hd]; simp only [exi, hr]; rfl
theorem g_zreturn1H (hc : jtCode y = cc) (hd : decode cc pc = .ok (.ireturn, 1)) (hr : jtRet y = some .boolean) : G2 d y pc L [.int 1] h = some (.inl (some (.int 1)), h) := by
  rw [g_ofH hc hd]; simp only [exi, hr]; rfl
theorem g_areturn_rH {a : Nat} {o : String} (hc : jtCode y = cc) (hd : decode cc pc = .ok (.areturn, 1)) (hr : jtRet y = some (.object o)) : G2 d y pc L [.ref a] h = some (.inl (some (.ref a)), h) := by
  rw [g_ofH hc hd]; simp only [exi, hr]; rfl
theorem g_areturn_nH {o : String} (hc : jtCode y = cc) (hd : decode cc pc = .ok (.areturn, 1)) (hr : jtRet y = some (.object o)) : G2 d y pc L [.null] h = some (.inl (some .null), h) := by
  rw [g_ofH hc hd]; simp only [exi, hr]; rfl
theorem g_areturnA_rH {a : Nat} {t : FieldType} (hc : jtCode y = cc) (hd : decode cc pc = .ok (.areturn, 1)) (hr : jtRet y = some (.array t)) : G2 d y pc L [.ref a] h = some (.inl (some (.ref a)), h) := by
  rw [g_ofH hc hd]; simp only [exi, hr]; rfl
theorem g_aload_nNH {k : Fin 4} (hc : jtCode y = cc) (hd : decode cc pc = .ok (.aload_n k, 1)) (hl : lg L k = .null) : G2 d y pc L st h = G2 d y (pc + 1) L (.null :: st) h := by
  rw [g_ofH hc hd]; simp only [exi, hl]; rfl
theorem g_astore_nNH {k : Fin 4} {L' : List Value} (hc : jtCode y = cc) (hd : decode cc pc = .ok (.astore_n k, 1)) (hk : Nat.blt k L.length = true) (hL : L.set k .null = L') : G2 d y pc L (.null :: st) h = G2 d y (pc + 1) L' st h := by
  subst hL; rw [g_ofH hc hd]; simp only [exi, hk]; rfl
theorem g_astoreNH {k : Nat} {L' : List Value} (hc : jtCode y = cc) (hd : decode cc pc = .ok (.astore k, 2)) (hk : Nat.blt k L.length = true) (hL : L.set k .null = L') : G2 d y pc L (.null :: st) h = G2 d y (pc + 2) L' st h := by
  subst hL; rw [g_ofH hc hd]; simp only [exi, hk]; rfl
theorem g_acmp_eq_rrH {a b : Nat} {off : Int} {tgt : Nat} (hc : jtCode y = cc) (hd : decode cc pc = .ok (.if_acmp .eq off, 3)) (ht : (pc : Int) + off = (tgt : Int)) : G2 d y pc L (.ref b :: .ref a :: st) h = if (Value.ref a) = .ref b then G2 d y tgt L st h else G2 d y (pc + 3) L st h := (g_acmp_eqH hc hd ht).trans rfl
theorem g_acmp_ne_rrH {a b : Nat} {off : Int} {tgt : Nat} (hc : jtCode y = cc) (hd : decode cc pc = .ok (.if_acmp .ne off, 3)) (ht : (pc : Int) + off = (tgt : Int)) : G2 d y pc L (.ref b :: .ref a :: st) h = if (Value.ref a) = .ref b then G2 d y (pc + 3) L st h else G2 d y tgt L st h := (g_acmp_neH hc hd ht).trans rfl
theorem g_newH {idx t n : Nat} {l : List Value} (hc : jtCode y = cc) (hd : decode cc pc = .ok (.new idx, 3)) (hf : jtN (jkey y idx) = (t, n, l)) (h0 : (Nat.beq t 66 || Nat.beq t 0) = false) : G2 d y pc L st h = G2 d y (pc + 3) L (.ref h.1 :: st) (jpush h (t, n, jL l)) := by
  have h1 : ¬ t = 66 := fun e => by subst e; cases h0
  have h2 : ¬ t = 0 := fun e => by subst e; cases h0
  have h3 : Nat.beq t 66 = false := by cases hb : Nat.beq t 66 with | false => rfl | true => exact absurd (Nat.eq_of_beq_eq_true hb) h1
  rw [g_ofH hc hd]; simp only [exi, hf, jnew, jk_gdH, h1, h2, h3, if_false, Bool.not_false, Bool.true_or, Bool.and_true]; rfl
/-- what an exception e does at pc where no handler's range is -/
theorem jthrow_outH {e : Nat} (hh : (jtH y).find? (fun x => Nat.ble x.1 pc && Nat.blt pc x.2.1) = none) : jkH d y (jthrow y pc L h e) = cX e h := by
  simp only [jthrow, hh]; rfl
theorem jthrow_inH {e a b t : Nat} {T : List Nat} (hh : (jtH y).find? (fun x => Nat.ble x.1 pc && Nat.blt pc x.2.1) = some (a, b, t, T)) : jkH d y (jthrow y pc L h e) = hK h e T (G2 d y t L [.ref e] h) := by
  simp only [jthrow, hh, hK]
  cases hm : jm h e with
  | none => rfl
  | some c => obtain ⟨t0, n, f⟩ := c; simp only []; split <;> rfl
theorem g_throwNewH {idx n : Nat} {l : List Value} (hc : jtCode y = cc) (hd : decode cc pc = .ok (.new idx, 3)) (hf : jtN (jkey y idx) = (66, n, l)) (hh : (jtH y).find? (fun x => Nat.ble x.1 (pc + 7) && Nat.blt (pc + 7) x.2.1) = none) (h66 : chk66 y pc = true) : G2 d y pc L [] h = cX h.1 (jpush h (66, n, jL l)) := by
  rw [g_ofH hc hd]; simp only [exi, hf, jk_gdH, h66, Bool.or_true, Bool.and_true]; exact jthrow_outH hh
theorem g_athrowH {e : Nat} (hc : jtCode y = cc) (hd : decode cc pc = .ok (.athrow, 1)) (hh : (jtH y).find? (fun x => Nat.ble x.1 pc && Nat.blt pc x.2.1) = none) : G2 d y pc L (.ref e :: st) h = aT h e (cX e h) := by
  rw [g_ofH hc hd]; simp only [exi, jk_gdH, aT]
  cases jm h e with
  | none => rfl
  | some c =>
    obtain ⟨t, n, f⟩ := c
    simp only []
    split
    · exact jthrow_outH hh
    · rfl
theorem g_castH {v : Value} {idx : Nat} {T T2 : List Nat} (hc : jtCode y = cc) (hd : decode cc pc = .ok (.checkcast idx, 3)) (hf : jtK (jkey y idx) = (T, T2)) : G2 d y pc L (v :: st) h = cK h v T (G2 d y (pc + 3) L (v :: st) h) := by
  rw [g_ofH hc hd]; simp only [exi, sA, hf, jk_gdH, jk_cKH]; rfl
theorem g_instH {v : Value} {idx : Nat} {T T2 : List Nat} (hc : jtCode y = cc) (hd : decode cc pc = .ok (.instanceof idx, 3)) (hf : jtK (jkey y idx) = (T, T2)) : G2 d y pc L (v :: st) h = iK h v T T2 fun x => G2 d y (pc + 3) L (.int x :: st) h := by
  rw [g_ofH hc hd]; simp only [exi, sA, hf, jk_gdH, jk_iKH]; rfl
theorem jback_IH {q : Nat} {rest : List Value} {r : Rz} {κx : Nat → AH → Rz} (hx : ∀ e h, jkH d y (jthrow y pc L h e) = κx e h) : jkH d y (jback y pc q L rest 0 r) = cIx r (fun x h => G2 d y q L (.int x :: rest) h) κx := by
  cases r with
  | none => rfl
  | some z =>
    obtain ⟨o, h⟩ := z
    cases o with
    | inr e => exact hx e h
    | inl v =>
      cases v with
      | none => rfl
      | some v => cases v <;> rfl
theorem jback_JH {q : Nat} {rest : List Value} {r : Rz} {κx : Nat → AH → Rz} (hx : ∀ e h, jkH d y (jthrow y pc L h e) = κx e h) : jkH d y (jback y pc q L rest 1 r) = cJx r (fun x h => G2 d y q L (.long x :: rest) h) κx := by
  cases r with
  | none => rfl
  | some z =>
    obtain ⟨o, h⟩ := z
    cases o with
    | inr e => exact hx e h
    | inl v =>
      cases v with
      | none => rfl
      | some v => cases v <;> rfl
theorem jback_RH {q : Nat} {rest : List Value} {r : Rz} {κx : Nat → AH → Rz} (hx : ∀ e h, jkH d y (jthrow y pc L h e) = κx e h) : jkH d y (jback y pc q L rest 2 r) = cRx r (fun x h => G2 d y q L (x :: rest) h) κx := by
  cases r with
  | none => rfl
  | some z =>
    obtain ⟨o, h⟩ := z
    cases o with
    | inr e => exact hx e h
    | inl v =>
      cases v with
      | none => rfl
      | some v => cases v <;> rfl
theorem jback_VH {q : Nat} {rest : List Value} {r : Rz} {κx : Nat → AH → Rz} (hx : ∀ e h, jkH d y (jthrow y pc L h e) = κx e h) : jkH d y (jback y pc q L rest 3 r) = cVx r (fun h => G2 d y q L rest h) κx := by
  cases r with
  | none => rfl
  | some z =>
    obtain ⟨o, h⟩ := z
    cases o with
    | inr e => exact hx e h
    | inl v =>
      cases v with
      | none => rfl
      | some v => cases v <;> rfl
/-- the method's callee, by its row -/
noncomputable def MrH (d : Nat) (r : Nat × Nat × Nat × Nat) (as : List Value) (h : AH) : Rz := bif (Nat.beq r.1 2 || Nat.beq r.1 6) then MvH d r.2.1 as h else M2 d r.2.1 as h
theorem jcall_eqH {q : Nat} {r : Nat × Nat × Nat × Nat} {ok : Bool} {as rest : List Value} (hok : ok = true) (hst : st = as.reverse ++ rest) (hn : as.length = jargs r) (hl : Nat.ble rest.length 10 = true) : jkH d y (jcall (M2 d) y pc q L st h r ok) = jkH d y (jback y pc q L rest r.2.2.2 (MrH d r as h)) := by
  have h1 : st.take (jargs r) = as.reverse := by rw [hst, ← hn]; simp
  have h2 : st.drop (jargs r) = rest := by rw [hst, ← hn]; simp
  have h3 : Nat.ble (jargs r) st.length = true := Nat.ble_eq_true_of_le (by rw [hst, ← hn]; simp)
  have h4 : Nat.ble st.length (jargs r + 10) = true := Nat.ble_eq_true_of_le (by have := Nat.le_of_ble_eq_true hl; rw [hst, ← hn]; simp; omega)
  simp only [jcall, hok, h1, h2, h3, h4, List.reverse_reverse, Bool.and_self, gd, if_true]
  unfold jtgt MrH
  cases hb : (Nat.beq r.1 2 || Nat.beq r.1 6) with
  | false => rfl
  | true =>
    simp only [cond_true, MvH]
    cases as with
    | nil => rfl
    | cons v l =>
      cases v with
      | ref a =>
        simp only []
        cases hm : jm h a with
        | none => rfl
        | some c => rfl
      | _ => rfl
theorem g_staticH {idx : Nat} {r : Nat × Nat × Nat × Nat} {as rest : List Value} (hc : jtCode y = cc) (hd : decode cc pc = .ok (.invokestatic idx, 3)) (hr : jtC (jkey y idx) = r) (hok : (Nat.beq 3 3 && (Nat.beq r.1 0 || (Nat.beq r.1 3 && Nat.beq r.2.1 90001))) = true) (hst : st = as.reverse ++ rest) (hn : as.length = jargs r) (hl : Nat.ble rest.length 10 = true) : G2 d y pc L st h = jkH d y (jback y pc (pc + 3) L rest r.2.2.2 (MrH d r as h)) := by
  subst hr; exact (g_ofH hc hd).trans (jcall_eqH hok hst hn hl)
theorem g_specialH {idx : Nat} {r : Nat × Nat × Nat × Nat} {as rest : List Value} (hc : jtCode y = cc) (hd : decode cc pc = .ok (.invokespecial idx, 3)) (hr : jtC (jkey y idx) = r) (hok : (Nat.beq 3 3 && (Nat.beq r.1 4 || Nat.beq r.1 5 || (Nat.beq r.1 3 && Nat.beq r.2.1 90000))) = true) (hst : st = as.reverse ++ rest) (hn : as.length = jargs r) (hl : Nat.ble rest.length 10 = true) : G2 d y pc L st h = jkH d y (jback y pc (pc + 3) L rest r.2.2.2 (MrH d r as h)) := by
  subst hr; exact (g_ofH hc hd).trans (jcall_eqH hok hst hn hl)
theorem g_virtualH {idx : Nat} {r : Nat × Nat × Nat × Nat} {as rest : List Value} (hc : jtCode y = cc) (hd : decode cc pc = .ok (.invokevirtual idx, 3)) (hr : jtC (jkey y idx) = r) (hok : (Nat.beq 3 3 && (Nat.beq r.1 1 || Nat.beq r.1 2 || (Nat.beq r.1 3 && Nat.beq r.2.1 90002) || (Nat.beq r.1 3 && Nat.beq r.2.1 90003))) = true) (hst : st = as.reverse ++ rest) (hn : as.length = jargs r) (hl : Nat.ble rest.length 10 = true) : G2 d y pc L st h = jkH d y (jback y pc (pc + 3) L rest r.2.2.2 (MrH d r as h)) := by
  subst hr; exact (g_ofH hc hd).trans (jcall_eqH hok hst hn hl)
theorem g_faceH {idx n : Nat} {r : Nat × Nat × Nat × Nat} {as rest : List Value} (hc : jtCode y = cc) (hd : decode cc pc = .ok (.invokeinterface idx n, 5)) (hr : jtC (jkey y idx) = r) (hok : (Nat.beq 5 5 && Nat.beq r.1 6) = true) (hst : st = as.reverse ++ rest) (hn : as.length = jargs r) (hl : Nat.ble rest.length 10 = true) : G2 d y pc L st h = jkH d y (jback y pc (pc + 5) L rest r.2.2.2 (MrH d r as h)) := by
  subst hr; exact (g_ofH hc hd).trans (jcall_eqH hok hst hn hl)
theorem g_lookupH {dd : Int} {ps : Array (Int × Int)} {x : Int32} {tl : List (Int × Nat)} {td : Nat} (hc : jtCode y = cc) (hd : ∃ len, decode cc pc = .ok (.lookupswitch dd ps, len)) (h0 : decide (0 ≤ (pc : Int) + dd) = true) (h1 : ps.toList.all (fun p => decide (0 ≤ (pc : Int) + p.2)) = true) (h2 : (ps.toList.zip (ps.toList.drop 1)).all (fun (a, next) => a.1 < next.1) = true)
    (htl : (ps.toList.map fun p => (p.1, ((pc : Int) + p.2).toNat)) = tl) (htd : ((pc : Int) + dd).toNat = td) : G2 d y pc L (.int x :: st) h = G2 d y (lkT x tl td) L st h := by
  obtain ⟨len, hd⟩ := hd
  rw [g_ofH hc hd, ← lkT_eq htd htl]
  simp only [exi, sI, h2, decide_eq_true (lk_pos (k := x.toInt) (of_decide_eq_true h0) h1)]
  rfl
theorem g_switchH {dd lo hi : Int} {ts : Array Int} {x a b : Int32} {tl : List Nat} {td : Nat} (hc : jtCode y = cc) (hd : ∃ len, decode cc pc = .ok (.tableswitch dd lo hi ts, len)) (hok : (decide (0 ≤ (pc : Int) + dd) && ts.toList.all (fun t => decide (0 ≤ (pc : Int) + t)) && decide (-1000 ≤ lo ∧ hi < 1000 ∧ (ts.size : Int) = hi - lo + 1)) = true)
    (ha : Int32.ofInt lo = a) (hb : Int32.ofInt hi = b) (htl : (ts.toList.map fun t => ((pc : Int) + t).toNat) = tl) (htd : ((pc : Int) + dd).toNat = td) : G2 d y pc L (.int x :: st) h = G2 d y (swT x a b tl td) L st h := by
  obtain ⟨len, hd⟩ := hd
  subst ha; subst hb; subst htl; subst htd
  rw [g_ofH hc hd]; simp only [exi, sI, hok]; rfl
end
