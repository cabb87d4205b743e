/-! THE SIMULATION, II: one instruction -/
/-- the constants of the launch -/
def EnvOk (s0 : State) (E : Nat → Value) : Prop :=
  (∀ r ∈ jtSI, va_Z r.1 r.2.1 r.2.2.1 (.int (Int32.ofInt r.2.2.2)) (fun q => s0.heap.size ≤ q) s0 s0.heap) ∧ (∀ r ∈ jtSE, va_Z r.1 r.2.1 r.2.2.1 (E r.2.2.2) (fun q => s0.heap.size ≤ q) s0 s0.heap) ∧
  (∀ r ∈ jtStr, ∃ a, E r.2.2 = .ref a ∧ vk_R (jown r.1) (jidx r.1) r.2.1 a s0) ∧ ∃ mi, E 47 = .ref mi ∧ va_Mi "[Ljava/lang/Object;" mi s0
/-- what holds all through a method's run -/
abbrev JF (s0 : State) (args0 : Array Value) (E : Nat → Value) (p : Program) (l : Launch) (R : Room) (s : State) (m : MethodId) (meth : Method) (c : Code) (y : Nat) : Prop :=
  (∀ w ∈ lw_tbl, w.before args0 s0 = true) ∧
  (EnvOk s0 E) ∧
  (s0.WarmedH s.vm) ∧
  (p.tables.exec = Jvm.exec) ∧
  (c.code = jtCode y) ∧
  (c.maxLocals = jtML y) ∧
  (s.vm.findClass (jtCls (y / 1000)) = some m.cls) ∧
  (jtCode y = ⟨#[]⟩ ∨ meth.name = (jtName y).1) ∧
  (meth.sig.returnType = jtRet y) ∧
  (meth.locks = false) ∧
  (c.exceptionTable.toList = tableOf (jtHR y)) ∧
  (l.stackTraces = false)
theorem JF.tbl {s0 : State} {args0 : Array Value} {E : Nat → Value} {p : Program} {l : Launch} {R : Room} {s : State} {m : MethodId} {meth : Method} {c : Code} {y : Nat} (F : JF s0 args0 E p l R s m meth c y) : ∀ w ∈ lw_tbl, w.before args0 s0 = true := F.1
theorem JF.env {s0 : State} {args0 : Array Value} {E : Nat → Value} {p : Program} {l : Launch} {R : Room} {s : State} {m : MethodId} {meth : Method} {c : Code} {y : Nat} (F : JF s0 args0 E p l R s m meth c y) : EnvOk s0 E := F.2.1
theorem JF.warm {s0 : State} {args0 : Array Value} {E : Nat → Value} {p : Program} {l : Launch} {R : Room} {s : State} {m : MethodId} {meth : Method} {c : Code} {y : Nat} (F : JF s0 args0 E p l R s m meth c y) : s0.WarmedH s.vm := F.2.2.1
theorem JF.exec {s0 : State} {args0 : Array Value} {E : Nat → Value} {p : Program} {l : Launch} {R : Room} {s : State} {m : MethodId} {meth : Method} {c : Code} {y : Nat} (F : JF s0 args0 E p l R s m meth c y) : p.tables.exec = Jvm.exec := F.2.2.2.1
theorem JF.code {s0 : State} {args0 : Array Value} {E : Nat → Value} {p : Program} {l : Launch} {R : Room} {s : State} {m : MethodId} {meth : Method} {c : Code} {y : Nat} (F : JF s0 args0 E p l R s m meth c y) : c.code = jtCode y := F.2.2.2.2.1
theorem JF.maxL {s0 : State} {args0 : Array Value} {E : Nat → Value} {p : Program} {l : Launch} {R : Room} {s : State} {m : MethodId} {meth : Method} {c : Code} {y : Nat} (F : JF s0 args0 E p l R s m meth c y) : c.maxLocals = jtML y := F.2.2.2.2.2.1
theorem JF.own {s0 : State} {args0 : Array Value} {E : Nat → Value} {p : Program} {l : Launch} {R : Room} {s : State} {m : MethodId} {meth : Method} {c : Code} {y : Nat} (F : JF s0 args0 E p l R s m meth c y) : s.vm.findClass (jtCls (y / 1000)) = some m.cls := F.2.2.2.2.2.2.1
theorem JF.name {s0 : State} {args0 : Array Value} {E : Nat → Value} {p : Program} {l : Launch} {R : Room} {s : State} {m : MethodId} {meth : Method} {c : Code} {y : Nat} (F : JF s0 args0 E p l R s m meth c y) : jtCode y = ⟨#[]⟩ ∨ meth.name = (jtName y).1 := F.2.2.2.2.2.2.2.1
theorem JF.ret {s0 : State} {args0 : Array Value} {E : Nat → Value} {p : Program} {l : Launch} {R : Room} {s : State} {m : MethodId} {meth : Method} {c : Code} {y : Nat} (F : JF s0 args0 E p l R s m meth c y) : meth.sig.returnType = jtRet y := F.2.2.2.2.2.2.2.2.1
theorem JF.locks {s0 : State} {args0 : Array Value} {E : Nat → Value} {p : Program} {l : Launch} {R : Room} {s : State} {m : MethodId} {meth : Method} {c : Code} {y : Nat} (F : JF s0 args0 E p l R s m meth c y) : meth.locks = false := F.2.2.2.2.2.2.2.2.2.1
theorem JF.tab {s0 : State} {args0 : Array Value} {E : Nat → Value} {p : Program} {l : Launch} {R : Room} {s : State} {m : MethodId} {meth : Method} {c : Code} {y : Nat} (F : JF s0 args0 E p l R s m meth c y) : c.exceptionTable.toList = tableOf (jtHR y) := F.2.2.2.2.2.2.2.2.2.2.1
theorem JF.trace {s0 : State} {args0 : Array Value} {E : Nat → Value} {p : Program} {l : Launch} {R : Room} {s : State} {m : MethodId} {meth : Method} {c : Code} {y : Nat} (F : JF s0 args0 E p l R s m meth c y) : l.stackTraces = false := F.2.2.2.2.2.2.2.2.2.2.2
/-- where a method's run stands -/
abbrev CF (s0 : State) (E : Nat → Value) (n0 m0 y : Nat) (h : AH) (H : Heap) (L st : List Value) (ls : Array Slot) (locs : List Loc) : Prop :=
  (RpH s0 E h H) ∧
  (LVr ls L (jtML y)) ∧
  (∀ z ∈ locs, s0.heap.size ≤ z.base) ∧
  (∀ v ∈ st, okV v = true) ∧
  (n0 ≤ h.1) ∧
  (m0 ≤ h.2.1)
theorem CF.rp {s0 : State} {E : Nat → Value} {n0 m0 y : Nat} {h : AH} {H : Heap} {L st : List Value} {ls : Array Slot} {locs : List Loc} (F : CF s0 E n0 m0 y h H L st ls locs) : RpH s0 E h H := F.1
theorem CF.lv {s0 : State} {E : Nat → Value} {n0 m0 y : Nat} {h : AH} {H : Heap} {L st : List Value} {ls : Array Slot} {locs : List Loc} (F : CF s0 E n0 m0 y h H L st ls locs) : LVr ls L (jtML y) := F.2.1
theorem CF.fr {s0 : State} {E : Nat → Value} {n0 m0 y : Nat} {h : AH} {H : Heap} {L st : List Value} {ls : Array Slot} {locs : List Loc} (F : CF s0 E n0 m0 y h H L st ls locs) : ∀ z ∈ locs, s0.heap.size ≤ z.base := F.2.2.1
theorem CF.ok {s0 : State} {E : Nat → Value} {n0 m0 y : Nat} {h : AH} {H : Heap} {L st : List Value} {ls : Array Slot} {locs : List Loc} (F : CF s0 E n0 m0 y h H L st ls locs) : ∀ v ∈ st, okV v = true := F.2.2.2.1
theorem CF.gn {s0 : State} {E : Nat → Value} {n0 m0 y : Nat} {h : AH} {H : Heap} {L st : List Value} {ls : Array Slot} {locs : List Loc} (F : CF s0 E n0 m0 y h H L st ls locs) : n0 ≤ h.1 := F.2.2.2.2.1
theorem CF.gm {s0 : State} {E : Nat → Value} {n0 m0 y : Nat} {h : AH} {H : Heap} {L st : List Value} {ls : Array Slot} {locs : List Loc} (F : CF s0 E n0 m0 y h H L st ls locs) : m0 ≤ h.2.1 := F.2.2.2.2.2
theorem CF.stk {s0 : State} {E : Nat → Value} {n0 m0 y : Nat} {h : AH} {H : Heap} {L st st' : List Value} {ls : Array Slot} {locs : List Loc} (C : CF s0 E n0 m0 y h H L st ls locs) (ho : ∀ v ∈ st', okV v = true) : CF s0 E n0 m0 y h H L st' ls locs := ⟨C.rp, C.lv, C.fr, ho, C.gn, C.gm⟩
theorem CF.lvs {s0 : State} {E : Nat → Value} {n0 m0 y : Nat} {h : AH} {H : Heap} {L st L' st' : List Value} {ls ls' : Array Slot} {locs : List Loc} (C : CF s0 E n0 m0 y h H L st ls locs) (hl : LVr ls' L' (jtML y)) (ho : ∀ v ∈ st', okV v = true) : CF s0 E n0 m0 y h H L' st' ls' locs := ⟨C.rp, hl, C.fr, ho, C.gn, C.gm⟩
theorem CF.set {s0 : State} {E : Nat → Value} {n0 m0 y : Nat} {h : AH} {H H' : Heap} {L st st' : List Value} {ls : Array Slot} {locs : List Loc} (C : CF s0 E n0 m0 y h H L st ls locs) {a t n i : Nat} {f f' : Nat → Value} (hm : mutT t = true) (hc : jm h a = some (t, n, f)) (hck : ck s0 s0.heap.size a (t, n, f') H') (hs : H'.size = H.size) (ho : ∀ q : Nat, q ≠ a → H'[q]? = H[q]?) (hk : Kp H H') (hok : ∀ v ∈ st', okV v = true) :
    CF s0 E n0 m0 y (jset h a (t, n, f')) H' L st' ls (locs ++ [⟨a, i⟩]) := by
  refine ⟨RpH_set C.rp hm hc hck hs ho hk, C.lv, fun z hz => ?_, hok, C.gn, C.gm⟩
  rcases List.mem_append.mp hz with h1 | h1
  · exact C.fr z h1
  · obtain ⟨ce, g1, -, -, g4, -⟩ := C.rp.2.2.2.2 a _ hc
    rw [List.mem_singleton.mp h1]
    exact (g4 hm).2
theorem CF.push {s0 : State} {E : Nat → Value} {n0 m0 y : Nat} {h : AH} {H : Heap} {L st st' : List Value} {ls : Array Slot} {locs : List Loc} (C : CF s0 E n0 m0 y h H L st ls locs) {cl : Cl} {ce : Cell} (hck : ck s0 s0.heap.size H.size cl (H.push ce)) (hok : ∀ v ∈ st', okV v = true) :
    CF s0 E n0 m0 y (jpush h cl) (H.push ce) L st' ls locs :=
  ⟨RpH_push C.rp hck, C.lv, C.fr, hok, Nat.le_succ_of_le C.gn, Nat.le_trans C.gm (Nat.le_add_right _ _)⟩
/-! inversions -/
theorem gd_inl {β : Type} {b : Bool} {r : Option β} {z : β} (h : gd b r = some z) : b = true ∧ r = some z := by
  unfold gd at h
  by_cases hb : b = true
  · rw [if_pos hb] at h; exact ⟨hb, h⟩
  · rw [if_neg hb] at h; cases h
theorem sA_inl {st : List Value} {κ : Value → List Value → Rs} {z : Cf ⊕ (Out × AH)} (h : sA st κ = some z) : ∃ v r, st = v :: r ∧ κ v r = some z := by
  cases st with
  | nil => cases h
  | cons v r => exact ⟨v, r, rfl, h⟩
theorem sI_inl {st : List Value} {κ : Int32 → List Value → Rs} {z : Cf ⊕ (Out × AH)} (h : sI st κ = some z) : ∃ v r, st = .int v :: r ∧ κ v r = some z := by
  cases st with
  | nil => cases h
  | cons v r =>
    cases v with
    | int x => exact ⟨x, r, rfl, h⟩
    | _ => cases h
theorem sJ_inl {st : List Value} {κ : Int64 → List Value → Rs} {z : Cf ⊕ (Out × AH)} (h : sJ st κ = some z) : ∃ v r, st = .long v :: r ∧ κ v r = some z := by
  cases st with
  | nil => cases h
  | cons v r =>
    cases v with
    | long x => exact ⟨x, r, rfl, h⟩
    | _ => cases h
theorem rI_inl {β : Type} {v : Value} {κ : Int32 → Option β} {z : β} (h : rI v κ = some z) : ∃ x, v = .int x ∧ κ x = some z := by
  cases v with
  | int x => exact ⟨x, rfl, h⟩
  | _ => cases h
theorem rJ_inl {β : Type} {v : Value} {κ : Int64 → Option β} {z : β} (h : rJ v κ = some z) : ∃ x, v = .long x ∧ κ x = some z := by
  cases v with
  | long x => exact ⟨x, rfl, h⟩
  | _ => cases h
theorem rR_inl {β : Type} {v : Value} {κ : Value → Option β} {z : β} (h : rR v κ = some z) : isR v = true ∧ κ v = some z := by
  cases v with
  | null => exact ⟨rfl, h⟩
  | ref a => exact ⟨rfl, h⟩
  | _ => cases h
theorem sR_inl {st : List Value} {κ : Value → List Value → Rs} {z : Cf ⊕ (Out × AH)} (h : sR st κ = some z) : ∃ v r, st = v :: r ∧ isR v = true ∧ κ v r = some z := by
  cases st with
  | nil => cases h
  | cons v r => exact ⟨v, r, rfl, rR_inl (κ := fun v => κ v r) h⟩
theorem isR_inv {v : Value} (h : isR v = true) : v = .null ∨ ∃ a, v = .ref a := by
  cases v with
  | null => exact Or.inl rfl
  | ref a => exact Or.inr ⟨a, rfl⟩
  | _ => cases h
theorem and_inv {a b : Bool} (h : (a && b) = true) : a = true ∧ b = true := by simpa using h
theorem blt_inv {a b : Nat} (h : Nat.blt a b = true) : a < b := Nat.le_of_ble_eq_true h
theorem okc {v : Value} {r : List Value} (h : okV v = true) (hr : ∀ w ∈ r, okV w = true) : ∀ w ∈ v :: r, okV w = true := List.forall_mem_cons.mpr ⟨h, hr⟩
theorem okt {v : Value} {r : List Value} (h : ∀ w ∈ v :: r, okV w = true) : ∀ w ∈ r, okV w = true := fun w hw => h w (List.mem_cons_of_mem _ hw)
theorem cat1 {v : Value} (h : (isI v || isR v) = true) : v.category = 1 := by cases v <;> first | rfl | cases h
theorem okR {v : Value} (h : isR v = true) : okV v = true := by cases v <;> first | rfl | cases h
theorem jmp {pc : Nat} {off : Int} (g : decide (0 ≤ (pc : Int) + off) = true) : (pc : Int) + off = ((((pc : Int) + off).toNat : Nat) : Int) := by
  have := of_decide_eq_true g
  omega
theorem nx_inl {pc pc2 : Nat} {L L2 st st2 : List Value} {h h2 : AH} (q : nx pc L st h = some (.inl (pc2, L2, st2, h2))) : pc = pc2 ∧ L = L2 ∧ st = st2 ∧ h = h2 := by
  have q' : (some (.inl (pc, L, st, h)) : Rs) = some (.inl (pc2, L2, st2, h2)) := q
  simp only [Option.some.injEq, Sum.inl.injEq, Prod.mk.injEq] at q'
  exact q'
theorem jbr_t {b : Bool} {pc : Nat} {off : Int} {L st : List Value} {h : AH} {z : Cf ⊕ (Out × AH)} (hb : b = true) (q : jbr b pc off L st h = some z) : decide (0 ≤ (pc : Int) + off) = true ∧ nx ((pc : Int) + off).toNat L st h = some z := by
  subst hb
  exact gd_inl q
theorem jbr_f {b : Bool} {pc : Nat} {off : Int} {L st : List Value} {h : AH} {z : Cf ⊕ (Out × AH)} (hb : b = false) (q : jbr b pc off L st h = some z) : nx (pc + 3) L st h = some z := by
  subst hb
  exact q
theorem jf_inl {h : AH} {o v : Value} {T : List Nat} {k : Nat} (e : jf (jc h o) T k = v) (hv : okV v = true) : ∃ a t n f, o = .ref a ∧ jm h a = some (t, n, f) ∧ t ∈ T ∧ f k = v := by
  cases o with
  | ref a =>
    have e' : jf (jm h a) T k = v := e
    cases hc : jm h a with
    | none => rw [hc] at e'; subst e'; cases hv
    | some c =>
      obtain ⟨t, n, f⟩ := c
      rw [hc] at e'
      have e2 : (if t ∈ T then f k else jno) = v := e'
      by_cases ht : t ∈ T
      · rw [if_pos ht] at e2; exact ⟨a, t, n, f, rfl, hc, ht, e2⟩
      · rw [if_neg ht] at e2; subst e2; cases hv
  | _ => subst e; cases hv
theorem pF_inl {β : Type} {h : AH} {o v : Value} {T : List Nat} {k tc : Nat} {κ : AH → Option β} {z : β} (e : pF h o T k tc v κ = some z) : ∃ a t n f, o = .ref a ∧ jm h a = some (t, n, f) ∧ t ∈ T ∧ t < 100 ∧ okF tc v = true ∧ κ (jset h a (t, n, ju f k v)) = some z := by
  cases o with
  | ref a =>
    cases hc : jm h a with
    | none => simp only [pF, hc] at e; cases e
    | some c =>
      obtain ⟨t, n, f⟩ := c
      simp only [pF, hc] at e
      by_cases ht : t ∈ T ∧ t < 100 ∧ okF tc v = true
      · rw [if_pos ht] at e; exact ⟨a, t, n, f, rfl, hc, ht.1, ht.2.1, ht.2.2, e⟩
      · rw [if_neg ht] at e; cases e
  | _ => cases e
theorem aG_inl {β : Type} {h : AH} {o : Value} {T : List Nat} {i : Int32} {κ : Value → Option β} {z : β} (e : aG h o T i κ = some z) : ∃ a t n f, o = .ref a ∧ jm h a = some (t, n, f) ∧ t ∈ T ∧ ¬ (i < 0 ∨ n ≤ i.toNatClampNeg) ∧ κ (f i.toNatClampNeg) = some z := by
  cases o with
  | ref a =>
    cases hc : jm h a with
    | none => simp only [aG, hc] at e; cases e
    | some c =>
      obtain ⟨t, n, f⟩ := c
      simp only [aG, hc] at e
      by_cases ht : t ∈ T ∧ ¬ (i < 0 ∨ n ≤ i.toNatClampNeg)
      · rw [if_pos ht] at e; exact ⟨a, t, n, f, rfl, hc, ht.1, ht.2, e⟩
      · rw [if_neg ht] at e; cases e
  | _ => cases e
theorem aS_inl {β : Type} {h : AH} {o v : Value} {T : List Nat} {i : Int32} {κ : AH → Option β} {z : β} (e : aS h o T i v κ = some z) : ∃ a t n f, o = .ref a ∧ jm h a = some (t, n, f) ∧ t ∈ T ∧ ¬ (i < 0 ∨ n ≤ i.toNatClampNeg) ∧ κ (jset h a (t, n, ju f i.toNatClampNeg v)) = some z := by
  cases o with
  | ref a =>
    cases hc : jm h a with
    | none => simp only [aS, hc] at e; cases e
    | some c =>
      obtain ⟨t, n, f⟩ := c
      simp only [aS, hc] at e
      by_cases ht : t ∈ T ∧ ¬ (i < 0 ∨ n ≤ i.toNatClampNeg)
      · rw [if_pos ht] at e; exact ⟨a, t, n, f, rfl, hc, ht.1, ht.2, e⟩
      · rw [if_neg ht] at e; cases e
  | _ => cases e
theorem aL_inl {β : Type} {h : AH} {o : Value} {κ : Int32 → Option β} {z : β} (e : aL h o κ = some z) : ∃ a t n f, o = .ref a ∧ jm h a = some (t, n, f) ∧ 1000 ≤ t ∧ κ n.toInt32 = some z := by
  cases o with
  | ref a =>
    cases hc : jm h a with
    | none => simp only [aL, hc] at e; cases e
    | some c =>
      obtain ⟨t, n, f⟩ := c
      simp only [aL, hc] at e
      by_cases ht : 1000 ≤ t
      · rw [if_pos ht] at e; exact ⟨a, t, n, f, rfl, hc, ht, e⟩
      · rw [if_neg ht] at e; cases e
  | _ => cases e
theorem okF_fits {ty : FieldType} {tc : Nat} {v : Value} (ht : tcOf ty = tc) (h : okF tc v = true) : narrow ty v = v ∧ fits ty v = true := by
  subst ht
  cases ty with
  | int => cases v with
    | int x => exact ⟨rfl, rfl⟩
    | _ => simp [okF, tcOf] at h
  | long => cases v with
    | long x => exact ⟨rfl, rfl⟩
    | _ => simp [okF, tcOf] at h
  | boolean => cases v with
    | int x =>
      simp [okF, tcOf] at h
      have e : narrow .boolean (.int x) = .int x := by rcases h with rfl | rfl <;> rfl
      exact ⟨e, by have := fits_narrow_boolean x; rwa [e] at this⟩
    | _ => simp [okF, tcOf] at h
  | byte => cases v with
    | int x =>
      simp [okF, tcOf] at h
      have e : narrow .byte (.int x) = .int x := by show Value.int x.toInt8.toInt32 = _; rw [h]
      exact ⟨e, by have := fits_narrow_byte x; rwa [e] at this⟩
    | _ => simp [okF, tcOf] at h
  | object C => cases v with
    | null => exact ⟨rfl, rfl⟩
    | ref a => exact ⟨rfl, rfl⟩
    | _ => simp [okF, tcOf] at h
  | array t => cases v with
    | null => exact ⟨rfl, rfl⟩
    | ref a => exact ⟨rfl, rfl⟩
    | _ => simp [okF, tcOf] at h
  | _ => cases v <;> simp [okF, tcOf] at h
/-! jumps that are not taken: after the kit's lv_if_*, lv_icmp_*, lv_acmp_* -/
section
variable {p : Program} {l : Launch} {e : Env} {R : Room} {s : State} {m : MethodId} {args : Array Value} {below : List Frame} {meth : Method} {c : Code} {H : Heap} {locs : List Loc} {cells slots : Nat} {Q : State → Prop}
variable {cc : ByteArray} {pc : Nat} {ls : Array Slot} {rest : List Value}
theorem br_if_eq (hexec : p.tables.exec = Jvm.exec) (hb : c.code = cc) {x : Int32} {off : Int} (hdg : decode cc pc = .ok (.ifCond .eq off, 3)) (hP : ¬ x = 0) (kf : W p l e R s m args below meth c H locs cells slots Q (F0 m (pc + 3) ls rest)) : W p l e R s m args below meth c H locs cells slots Q (F0 m pc ls (.int x :: rest)) := by
  intro T hT X
  obtain ⟨t, a, b⟩ := kf T hT X
  refine ⟨t, ?_, b⟩
  jvm_step X.here [X.here.top, hexec, hb, hdg, Op.ifCond.holds, hP]
  exact a
theorem br_icmp_eq (hexec : p.tables.exec = Jvm.exec) (hb : c.code = cc) {x y : Int32} {off : Int} (hdg : decode cc pc = .ok (.if_icmp .eq off, 3)) (hP : ¬ x = y) (kf : W p l e R s m args below meth c H locs cells slots Q (F0 m (pc + 3) ls rest)) : W p l e R s m args below meth c H locs cells slots Q (F0 m pc ls (.int y :: .int x :: rest)) := by
  intro T hT X
  obtain ⟨t, a, b⟩ := kf T hT X
  refine ⟨t, ?_, b⟩
  jvm_step X.here [X.here.top, hexec, hb, hdg, Op.if_icmp.holds, hP]
  exact a
theorem br_if_ne (hexec : p.tables.exec = Jvm.exec) (hb : c.code = cc) {x : Int32} {off : Int} (hdg : decode cc pc = .ok (.ifCond .ne off, 3)) (hP : ¬ (¬ x = 0)) (kf : W p l e R s m args below meth c H locs cells slots Q (F0 m (pc + 3) ls rest)) : W p l e R s m args below meth c H locs cells slots Q (F0 m pc ls (.int x :: rest)) := by
  intro T hT X
  obtain ⟨t, a, b⟩ := kf T hT X
  refine ⟨t, ?_, b⟩
  have hP := Classical.not_not.mp hP
  jvm_step X.here [X.here.top, hexec, hb, hdg, Op.ifCond.holds, hP]
  exact a
theorem br_icmp_ne (hexec : p.tables.exec = Jvm.exec) (hb : c.code = cc) {x y : Int32} {off : Int} (hdg : decode cc pc = .ok (.if_icmp .ne off, 3)) (hP : ¬ (¬ x = y)) (kf : W p l e R s m args below meth c H locs cells slots Q (F0 m (pc + 3) ls rest)) : W p l e R s m args below meth c H locs cells slots Q (F0 m pc ls (.int y :: .int x :: rest)) := by
  intro T hT X
  obtain ⟨t, a, b⟩ := kf T hT X
  refine ⟨t, ?_, b⟩
  have hP := Classical.not_not.mp hP
  jvm_step X.here [X.here.top, hexec, hb, hdg, Op.if_icmp.holds, hP]
  exact a
theorem br_if_lt (hexec : p.tables.exec = Jvm.exec) (hb : c.code = cc) {x : Int32} {off : Int} (hdg : decode cc pc = .ok (.ifCond .lt off, 3)) (hP : ¬ x < 0) (kf : W p l e R s m args below meth c H locs cells slots Q (F0 m (pc + 3) ls rest)) : W p l e R s m args below meth c H locs cells slots Q (F0 m pc ls (.int x :: rest)) := by
  intro T hT X
  obtain ⟨t, a, b⟩ := kf T hT X
  refine ⟨t, ?_, b⟩
  jvm_step X.here [X.here.top, hexec, hb, hdg, Op.ifCond.holds, hP]
  exact a
theorem br_icmp_lt (hexec : p.tables.exec = Jvm.exec) (hb : c.code = cc) {x y : Int32} {off : Int} (hdg : decode cc pc = .ok (.if_icmp .lt off, 3)) (hP : ¬ x < y) (kf : W p l e R s m args below meth c H locs cells slots Q (F0 m (pc + 3) ls rest)) : W p l e R s m args below meth c H locs cells slots Q (F0 m pc ls (.int y :: .int x :: rest)) := by
  intro T hT X
  obtain ⟨t, a, b⟩ := kf T hT X
  refine ⟨t, ?_, b⟩
  jvm_step X.here [X.here.top, hexec, hb, hdg, Op.if_icmp.holds, hP]
  exact a
theorem br_if_ge (hexec : p.tables.exec = Jvm.exec) (hb : c.code = cc) {x : Int32} {off : Int} (hdg : decode cc pc = .ok (.ifCond .ge off, 3)) (hP : ¬ 0 ≤ x) (kf : W p l e R s m args below meth c H locs cells slots Q (F0 m (pc + 3) ls rest)) : W p l e R s m args below meth c H locs cells slots Q (F0 m pc ls (.int x :: rest)) := by
  intro T hT X
  obtain ⟨t, a, b⟩ := kf T hT X
  refine ⟨t, ?_, b⟩
  jvm_step X.here [X.here.top, hexec, hb, hdg, Op.ifCond.holds, hP]
  exact a
theorem br_icmp_ge (hexec : p.tables.exec = Jvm.exec) (hb : c.code = cc) {x y : Int32} {off : Int} (hdg : decode cc pc = .ok (.if_icmp .ge off, 3)) (hP : ¬ y ≤ x) (kf : W p l e R s m args below meth c H locs cells slots Q (F0 m (pc + 3) ls rest)) : W p l e R s m args below meth c H locs cells slots Q (F0 m pc ls (.int y :: .int x :: rest)) := by
  intro T hT X
  obtain ⟨t, a, b⟩ := kf T hT X
  refine ⟨t, ?_, b⟩
  jvm_step X.here [X.here.top, hexec, hb, hdg, Op.if_icmp.holds, hP]
  exact a
theorem br_if_gt (hexec : p.tables.exec = Jvm.exec) (hb : c.code = cc) {x : Int32} {off : Int} (hdg : decode cc pc = .ok (.ifCond .gt off, 3)) (hP : ¬ 0 < x) (kf : W p l e R s m args below meth c H locs cells slots Q (F0 m (pc + 3) ls rest)) : W p l e R s m args below meth c H locs cells slots Q (F0 m pc ls (.int x :: rest)) := by
  intro T hT X
  obtain ⟨t, a, b⟩ := kf T hT X
  refine ⟨t, ?_, b⟩
  jvm_step X.here [X.here.top, hexec, hb, hdg, Op.ifCond.holds, hP]
  exact a
theorem br_icmp_gt (hexec : p.tables.exec = Jvm.exec) (hb : c.code = cc) {x y : Int32} {off : Int} (hdg : decode cc pc = .ok (.if_icmp .gt off, 3)) (hP : ¬ y < x) (kf : W p l e R s m args below meth c H locs cells slots Q (F0 m (pc + 3) ls rest)) : W p l e R s m args below meth c H locs cells slots Q (F0 m pc ls (.int y :: .int x :: rest)) := by
  intro T hT X
  obtain ⟨t, a, b⟩ := kf T hT X
  refine ⟨t, ?_, b⟩
  jvm_step X.here [X.here.top, hexec, hb, hdg, Op.if_icmp.holds, hP]
  exact a
theorem br_if_le (hexec : p.tables.exec = Jvm.exec) (hb : c.code = cc) {x : Int32} {off : Int} (hdg : decode cc pc = .ok (.ifCond .le off, 3)) (hP : ¬ x ≤ 0) (kf : W p l e R s m args below meth c H locs cells slots Q (F0 m (pc + 3) ls rest)) : W p l e R s m args below meth c H locs cells slots Q (F0 m pc ls (.int x :: rest)) := by
  intro T hT X
  obtain ⟨t, a, b⟩ := kf T hT X
  refine ⟨t, ?_, b⟩
  jvm_step X.here [X.here.top, hexec, hb, hdg, Op.ifCond.holds, hP]
  exact a
theorem br_icmp_le (hexec : p.tables.exec = Jvm.exec) (hb : c.code = cc) {x y : Int32} {off : Int} (hdg : decode cc pc = .ok (.if_icmp .le off, 3)) (hP : ¬ x ≤ y) (kf : W p l e R s m args below meth c H locs cells slots Q (F0 m (pc + 3) ls rest)) : W p l e R s m args below meth c H locs cells slots Q (F0 m pc ls (.int y :: .int x :: rest)) := by
  intro T hT X
  obtain ⟨t, a, b⟩ := kf T hT X
  refine ⟨t, ?_, b⟩
  jvm_step X.here [X.here.top, hexec, hb, hdg, Op.if_icmp.holds, hP]
  exact a
theorem br_acmp_eq (hexec : p.tables.exec = Jvm.exec) (hb : c.code = cc) {rx ry : Option Nat} {off : Int} (hdg : decode cc pc = .ok (.if_acmp .eq off, 3)) (hP : ¬ rx = ry) (kf : W p l e R s m args below meth c H locs cells slots Q (F0 m (pc + 3) ls rest)) : W p l e R s m args below meth c H locs cells slots Q (F0 m pc ls (va_rf ry :: va_rf rx :: rest)) := by
  intro T hT X
  obtain ⟨t, a, b⟩ := kf T hT X
  refine ⟨t, ?_, b⟩
  cases rx with
  | none => cases ry with
    | none => exact absurd rfl hP
    | some y => jvm_step X.here [X.here.top, hexec, hb, hdg, va_rf, Value.asRef?, Op.if_acmp.holds]; exact a
  | some x => cases ry with
    | none => jvm_step X.here [X.here.top, hexec, hb, hdg, va_rf, Value.asRef?, Op.if_acmp.holds]; exact a
    | some y =>
      have hxy : ¬ x = y := fun q => hP (by rw [q])
      jvm_step X.here [X.here.top, hexec, hb, hdg, va_rf, Value.asRef?, Op.if_acmp.holds, hxy]; exact a
theorem br_acmp_ne (hexec : p.tables.exec = Jvm.exec) (hb : c.code = cc) {rx : Option Nat} {off : Int} (hdg : decode cc pc = .ok (.if_acmp .ne off, 3)) (kf : W p l e R s m args below meth c H locs cells slots Q (F0 m (pc + 3) ls rest)) : W p l e R s m args below meth c H locs cells slots Q (F0 m pc ls (va_rf rx :: va_rf rx :: rest)) := by
  intro T hT X
  obtain ⟨t, a, b⟩ := kf T hT X
  refine ⟨t, ?_, b⟩
  cases rx <;> (jvm_step X.here [X.here.top, hexec, hb, hdg, va_rf, Value.asRef?, Op.if_acmp.holds]; exact a)
end
section SimX
variable {s0 : State} {args0 : Array Value} {E : Nat → Value} {p : Program} {l : Launch} {e : Env} {R : Room} {s : State} {m : MethodId} {args : Array Value} {below : List Frame} {meth : Method} {c : Code} {Q : State → Prop}
variable {call : Cll} {y pc pc2 len n0 m0 : Nat} {L L2 st st2 : List Value} {h h2 : AH} {H : Heap} {ls : Array Slot} {locs : List Loc}
theorem sm_iconst (F : JF s0 args0 E p l R s m meth c y) {n : Int} (hs : exi call y pc L st h len (.iconst n) = some (.inl (pc2, L2, st2, h2))) (hdg : decode (jtCode y) pc = .ok (.iconst n, len)) (C : CF s0 E n0 m0 y h H L st ls locs) (hr : h2.1 - n0 ≤ R.cells ∧ h2.2.1 - m0 ≤ R.slots) (kk : ∀ ls2 H2 locs2, CF s0 E n0 m0 y h2 H2 L2 st2 ls2 locs2 → W p l e R s m args below meth c H2 locs2 (h2.1 - n0) (h2.2.1 - m0) Q (F0 m pc2 ls2 st2)) : W p l e R s m args below meth c H locs (h.1 - n0) (h.2.1 - m0) Q (F0 m pc ls st) := by
  obtain ⟨hl, q⟩ := gd_inl hs
  have hl := Nat.eq_of_beq_eq_true hl
  subst hl
  obtain ⟨rfl, rfl, rfl, rfl⟩ := nx_inl q
  exact lv_iconst F.exec F.code hdg rfl (kk _ _ _ (C.stk (okc rfl C.ok)))
theorem sm_bipush (F : JF s0 args0 E p l R s m meth c y) {n : Int} (hs : exi call y pc L st h len (.bipush n) = some (.inl (pc2, L2, st2, h2))) (hdg : decode (jtCode y) pc = .ok (.bipush n, len)) (C : CF s0 E n0 m0 y h H L st ls locs) (hr : h2.1 - n0 ≤ R.cells ∧ h2.2.1 - m0 ≤ R.slots) (kk : ∀ ls2 H2 locs2, CF s0 E n0 m0 y h2 H2 L2 st2 ls2 locs2 → W p l e R s m args below meth c H2 locs2 (h2.1 - n0) (h2.2.1 - m0) Q (F0 m pc2 ls2 st2)) : W p l e R s m args below meth c H locs (h.1 - n0) (h.2.1 - m0) Q (F0 m pc ls st) := by
  obtain ⟨hl, q⟩ := gd_inl hs
  have hl := Nat.eq_of_beq_eq_true hl
  subst hl
  obtain ⟨rfl, rfl, rfl, rfl⟩ := nx_inl q
  exact lv_bipush F.exec F.code hdg rfl (kk _ _ _ (C.stk (okc rfl C.ok)))
theorem sm_sipush (F : JF s0 args0 E p l R s m meth c y) {n : Int} (hs : exi call y pc L st h len (.sipush n) = some (.inl (pc2, L2, st2, h2))) (hdg : decode (jtCode y) pc = .ok (.sipush n, len)) (C : CF s0 E n0 m0 y h H L st ls locs) (hr : h2.1 - n0 ≤ R.cells ∧ h2.2.1 - m0 ≤ R.slots) (kk : ∀ ls2 H2 locs2, CF s0 E n0 m0 y h2 H2 L2 st2 ls2 locs2 → W p l e R s m args below meth c H2 locs2 (h2.1 - n0) (h2.2.1 - m0) Q (F0 m pc2 ls2 st2)) : W p l e R s m args below meth c H locs (h.1 - n0) (h.2.1 - m0) Q (F0 m pc ls st) := by
  obtain ⟨hl, q⟩ := gd_inl hs
  have hl := Nat.eq_of_beq_eq_true hl
  subst hl
  obtain ⟨rfl, rfl, rfl, rfl⟩ := nx_inl q
  exact lv_sipush F.exec F.code hdg rfl (kk _ _ _ (C.stk (okc rfl C.ok)))
theorem sm_lconst (F : JF s0 args0 E p l R s m meth c y) {n : Fin 2} (hs : exi call y pc L st h len (.lconst n) = some (.inl (pc2, L2, st2, h2))) (hdg : decode (jtCode y) pc = .ok (.lconst n, len)) (C : CF s0 E n0 m0 y h H L st ls locs) (hr : h2.1 - n0 ≤ R.cells ∧ h2.2.1 - m0 ≤ R.slots) (kk : ∀ ls2 H2 locs2, CF s0 E n0 m0 y h2 H2 L2 st2 ls2 locs2 → W p l e R s m args below meth c H2 locs2 (h2.1 - n0) (h2.2.1 - m0) Q (F0 m pc2 ls2 st2)) : W p l e R s m args below meth c H locs (h.1 - n0) (h.2.1 - m0) Q (F0 m pc ls st) := by
  obtain ⟨hl, q⟩ := gd_inl hs
  have hl := Nat.eq_of_beq_eq_true hl
  subst hl
  obtain ⟨rfl, rfl, rfl, rfl⟩ := nx_inl q
  exact lv_lconst F.exec F.code hdg rfl (kk _ _ _ (C.stk (okc rfl C.ok)))
theorem sm_aconst_null (F : JF s0 args0 E p l R s m meth c y)  (hs : exi call y pc L st h len (.aconst_null) = some (.inl (pc2, L2, st2, h2))) (hdg : decode (jtCode y) pc = .ok (.aconst_null, len)) (C : CF s0 E n0 m0 y h H L st ls locs) (hr : h2.1 - n0 ≤ R.cells ∧ h2.2.1 - m0 ≤ R.slots) (kk : ∀ ls2 H2 locs2, CF s0 E n0 m0 y h2 H2 L2 st2 ls2 locs2 → W p l e R s m args below meth c H2 locs2 (h2.1 - n0) (h2.2.1 - m0) Q (F0 m pc2 ls2 st2)) : W p l e R s m args below meth c H locs (h.1 - n0) (h.2.1 - m0) Q (F0 m pc ls st) := by
  obtain ⟨hl, q⟩ := gd_inl hs
  have hl := Nat.eq_of_beq_eq_true hl
  subst hl
  obtain ⟨rfl, rfl, rfl, rfl⟩ := nx_inl q
  exact lv_null F.exec F.code hdg (kk _ _ _ (C.stk (okc rfl C.ok)))
theorem sm_iadd (F : JF s0 args0 E p l R s m meth c y)  (hs : exi call y pc L st h len (.iadd) = some (.inl (pc2, L2, st2, h2))) (hdg : decode (jtCode y) pc = .ok (.iadd, len)) (C : CF s0 E n0 m0 y h H L st ls locs) (hr : h2.1 - n0 ≤ R.cells ∧ h2.2.1 - m0 ≤ R.slots) (kk : ∀ ls2 H2 locs2, CF s0 E n0 m0 y h2 H2 L2 st2 ls2 locs2 → W p l e R s m args below meth c H2 locs2 (h2.1 - n0) (h2.2.1 - m0) Q (F0 m pc2 ls2 st2)) : W p l e R s m args below meth c H locs (h.1 - n0) (h.2.1 - m0) Q (F0 m pc ls st) := by
  obtain ⟨hl, q⟩ := gd_inl hs
  have hl := Nat.eq_of_beq_eq_true hl
  subst hl
  replace q := sI_inl q; obtain ⟨x0, r0, e0, q⟩ := q
  subst e0
  replace q := sI_inl q; obtain ⟨x1, r1, e1, q⟩ := q
  subst e1
  obtain ⟨rfl, rfl, rfl, rfl⟩ := nx_inl q
  exact lv_iadd F.exec F.code hdg (kk _ _ _ (C.stk (okc rfl (okt (okt C.ok)))))
theorem sm_isub (F : JF s0 args0 E p l R s m meth c y)  (hs : exi call y pc L st h len (.isub) = some (.inl (pc2, L2, st2, h2))) (hdg : decode (jtCode y) pc = .ok (.isub, len)) (C : CF s0 E n0 m0 y h H L st ls locs) (hr : h2.1 - n0 ≤ R.cells ∧ h2.2.1 - m0 ≤ R.slots) (kk : ∀ ls2 H2 locs2, CF s0 E n0 m0 y h2 H2 L2 st2 ls2 locs2 → W p l e R s m args below meth c H2 locs2 (h2.1 - n0) (h2.2.1 - m0) Q (F0 m pc2 ls2 st2)) : W p l e R s m args below meth c H locs (h.1 - n0) (h.2.1 - m0) Q (F0 m pc ls st) := by
  obtain ⟨hl, q⟩ := gd_inl hs
  have hl := Nat.eq_of_beq_eq_true hl
  subst hl
  replace q := sI_inl q; obtain ⟨x0, r0, e0, q⟩ := q
  subst e0
  replace q := sI_inl q; obtain ⟨x1, r1, e1, q⟩ := q
  subst e1
  obtain ⟨rfl, rfl, rfl, rfl⟩ := nx_inl q
  exact lv_isub F.exec F.code hdg (kk _ _ _ (C.stk (okc rfl (okt (okt C.ok)))))
theorem sm_imul (F : JF s0 args0 E p l R s m meth c y)  (hs : exi call y pc L st h len (.imul) = some (.inl (pc2, L2, st2, h2))) (hdg : decode (jtCode y) pc = .ok (.imul, len)) (C : CF s0 E n0 m0 y h H L st ls locs) (hr : h2.1 - n0 ≤ R.cells ∧ h2.2.1 - m0 ≤ R.slots) (kk : ∀ ls2 H2 locs2, CF s0 E n0 m0 y h2 H2 L2 st2 ls2 locs2 → W p l e R s m args below meth c H2 locs2 (h2.1 - n0) (h2.2.1 - m0) Q (F0 m pc2 ls2 st2)) : W p l e R s m args below meth c H locs (h.1 - n0) (h.2.1 - m0) Q (F0 m pc ls st) := by
  obtain ⟨hl, q⟩ := gd_inl hs
  have hl := Nat.eq_of_beq_eq_true hl
  subst hl
  replace q := sI_inl q; obtain ⟨x0, r0, e0, q⟩ := q
  subst e0
  replace q := sI_inl q; obtain ⟨x1, r1, e1, q⟩ := q
  subst e1
  obtain ⟨rfl, rfl, rfl, rfl⟩ := nx_inl q
  exact lv_imul F.exec F.code hdg (kk _ _ _ (C.stk (okc rfl (okt (okt C.ok)))))
theorem sm_iand (F : JF s0 args0 E p l R s m meth c y)  (hs : exi call y pc L st h len (.iand) = some (.inl (pc2, L2, st2, h2))) (hdg : decode (jtCode y) pc = .ok (.iand, len)) (C : CF s0 E n0 m0 y h H L st ls locs) (hr : h2.1 - n0 ≤ R.cells ∧ h2.2.1 - m0 ≤ R.slots) (kk : ∀ ls2 H2 locs2, CF s0 E n0 m0 y h2 H2 L2 st2 ls2 locs2 → W p l e R s m args below meth c H2 locs2 (h2.1 - n0) (h2.2.1 - m0) Q (F0 m pc2 ls2 st2)) : W p l e R s m args below meth c H locs (h.1 - n0) (h.2.1 - m0) Q (F0 m pc ls st) := by
  obtain ⟨hl, q⟩ := gd_inl hs
  have hl := Nat.eq_of_beq_eq_true hl
  subst hl
  replace q := sI_inl q; obtain ⟨x0, r0, e0, q⟩ := q
  subst e0
  replace q := sI_inl q; obtain ⟨x1, r1, e1, q⟩ := q
  subst e1
  obtain ⟨rfl, rfl, rfl, rfl⟩ := nx_inl q
  exact lv_iand F.exec F.code hdg (kk _ _ _ (C.stk (okc rfl (okt (okt C.ok)))))
theorem sm_ior (F : JF s0 args0 E p l R s m meth c y)  (hs : exi call y pc L st h len (.ior) = some (.inl (pc2, L2, st2, h2))) (hdg : decode (jtCode y) pc = .ok (.ior, len)) (C : CF s0 E n0 m0 y h H L st ls locs) (hr : h2.1 - n0 ≤ R.cells ∧ h2.2.1 - m0 ≤ R.slots) (kk : ∀ ls2 H2 locs2, CF s0 E n0 m0 y h2 H2 L2 st2 ls2 locs2 → W p l e R s m args below meth c H2 locs2 (h2.1 - n0) (h2.2.1 - m0) Q (F0 m pc2 ls2 st2)) : W p l e R s m args below meth c H locs (h.1 - n0) (h.2.1 - m0) Q (F0 m pc ls st) := by
  obtain ⟨hl, q⟩ := gd_inl hs
  have hl := Nat.eq_of_beq_eq_true hl
  subst hl
  replace q := sI_inl q; obtain ⟨x0, r0, e0, q⟩ := q
  subst e0
  replace q := sI_inl q; obtain ⟨x1, r1, e1, q⟩ := q
  subst e1
  obtain ⟨rfl, rfl, rfl, rfl⟩ := nx_inl q
  exact lv_ior F.exec F.code hdg (kk _ _ _ (C.stk (okc rfl (okt (okt C.ok)))))
theorem sm_ixor (F : JF s0 args0 E p l R s m meth c y)  (hs : exi call y pc L st h len (.ixor) = some (.inl (pc2, L2, st2, h2))) (hdg : decode (jtCode y) pc = .ok (.ixor, len)) (C : CF s0 E n0 m0 y h H L st ls locs) (hr : h2.1 - n0 ≤ R.cells ∧ h2.2.1 - m0 ≤ R.slots) (kk : ∀ ls2 H2 locs2, CF s0 E n0 m0 y h2 H2 L2 st2 ls2 locs2 → W p l e R s m args below meth c H2 locs2 (h2.1 - n0) (h2.2.1 - m0) Q (F0 m pc2 ls2 st2)) : W p l e R s m args below meth c H locs (h.1 - n0) (h.2.1 - m0) Q (F0 m pc ls st) := by
  obtain ⟨hl, q⟩ := gd_inl hs
  have hl := Nat.eq_of_beq_eq_true hl
  subst hl
  replace q := sI_inl q; obtain ⟨x0, r0, e0, q⟩ := q
  subst e0
  replace q := sI_inl q; obtain ⟨x1, r1, e1, q⟩ := q
  subst e1
  obtain ⟨rfl, rfl, rfl, rfl⟩ := nx_inl q
  exact lv_ixor F.exec F.code hdg (kk _ _ _ (C.stk (okc rfl (okt (okt C.ok)))))
theorem sm_ishl (F : JF s0 args0 E p l R s m meth c y)  (hs : exi call y pc L st h len (.ishl) = some (.inl (pc2, L2, st2, h2))) (hdg : decode (jtCode y) pc = .ok (.ishl, len)) (C : CF s0 E n0 m0 y h H L st ls locs) (hr : h2.1 - n0 ≤ R.cells ∧ h2.2.1 - m0 ≤ R.slots) (kk : ∀ ls2 H2 locs2, CF s0 E n0 m0 y h2 H2 L2 st2 ls2 locs2 → W p l e R s m args below meth c H2 locs2 (h2.1 - n0) (h2.2.1 - m0) Q (F0 m pc2 ls2 st2)) : W p l e R s m args below meth c H locs (h.1 - n0) (h.2.1 - m0) Q (F0 m pc ls st) := by
  obtain ⟨hl, q⟩ := gd_inl hs
  have hl := Nat.eq_of_beq_eq_true hl
  subst hl
  replace q := sI_inl q; obtain ⟨x0, r0, e0, q⟩ := q
  subst e0
  replace q := sI_inl q; obtain ⟨x1, r1, e1, q⟩ := q
  subst e1
  obtain ⟨rfl, rfl, rfl, rfl⟩ := nx_inl q
  exact lv_ishl F.exec F.code hdg (kk _ _ _ (C.stk (okc rfl (okt (okt C.ok)))))
theorem sm_ishr (F : JF s0 args0 E p l R s m meth c y)  (hs : exi call y pc L st h len (.ishr) = some (.inl (pc2, L2, st2, h2))) (hdg : decode (jtCode y) pc = .ok (.ishr, len)) (C : CF s0 E n0 m0 y h H L st ls locs) (hr : h2.1 - n0 ≤ R.cells ∧ h2.2.1 - m0 ≤ R.slots) (kk : ∀ ls2 H2 locs2, CF s0 E n0 m0 y h2 H2 L2 st2 ls2 locs2 → W p l e R s m args below meth c H2 locs2 (h2.1 - n0) (h2.2.1 - m0) Q (F0 m pc2 ls2 st2)) : W p l e R s m args below meth c H locs (h.1 - n0) (h.2.1 - m0) Q (F0 m pc ls st) := by
  obtain ⟨hl, q⟩ := gd_inl hs
  have hl := Nat.eq_of_beq_eq_true hl
  subst hl
  replace q := sI_inl q; obtain ⟨x0, r0, e0, q⟩ := q
  subst e0
  replace q := sI_inl q; obtain ⟨x1, r1, e1, q⟩ := q
  subst e1
  obtain ⟨rfl, rfl, rfl, rfl⟩ := nx_inl q
  exact lv_ishr F.exec F.code hdg (kk _ _ _ (C.stk (okc rfl (okt (okt C.ok)))))
theorem sm_iushr (F : JF s0 args0 E p l R s m meth c y)  (hs : exi call y pc L st h len (.iushr) = some (.inl (pc2, L2, st2, h2))) (hdg : decode (jtCode y) pc = .ok (.iushr, len)) (C : CF s0 E n0 m0 y h H L st ls locs) (hr : h2.1 - n0 ≤ R.cells ∧ h2.2.1 - m0 ≤ R.slots) (kk : ∀ ls2 H2 locs2, CF s0 E n0 m0 y h2 H2 L2 st2 ls2 locs2 → W p l e R s m args below meth c H2 locs2 (h2.1 - n0) (h2.2.1 - m0) Q (F0 m pc2 ls2 st2)) : W p l e R s m args below meth c H locs (h.1 - n0) (h.2.1 - m0) Q (F0 m pc ls st) := by
  obtain ⟨hl, q⟩ := gd_inl hs
  have hl := Nat.eq_of_beq_eq_true hl
  subst hl
  replace q := sI_inl q; obtain ⟨x0, r0, e0, q⟩ := q
  subst e0
  replace q := sI_inl q; obtain ⟨x1, r1, e1, q⟩ := q
  subst e1
  obtain ⟨rfl, rfl, rfl, rfl⟩ := nx_inl q
  exact lv_iushr F.exec F.code hdg rfl (kk _ _ _ (C.stk (okc rfl (okt (okt C.ok)))))
theorem sm_ineg (F : JF s0 args0 E p l R s m meth c y)  (hs : exi call y pc L st h len (.ineg) = some (.inl (pc2, L2, st2, h2))) (hdg : decode (jtCode y) pc = .ok (.ineg, len)) (C : CF s0 E n0 m0 y h H L st ls locs) (hr : h2.1 - n0 ≤ R.cells ∧ h2.2.1 - m0 ≤ R.slots) (kk : ∀ ls2 H2 locs2, CF s0 E n0 m0 y h2 H2 L2 st2 ls2 locs2 → W p l e R s m args below meth c H2 locs2 (h2.1 - n0) (h2.2.1 - m0) Q (F0 m pc2 ls2 st2)) : W p l e R s m args below meth c H locs (h.1 - n0) (h.2.1 - m0) Q (F0 m pc ls st) := by
  obtain ⟨hl, q⟩ := gd_inl hs
  have hl := Nat.eq_of_beq_eq_true hl
  subst hl
  replace q := sI_inl q; obtain ⟨x0, r0, e0, q⟩ := q
  subst e0
  obtain ⟨rfl, rfl, rfl, rfl⟩ := nx_inl q
  exact lv_ineg F.exec F.code hdg (kk _ _ _ (C.stk (okc rfl (okt C.ok))))
theorem sm_ladd (F : JF s0 args0 E p l R s m meth c y)  (hs : exi call y pc L st h len (.ladd) = some (.inl (pc2, L2, st2, h2))) (hdg : decode (jtCode y) pc = .ok (.ladd, len)) (C : CF s0 E n0 m0 y h H L st ls locs) (hr : h2.1 - n0 ≤ R.cells ∧ h2.2.1 - m0 ≤ R.slots) (kk : ∀ ls2 H2 locs2, CF s0 E n0 m0 y h2 H2 L2 st2 ls2 locs2 → W p l e R s m args below meth c H2 locs2 (h2.1 - n0) (h2.2.1 - m0) Q (F0 m pc2 ls2 st2)) : W p l e R s m args below meth c H locs (h.1 - n0) (h.2.1 - m0) Q (F0 m pc ls st) := by
  obtain ⟨hl, q⟩ := gd_inl hs
  have hl := Nat.eq_of_beq_eq_true hl
  subst hl
  replace q := sJ_inl q; obtain ⟨x0, r0, e0, q⟩ := q
  subst e0
  replace q := sJ_inl q; obtain ⟨x1, r1, e1, q⟩ := q
  subst e1
  obtain ⟨rfl, rfl, rfl, rfl⟩ := nx_inl q
  exact lv_ladd F.exec F.code hdg (kk _ _ _ (C.stk (okc rfl (okt (okt C.ok)))))
theorem sm_lsub (F : JF s0 args0 E p l R s m meth c y)  (hs : exi call y pc L st h len (.lsub) = some (.inl (pc2, L2, st2, h2))) (hdg : decode (jtCode y) pc = .ok (.lsub, len)) (C : CF s0 E n0 m0 y h H L st ls locs) (hr : h2.1 - n0 ≤ R.cells ∧ h2.2.1 - m0 ≤ R.slots) (kk : ∀ ls2 H2 locs2, CF s0 E n0 m0 y h2 H2 L2 st2 ls2 locs2 → W p l e R s m args below meth c H2 locs2 (h2.1 - n0) (h2.2.1 - m0) Q (F0 m pc2 ls2 st2)) : W p l e R s m args below meth c H locs (h.1 - n0) (h.2.1 - m0) Q (F0 m pc ls st) := by
  obtain ⟨hl, q⟩ := gd_inl hs
  have hl := Nat.eq_of_beq_eq_true hl
  subst hl
  replace q := sJ_inl q; obtain ⟨x0, r0, e0, q⟩ := q
  subst e0
  replace q := sJ_inl q; obtain ⟨x1, r1, e1, q⟩ := q
  subst e1
  obtain ⟨rfl, rfl, rfl, rfl⟩ := nx_inl q
  exact lv_lsub F.exec F.code hdg (kk _ _ _ (C.stk (okc rfl (okt (okt C.ok)))))
theorem sm_land (F : JF s0 args0 E p l R s m meth c y)  (hs : exi call y pc L st h len (.land) = some (.inl (pc2, L2, st2, h2))) (hdg : decode (jtCode y) pc = .ok (.land, len)) (C : CF s0 E n0 m0 y h H L st ls locs) (hr : h2.1 - n0 ≤ R.cells ∧ h2.2.1 - m0 ≤ R.slots) (kk : ∀ ls2 H2 locs2, CF s0 E n0 m0 y h2 H2 L2 st2 ls2 locs2 → W p l e R s m args below meth c H2 locs2 (h2.1 - n0) (h2.2.1 - m0) Q (F0 m pc2 ls2 st2)) : W p l e R s m args below meth c H locs (h.1 - n0) (h.2.1 - m0) Q (F0 m pc ls st) := by
  obtain ⟨hl, q⟩ := gd_inl hs
  have hl := Nat.eq_of_beq_eq_true hl
  subst hl
  replace q := sJ_inl q; obtain ⟨x0, r0, e0, q⟩ := q
  subst e0
  replace q := sJ_inl q; obtain ⟨x1, r1, e1, q⟩ := q
  subst e1
  obtain ⟨rfl, rfl, rfl, rfl⟩ := nx_inl q
  exact lv_land F.exec F.code hdg (kk _ _ _ (C.stk (okc rfl (okt (okt C.ok)))))
theorem sm_lor (F : JF s0 args0 E p l R s m meth c y)  (hs : exi call y pc L st h len (.lor) = some (.inl (pc2, L2, st2, h2))) (hdg : decode (jtCode y) pc = .ok (.lor, len)) (C : CF s0 E n0 m0 y h H L st ls locs) (hr : h2.1 - n0 ≤ R.cells ∧ h2.2.1 - m0 ≤ R.slots) (kk : ∀ ls2 H2 locs2, CF s0 E n0 m0 y h2 H2 L2 st2 ls2 locs2 → W p l e R s m args below meth c H2 locs2 (h2.1 - n0) (h2.2.1 - m0) Q (F0 m pc2 ls2 st2)) : W p l e R s m args below meth c H locs (h.1 - n0) (h.2.1 - m0) Q (F0 m pc ls st) := by
  obtain ⟨hl, q⟩ := gd_inl hs
  have hl := Nat.eq_of_beq_eq_true hl
  subst hl
  replace q := sJ_inl q; obtain ⟨x0, r0, e0, q⟩ := q
  subst e0
  replace q := sJ_inl q; obtain ⟨x1, r1, e1, q⟩ := q
  subst e1
  obtain ⟨rfl, rfl, rfl, rfl⟩ := nx_inl q
  exact lv_lor F.exec F.code hdg (kk _ _ _ (C.stk (okc rfl (okt (okt C.ok)))))
theorem sm_lxor (F : JF s0 args0 E p l R s m meth c y)  (hs : exi call y pc L st h len (.lxor) = some (.inl (pc2, L2, st2, h2))) (hdg : decode (jtCode y) pc = .ok (.lxor, len)) (C : CF s0 E n0 m0 y h H L st ls locs) (hr : h2.1 - n0 ≤ R.cells ∧ h2.2.1 - m0 ≤ R.slots) (kk : ∀ ls2 H2 locs2, CF s0 E n0 m0 y h2 H2 L2 st2 ls2 locs2 → W p l e R s m args below meth c H2 locs2 (h2.1 - n0) (h2.2.1 - m0) Q (F0 m pc2 ls2 st2)) : W p l e R s m args below meth c H locs (h.1 - n0) (h.2.1 - m0) Q (F0 m pc ls st) := by
  obtain ⟨hl, q⟩ := gd_inl hs
  have hl := Nat.eq_of_beq_eq_true hl
  subst hl
  replace q := sJ_inl q; obtain ⟨x0, r0, e0, q⟩ := q
  subst e0
  replace q := sJ_inl q; obtain ⟨x1, r1, e1, q⟩ := q
  subst e1
  obtain ⟨rfl, rfl, rfl, rfl⟩ := nx_inl q
  exact lv_lxor F.exec F.code hdg (kk _ _ _ (C.stk (okc rfl (okt (okt C.ok)))))
theorem sm_lshl (F : JF s0 args0 E p l R s m meth c y)  (hs : exi call y pc L st h len (.lshl) = some (.inl (pc2, L2, st2, h2))) (hdg : decode (jtCode y) pc = .ok (.lshl, len)) (C : CF s0 E n0 m0 y h H L st ls locs) (hr : h2.1 - n0 ≤ R.cells ∧ h2.2.1 - m0 ≤ R.slots) (kk : ∀ ls2 H2 locs2, CF s0 E n0 m0 y h2 H2 L2 st2 ls2 locs2 → W p l e R s m args below meth c H2 locs2 (h2.1 - n0) (h2.2.1 - m0) Q (F0 m pc2 ls2 st2)) : W p l e R s m args below meth c H locs (h.1 - n0) (h.2.1 - m0) Q (F0 m pc ls st) := by
  obtain ⟨hl, q⟩ := gd_inl hs
  have hl := Nat.eq_of_beq_eq_true hl
  subst hl
  replace q := sI_inl q; obtain ⟨x0, r0, e0, q⟩ := q
  subst e0
  replace q := sJ_inl q; obtain ⟨x1, r1, e1, q⟩ := q
  subst e1
  obtain ⟨rfl, rfl, rfl, rfl⟩ := nx_inl q
  exact lv_lshl F.exec F.code hdg rfl (kk _ _ _ (C.stk (okc rfl (okt (okt C.ok)))))
theorem sm_lshr (F : JF s0 args0 E p l R s m meth c y)  (hs : exi call y pc L st h len (.lshr) = some (.inl (pc2, L2, st2, h2))) (hdg : decode (jtCode y) pc = .ok (.lshr, len)) (C : CF s0 E n0 m0 y h H L st ls locs) (hr : h2.1 - n0 ≤ R.cells ∧ h2.2.1 - m0 ≤ R.slots) (kk : ∀ ls2 H2 locs2, CF s0 E n0 m0 y h2 H2 L2 st2 ls2 locs2 → W p l e R s m args below meth c H2 locs2 (h2.1 - n0) (h2.2.1 - m0) Q (F0 m pc2 ls2 st2)) : W p l e R s m args below meth c H locs (h.1 - n0) (h.2.1 - m0) Q (F0 m pc ls st) := by
  obtain ⟨hl, q⟩ := gd_inl hs
  have hl := Nat.eq_of_beq_eq_true hl
  subst hl
  replace q := sI_inl q; obtain ⟨x0, r0, e0, q⟩ := q
  subst e0
  replace q := sJ_inl q; obtain ⟨x1, r1, e1, q⟩ := q
  subst e1
  obtain ⟨rfl, rfl, rfl, rfl⟩ := nx_inl q
  exact lv_lshr F.exec F.code hdg rfl (kk _ _ _ (C.stk (okc rfl (okt (okt C.ok)))))
theorem sm_lushr (F : JF s0 args0 E p l R s m meth c y)  (hs : exi call y pc L st h len (.lushr) = some (.inl (pc2, L2, st2, h2))) (hdg : decode (jtCode y) pc = .ok (.lushr, len)) (C : CF s0 E n0 m0 y h H L st ls locs) (hr : h2.1 - n0 ≤ R.cells ∧ h2.2.1 - m0 ≤ R.slots) (kk : ∀ ls2 H2 locs2, CF s0 E n0 m0 y h2 H2 L2 st2 ls2 locs2 → W p l e R s m args below meth c H2 locs2 (h2.1 - n0) (h2.2.1 - m0) Q (F0 m pc2 ls2 st2)) : W p l e R s m args below meth c H locs (h.1 - n0) (h.2.1 - m0) Q (F0 m pc ls st) := by
  obtain ⟨hl, q⟩ := gd_inl hs
  have hl := Nat.eq_of_beq_eq_true hl
  subst hl
  replace q := sI_inl q; obtain ⟨x0, r0, e0, q⟩ := q
  subst e0
  replace q := sJ_inl q; obtain ⟨x1, r1, e1, q⟩ := q
  subst e1
  obtain ⟨rfl, rfl, rfl, rfl⟩ := nx_inl q
  exact lv_lushr F.exec F.code hdg rfl (kk _ _ _ (C.stk (okc rfl (okt (okt C.ok)))))
theorem sm_i2l (F : JF s0 args0 E p l R s m meth c y)  (hs : exi call y pc L st h len (.i2l) = some (.inl (pc2, L2, st2, h2))) (hdg : decode (jtCode y) pc = .ok (.i2l, len)) (C : CF s0 E n0 m0 y h H L st ls locs) (hr : h2.1 - n0 ≤ R.cells ∧ h2.2.1 - m0 ≤ R.slots) (kk : ∀ ls2 H2 locs2, CF s0 E n0 m0 y h2 H2 L2 st2 ls2 locs2 → W p l e R s m args below meth c H2 locs2 (h2.1 - n0) (h2.2.1 - m0) Q (F0 m pc2 ls2 st2)) : W p l e R s m args below meth c H locs (h.1 - n0) (h.2.1 - m0) Q (F0 m pc ls st) := by
  obtain ⟨hl, q⟩ := gd_inl hs
  have hl := Nat.eq_of_beq_eq_true hl
  subst hl
  replace q := sI_inl q; obtain ⟨x0, r0, e0, q⟩ := q
  subst e0
  obtain ⟨rfl, rfl, rfl, rfl⟩ := nx_inl q
  exact lv_i2l F.exec F.code hdg rfl (kk _ _ _ (C.stk (okc rfl (okt C.ok))))
theorem sm_l2i (F : JF s0 args0 E p l R s m meth c y)  (hs : exi call y pc L st h len (.l2i) = some (.inl (pc2, L2, st2, h2))) (hdg : decode (jtCode y) pc = .ok (.l2i, len)) (C : CF s0 E n0 m0 y h H L st ls locs) (hr : h2.1 - n0 ≤ R.cells ∧ h2.2.1 - m0 ≤ R.slots) (kk : ∀ ls2 H2 locs2, CF s0 E n0 m0 y h2 H2 L2 st2 ls2 locs2 → W p l e R s m args below meth c H2 locs2 (h2.1 - n0) (h2.2.1 - m0) Q (F0 m pc2 ls2 st2)) : W p l e R s m args below meth c H locs (h.1 - n0) (h.2.1 - m0) Q (F0 m pc ls st) := by
  obtain ⟨hl, q⟩ := gd_inl hs
  have hl := Nat.eq_of_beq_eq_true hl
  subst hl
  replace q := sJ_inl q; obtain ⟨x0, r0, e0, q⟩ := q
  subst e0
  obtain ⟨rfl, rfl, rfl, rfl⟩ := nx_inl q
  exact lv_l2i F.exec F.code hdg rfl (kk _ _ _ (C.stk (okc rfl (okt C.ok))))
theorem sm_i2b (F : JF s0 args0 E p l R s m meth c y)  (hs : exi call y pc L st h len (.i2b) = some (.inl (pc2, L2, st2, h2))) (hdg : decode (jtCode y) pc = .ok (.i2b, len)) (C : CF s0 E n0 m0 y h H L st ls locs) (hr : h2.1 - n0 ≤ R.cells ∧ h2.2.1 - m0 ≤ R.slots) (kk : ∀ ls2 H2 locs2, CF s0 E n0 m0 y h2 H2 L2 st2 ls2 locs2 → W p l e R s m args below meth c H2 locs2 (h2.1 - n0) (h2.2.1 - m0) Q (F0 m pc2 ls2 st2)) : W p l e R s m args below meth c H locs (h.1 - n0) (h.2.1 - m0) Q (F0 m pc ls st) := by
  obtain ⟨hl, q⟩ := gd_inl hs
  have hl := Nat.eq_of_beq_eq_true hl
  subst hl
  replace q := sI_inl q; obtain ⟨x0, r0, e0, q⟩ := q
  subst e0
  obtain ⟨rfl, rfl, rfl, rfl⟩ := nx_inl q
  exact lv_i2b F.exec F.code hdg rfl (kk _ _ _ (C.stk (okc rfl (okt C.ok))))
theorem sm_i2c (F : JF s0 args0 E p l R s m meth c y)  (hs : exi call y pc L st h len (.i2c) = some (.inl (pc2, L2, st2, h2))) (hdg : decode (jtCode y) pc = .ok (.i2c, len)) (C : CF s0 E n0 m0 y h H L st ls locs) (hr : h2.1 - n0 ≤ R.cells ∧ h2.2.1 - m0 ≤ R.slots) (kk : ∀ ls2 H2 locs2, CF s0 E n0 m0 y h2 H2 L2 st2 ls2 locs2 → W p l e R s m args below meth c H2 locs2 (h2.1 - n0) (h2.2.1 - m0) Q (F0 m pc2 ls2 st2)) : W p l e R s m args below meth c H locs (h.1 - n0) (h.2.1 - m0) Q (F0 m pc ls st) := by
  obtain ⟨hl, q⟩ := gd_inl hs
  have hl := Nat.eq_of_beq_eq_true hl
  subst hl
  replace q := sI_inl q; obtain ⟨x0, r0, e0, q⟩ := q
  subst e0
  obtain ⟨rfl, rfl, rfl, rfl⟩ := nx_inl q
  exact lv_i2c F.exec F.code hdg rfl (kk _ _ _ (C.stk (okc rfl (okt C.ok))))
theorem sm_idiv (F : JF s0 args0 E p l R s m meth c y)  (hs : exi call y pc L st h len (.idiv) = some (.inl (pc2, L2, st2, h2))) (hdg : decode (jtCode y) pc = .ok (.idiv, len)) (C : CF s0 E n0 m0 y h H L st ls locs) (hr : h2.1 - n0 ≤ R.cells ∧ h2.2.1 - m0 ≤ R.slots) (kk : ∀ ls2 H2 locs2, CF s0 E n0 m0 y h2 H2 L2 st2 ls2 locs2 → W p l e R s m args below meth c H2 locs2 (h2.1 - n0) (h2.2.1 - m0) Q (F0 m pc2 ls2 st2)) : W p l e R s m args below meth c H locs (h.1 - n0) (h.2.1 - m0) Q (F0 m pc ls st) := by
  obtain ⟨hl, q⟩ := gd_inl hs
  have hl := Nat.eq_of_beq_eq_true hl
  subst hl
  replace q := sI_inl q; obtain ⟨x0, r0, e0, q⟩ := q
  subst e0
  replace q := sI_inl q; obtain ⟨x1, r1, e1, q⟩ := q
  subst e1
  by_cases hz : x0 = 0
  · rw [if_pos hz] at q; cases q
  · rw [if_neg hz] at q; obtain ⟨rfl, rfl, rfl, rfl⟩ := nx_inl q
    exact lv_idiv F.exec F.code hdg hz (kk _ _ _ (C.stk (okc rfl (okt (okt C.ok)))))
theorem sm_irem (F : JF s0 args0 E p l R s m meth c y)  (hs : exi call y pc L st h len (.irem) = some (.inl (pc2, L2, st2, h2))) (hdg : decode (jtCode y) pc = .ok (.irem, len)) (C : CF s0 E n0 m0 y h H L st ls locs) (hr : h2.1 - n0 ≤ R.cells ∧ h2.2.1 - m0 ≤ R.slots) (kk : ∀ ls2 H2 locs2, CF s0 E n0 m0 y h2 H2 L2 st2 ls2 locs2 → W p l e R s m args below meth c H2 locs2 (h2.1 - n0) (h2.2.1 - m0) Q (F0 m pc2 ls2 st2)) : W p l e R s m args below meth c H locs (h.1 - n0) (h.2.1 - m0) Q (F0 m pc ls st) := by
  obtain ⟨hl, q⟩ := gd_inl hs
  have hl := Nat.eq_of_beq_eq_true hl
  subst hl
  replace q := sI_inl q; obtain ⟨x0, r0, e0, q⟩ := q
  subst e0
  replace q := sI_inl q; obtain ⟨x1, r1, e1, q⟩ := q
  subst e1
  by_cases hz : x0 = 0
  · rw [if_pos hz] at q; cases q
  · rw [if_neg hz] at q; obtain ⟨rfl, rfl, rfl, rfl⟩ := nx_inl q
    exact lv_irem F.exec F.code hdg hz (kk _ _ _ (C.stk (okc rfl (okt (okt C.ok)))))
theorem sm_lcmp (F : JF s0 args0 E p l R s m meth c y)  (hs : exi call y pc L st h len (.lcmp) = some (.inl (pc2, L2, st2, h2))) (hdg : decode (jtCode y) pc = .ok (.lcmp, len)) (C : CF s0 E n0 m0 y h H L st ls locs) (hr : h2.1 - n0 ≤ R.cells ∧ h2.2.1 - m0 ≤ R.slots) (kk : ∀ ls2 H2 locs2, CF s0 E n0 m0 y h2 H2 L2 st2 ls2 locs2 → W p l e R s m args below meth c H2 locs2 (h2.1 - n0) (h2.2.1 - m0) Q (F0 m pc2 ls2 st2)) : W p l e R s m args below meth c H locs (h.1 - n0) (h.2.1 - m0) Q (F0 m pc ls st) := by
  obtain ⟨hl, q⟩ := gd_inl hs
  have hl := Nat.eq_of_beq_eq_true hl
  subst hl
  replace q := sJ_inl q; obtain ⟨x0, r0, e0, q⟩ := q
  subst e0
  replace q := sJ_inl q; obtain ⟨x1, r1, e1, q⟩ := q
  subst e1
  obtain ⟨rfl, rfl, rfl, rfl⟩ := nx_inl q
  refine W.lcmp F.exec F.code hdg ?_
  have e : lg_cmp x1 x0 = if x0 < x1 then 1 else if x1 = x0 then 0 else -1 := rfl
  rw [e]
  exact kk _ _ _ (C.stk (okc rfl (okt (okt C.ok))))
theorem sm_iload_n (F : JF s0 args0 E p l R s m meth c y) {k : Fin 4} (hs : exi call y pc L st h len (.iload_n k) = some (.inl (pc2, L2, st2, h2))) (hdg : decode (jtCode y) pc = .ok (.iload_n k, len)) (C : CF s0 E n0 m0 y h H L st ls locs) (hr : h2.1 - n0 ≤ R.cells ∧ h2.2.1 - m0 ≤ R.slots) (kk : ∀ ls2 H2 locs2, CF s0 E n0 m0 y h2 H2 L2 st2 ls2 locs2 → W p l e R s m args below meth c H2 locs2 (h2.1 - n0) (h2.2.1 - m0) Q (F0 m pc2 ls2 st2)) : W p l e R s m args below meth c H locs (h.1 - n0) (h.2.1 - m0) Q (F0 m pc ls st) := by
  obtain ⟨hl, q⟩ := gd_inl hs
  have hl := Nat.eq_of_beq_eq_true hl
  subst hl
  replace q := rI_inl q; obtain ⟨x, e, q⟩ := q
  obtain ⟨rfl, rfl, rfl, rfl⟩ := nx_inl q
  have hg := LVr_get C.lv (LKn_I e)
  rw [e] at hg
  exact lv_iload_n F.exec F.code hdg rfl hg (kk _ _ _ (C.stk (okc rfl C.ok)))
theorem sm_iload (F : JF s0 args0 E p l R s m meth c y) {k : Nat} (hs : exi call y pc L st h len (.iload k) = some (.inl (pc2, L2, st2, h2))) (hdg : decode (jtCode y) pc = .ok (.iload k, len)) (C : CF s0 E n0 m0 y h H L st ls locs) (hr : h2.1 - n0 ≤ R.cells ∧ h2.2.1 - m0 ≤ R.slots) (kk : ∀ ls2 H2 locs2, CF s0 E n0 m0 y h2 H2 L2 st2 ls2 locs2 → W p l e R s m args below meth c H2 locs2 (h2.1 - n0) (h2.2.1 - m0) Q (F0 m pc2 ls2 st2)) : W p l e R s m args below meth c H locs (h.1 - n0) (h.2.1 - m0) Q (F0 m pc ls st) := by
  obtain ⟨hl, q⟩ := gd_inl hs
  have hl := Nat.eq_of_beq_eq_true hl
  subst hl
  replace q := rI_inl q; obtain ⟨x, e, q⟩ := q
  obtain ⟨rfl, rfl, rfl, rfl⟩ := nx_inl q
  have hg := LVr_get C.lv (LKn_I e)
  rw [e] at hg
  exact lv_iload F.exec F.code hdg hg (kk _ _ _ (C.stk (okc rfl C.ok)))
theorem sm_lload_n (F : JF s0 args0 E p l R s m meth c y) {k : Fin 4} (hs : exi call y pc L st h len (.lload_n k) = some (.inl (pc2, L2, st2, h2))) (hdg : decode (jtCode y) pc = .ok (.lload_n k, len)) (C : CF s0 E n0 m0 y h H L st ls locs) (hr : h2.1 - n0 ≤ R.cells ∧ h2.2.1 - m0 ≤ R.slots) (kk : ∀ ls2 H2 locs2, CF s0 E n0 m0 y h2 H2 L2 st2 ls2 locs2 → W p l e R s m args below meth c H2 locs2 (h2.1 - n0) (h2.2.1 - m0) Q (F0 m pc2 ls2 st2)) : W p l e R s m args below meth c H locs (h.1 - n0) (h.2.1 - m0) Q (F0 m pc ls st) := by
  obtain ⟨hl, q⟩ := gd_inl hs
  have hl := Nat.eq_of_beq_eq_true hl
  subst hl
  replace q := rJ_inl q; obtain ⟨x, e, q⟩ := q
  replace q := gd_inl q; obtain ⟨e2, q⟩ := q
  obtain ⟨rfl, rfl, rfl, rfl⟩ := nx_inl q
  have hg := LVr_get C.lv (LKn_J e (beq_iff_eq.mp e2))
  rw [e] at hg
  exact lv_lload_n F.exec F.code hdg rfl hg (kk _ _ _ (C.stk (okc rfl C.ok)))
theorem sm_lload (F : JF s0 args0 E p l R s m meth c y) {k : Nat} (hs : exi call y pc L st h len (.lload k) = some (.inl (pc2, L2, st2, h2))) (hdg : decode (jtCode y) pc = .ok (.lload k, len)) (C : CF s0 E n0 m0 y h H L st ls locs) (hr : h2.1 - n0 ≤ R.cells ∧ h2.2.1 - m0 ≤ R.slots) (kk : ∀ ls2 H2 locs2, CF s0 E n0 m0 y h2 H2 L2 st2 ls2 locs2 → W p l e R s m args below meth c H2 locs2 (h2.1 - n0) (h2.2.1 - m0) Q (F0 m pc2 ls2 st2)) : W p l e R s m args below meth c H locs (h.1 - n0) (h.2.1 - m0) Q (F0 m pc ls st) := by
  obtain ⟨hl, q⟩ := gd_inl hs
  have hl := Nat.eq_of_beq_eq_true hl
  subst hl
  replace q := rJ_inl q; obtain ⟨x, e, q⟩ := q
  replace q := gd_inl q; obtain ⟨e2, q⟩ := q
  obtain ⟨rfl, rfl, rfl, rfl⟩ := nx_inl q
  have hg := LVr_get C.lv (LKn_J e (beq_iff_eq.mp e2))
  rw [e] at hg
  exact lv_lload F.exec F.code hdg hg (kk _ _ _ (C.stk (okc rfl C.ok)))
theorem sm_aload_n (F : JF s0 args0 E p l R s m meth c y) {k : Fin 4} (hs : exi call y pc L st h len (.aload_n k) = some (.inl (pc2, L2, st2, h2))) (hdg : decode (jtCode y) pc = .ok (.aload_n k, len)) (C : CF s0 E n0 m0 y h H L st ls locs) (hr : h2.1 - n0 ≤ R.cells ∧ h2.2.1 - m0 ≤ R.slots) (kk : ∀ ls2 H2 locs2, CF s0 E n0 m0 y h2 H2 L2 st2 ls2 locs2 → W p l e R s m args below meth c H2 locs2 (h2.1 - n0) (h2.2.1 - m0) Q (F0 m pc2 ls2 st2)) : W p l e R s m args below meth c H locs (h.1 - n0) (h.2.1 - m0) Q (F0 m pc ls st) := by
  obtain ⟨hl, q⟩ := gd_inl hs
  have hl := Nat.eq_of_beq_eq_true hl
  subst hl
  replace q := rR_inl q; obtain ⟨hv, q⟩ := q
  obtain ⟨rfl, rfl, rfl, rfl⟩ := nx_inl q
  have hg := LVr_get C.lv (LKn_R rfl hv)
  have ho : okV (lg L (k : Nat)) = true := by rw [okV, hv]; simp
  revert kk
  generalize lg L (k : Nat) = v at hv hg ho
  intro kk
  rcases isR_inv hv with rfl | ⟨a, rfl⟩
  · exact lv_aload_nN F.exec F.code hdg rfl hg (kk _ _ _ (C.stk (okc ho C.ok)))
  · exact lv_aload_n F.exec F.code hdg rfl hg (kk _ _ _ (C.stk (okc ho C.ok)))
theorem sm_aload (F : JF s0 args0 E p l R s m meth c y) {k : Nat} (hs : exi call y pc L st h len (.aload k) = some (.inl (pc2, L2, st2, h2))) (hdg : decode (jtCode y) pc = .ok (.aload k, len)) (C : CF s0 E n0 m0 y h H L st ls locs) (hr : h2.1 - n0 ≤ R.cells ∧ h2.2.1 - m0 ≤ R.slots) (kk : ∀ ls2 H2 locs2, CF s0 E n0 m0 y h2 H2 L2 st2 ls2 locs2 → W p l e R s m args below meth c H2 locs2 (h2.1 - n0) (h2.2.1 - m0) Q (F0 m pc2 ls2 st2)) : W p l e R s m args below meth c H locs (h.1 - n0) (h.2.1 - m0) Q (F0 m pc ls st) := by
  obtain ⟨hl, q⟩ := gd_inl hs
  have hl := Nat.eq_of_beq_eq_true hl
  subst hl
  replace q := rR_inl q; obtain ⟨hv, q⟩ := q
  obtain ⟨rfl, rfl, rfl, rfl⟩ := nx_inl q
  have hg := LVr_get C.lv (LKn_R rfl hv)
  have ho : okV (lg L k) = true := by rw [okV, hv]; simp
  revert kk
  generalize lg L k = v at hv hg ho
  intro kk
  rcases isR_inv hv with rfl | ⟨a, rfl⟩
  · exact lv_aloadN F.exec F.code hdg hg (kk _ _ _ (C.stk (okc ho C.ok)))
  · exact lv_aload F.exec F.code hdg hg (kk _ _ _ (C.stk (okc ho C.ok)))
theorem sm_istore_n (F : JF s0 args0 E p l R s m meth c y) {k : Fin 4} (hs : exi call y pc L st h len (.istore_n k) = some (.inl (pc2, L2, st2, h2))) (hdg : decode (jtCode y) pc = .ok (.istore_n k, len)) (C : CF s0 E n0 m0 y h H L st ls locs) (hr : h2.1 - n0 ≤ R.cells ∧ h2.2.1 - m0 ≤ R.slots) (kk : ∀ ls2 H2 locs2, CF s0 E n0 m0 y h2 H2 L2 st2 ls2 locs2 → W p l e R s m args below meth c H2 locs2 (h2.1 - n0) (h2.2.1 - m0) Q (F0 m pc2 ls2 st2)) : W p l e R s m args below meth c H locs (h.1 - n0) (h.2.1 - m0) Q (F0 m pc ls st) := by
  obtain ⟨hl, q⟩ := gd_inl hs
  obtain ⟨hl, hk⟩ := and_inv hl
  have hl := Nat.eq_of_beq_eq_true hl
  subst hl
  have hk := blt_inv hk
  replace q := sI_inl q; obtain ⟨x0, r0, e0, q⟩ := q
  subst e0
  obtain ⟨rfl, rfl, rfl, rfl⟩ := nx_inl q
  exact lv_istore_n F.exec F.code hdg rfl C.lv.1 (by rw [← C.lv.2]; exact hk) rfl fun ls2 hv => kk _ _ _ (C.lvs (LVr_set1 C.lv.2 (by rw [← C.lv.2]; exact hk) (by simp) hv) (okt C.ok))
theorem sm_istore (F : JF s0 args0 E p l R s m meth c y) {k : Nat} (hs : exi call y pc L st h len (.istore k) = some (.inl (pc2, L2, st2, h2))) (hdg : decode (jtCode y) pc = .ok (.istore k, len)) (C : CF s0 E n0 m0 y h H L st ls locs) (hr : h2.1 - n0 ≤ R.cells ∧ h2.2.1 - m0 ≤ R.slots) (kk : ∀ ls2 H2 locs2, CF s0 E n0 m0 y h2 H2 L2 st2 ls2 locs2 → W p l e R s m args below meth c H2 locs2 (h2.1 - n0) (h2.2.1 - m0) Q (F0 m pc2 ls2 st2)) : W p l e R s m args below meth c H locs (h.1 - n0) (h.2.1 - m0) Q (F0 m pc ls st) := by
  obtain ⟨hl, q⟩ := gd_inl hs
  obtain ⟨hl, hk⟩ := and_inv hl
  have hl := Nat.eq_of_beq_eq_true hl
  subst hl
  have hk := blt_inv hk
  replace q := sI_inl q; obtain ⟨x0, r0, e0, q⟩ := q
  subst e0
  obtain ⟨rfl, rfl, rfl, rfl⟩ := nx_inl q
  exact lv_istore F.exec F.code hdg C.lv.1 (by rw [← C.lv.2]; exact hk) rfl fun ls2 hv => kk _ _ _ (C.lvs (LVr_set1 C.lv.2 (by rw [← C.lv.2]; exact hk) (by simp) hv) (okt C.ok))
theorem sm_lstore_n (F : JF s0 args0 E p l R s m meth c y) {k : Fin 4} (hs : exi call y pc L st h len (.lstore_n k) = some (.inl (pc2, L2, st2, h2))) (hdg : decode (jtCode y) pc = .ok (.lstore_n k, len)) (C : CF s0 E n0 m0 y h H L st ls locs) (hr : h2.1 - n0 ≤ R.cells ∧ h2.2.1 - m0 ≤ R.slots) (kk : ∀ ls2 H2 locs2, CF s0 E n0 m0 y h2 H2 L2 st2 ls2 locs2 → W p l e R s m args below meth c H2 locs2 (h2.1 - n0) (h2.2.1 - m0) Q (F0 m pc2 ls2 st2)) : W p l e R s m args below meth c H locs (h.1 - n0) (h.2.1 - m0) Q (F0 m pc ls st) := by
  obtain ⟨hl, q⟩ := gd_inl hs
  obtain ⟨hl, hk⟩ := and_inv hl
  have hl := Nat.eq_of_beq_eq_true hl
  subst hl
  have hk := blt_inv hk
  replace q := sJ_inl q; obtain ⟨x0, r0, e0, q⟩ := q
  subst e0
  obtain ⟨rfl, rfl, rfl, rfl⟩ := nx_inl q
  exact lv_lstore_n F.exec F.code hdg rfl C.lv.1 (by rw [← C.lv.2]; exact hk) rfl fun ls2 hv => kk _ _ _ (C.lvs (LVr_set2 C.lv.2 (by rw [← C.lv.2]; exact hk) hv) (okt C.ok))
theorem sm_lstore (F : JF s0 args0 E p l R s m meth c y) {k : Nat} (hs : exi call y pc L st h len (.lstore k) = some (.inl (pc2, L2, st2, h2))) (hdg : decode (jtCode y) pc = .ok (.lstore k, len)) (C : CF s0 E n0 m0 y h H L st ls locs) (hr : h2.1 - n0 ≤ R.cells ∧ h2.2.1 - m0 ≤ R.slots) (kk : ∀ ls2 H2 locs2, CF s0 E n0 m0 y h2 H2 L2 st2 ls2 locs2 → W p l e R s m args below meth c H2 locs2 (h2.1 - n0) (h2.2.1 - m0) Q (F0 m pc2 ls2 st2)) : W p l e R s m args below meth c H locs (h.1 - n0) (h.2.1 - m0) Q (F0 m pc ls st) := by
  obtain ⟨hl, q⟩ := gd_inl hs
  obtain ⟨hl, hk⟩ := and_inv hl
  have hl := Nat.eq_of_beq_eq_true hl
  subst hl
  have hk := blt_inv hk
  replace q := sJ_inl q; obtain ⟨x0, r0, e0, q⟩ := q
  subst e0
  obtain ⟨rfl, rfl, rfl, rfl⟩ := nx_inl q
  exact lv_lstore F.exec F.code hdg C.lv.1 (by rw [← C.lv.2]; exact hk) rfl fun ls2 hv => kk _ _ _ (C.lvs (LVr_set2 C.lv.2 (by rw [← C.lv.2]; exact hk) hv) (okt C.ok))
theorem sm_astore_n (F : JF s0 args0 E p l R s m meth c y) {k : Fin 4} (hs : exi call y pc L st h len (.astore_n k) = some (.inl (pc2, L2, st2, h2))) (hdg : decode (jtCode y) pc = .ok (.astore_n k, len)) (C : CF s0 E n0 m0 y h H L st ls locs) (hr : h2.1 - n0 ≤ R.cells ∧ h2.2.1 - m0 ≤ R.slots) (kk : ∀ ls2 H2 locs2, CF s0 E n0 m0 y h2 H2 L2 st2 ls2 locs2 → W p l e R s m args below meth c H2 locs2 (h2.1 - n0) (h2.2.1 - m0) Q (F0 m pc2 ls2 st2)) : W p l e R s m args below meth c H locs (h.1 - n0) (h.2.1 - m0) Q (F0 m pc ls st) := by
  obtain ⟨hl, q⟩ := gd_inl hs
  obtain ⟨hl, hk⟩ := and_inv hl
  have hl := Nat.eq_of_beq_eq_true hl
  subst hl
  have hk := blt_inv hk
  replace q := sR_inl q; obtain ⟨x0, r0, e0, v0, q⟩ := q
  subst e0
  obtain ⟨rfl, rfl, rfl, rfl⟩ := nx_inl q
  rcases isR_inv v0 with rfl | ⟨a, rfl⟩
  · exact lv_astore_nN F.exec F.code hdg rfl C.lv.1 (by rw [← C.lv.2]; exact hk) rfl fun ls2 hv => kk _ _ _ (C.lvs (LVr_set1 C.lv.2 (by rw [← C.lv.2]; exact hk) (by simp) hv) (okt C.ok))
  · exact lv_astore_n F.exec F.code hdg rfl C.lv.1 (by rw [← C.lv.2]; exact hk) rfl fun ls2 hv => kk _ _ _ (C.lvs (LVr_set1 C.lv.2 (by rw [← C.lv.2]; exact hk) (by simp) hv) (okt C.ok))
theorem sm_astore (F : JF s0 args0 E p l R s m meth c y) {k : Nat} (hs : exi call y pc L st h len (.astore k) = some (.inl (pc2, L2, st2, h2))) (hdg : decode (jtCode y) pc = .ok (.astore k, len)) (C : CF s0 E n0 m0 y h H L st ls locs) (hr : h2.1 - n0 ≤ R.cells ∧ h2.2.1 - m0 ≤ R.slots) (kk : ∀ ls2 H2 locs2, CF s0 E n0 m0 y h2 H2 L2 st2 ls2 locs2 → W p l e R s m args below meth c H2 locs2 (h2.1 - n0) (h2.2.1 - m0) Q (F0 m pc2 ls2 st2)) : W p l e R s m args below meth c H locs (h.1 - n0) (h.2.1 - m0) Q (F0 m pc ls st) := by
  obtain ⟨hl, q⟩ := gd_inl hs
  obtain ⟨hl, hk⟩ := and_inv hl
  have hl := Nat.eq_of_beq_eq_true hl
  subst hl
  have hk := blt_inv hk
  replace q := sR_inl q; obtain ⟨x0, r0, e0, v0, q⟩ := q
  subst e0
  obtain ⟨rfl, rfl, rfl, rfl⟩ := nx_inl q
  rcases isR_inv v0 with rfl | ⟨a, rfl⟩
  · exact lv_astoreN F.exec F.code hdg C.lv.1 (by rw [← C.lv.2]; exact hk) rfl fun ls2 hv => kk _ _ _ (C.lvs (LVr_set1 C.lv.2 (by rw [← C.lv.2]; exact hk) (by simp) hv) (okt C.ok))
  · exact lv_astore F.exec F.code hdg C.lv.1 (by rw [← C.lv.2]; exact hk) rfl fun ls2 hv => kk _ _ _ (C.lvs (LVr_set1 C.lv.2 (by rw [← C.lv.2]; exact hk) (by simp) hv) (okt C.ok))
theorem sm_iinc (F : JF s0 args0 E p l R s m meth c y) {k : Nat} {n : Int} (hs : exi call y pc L st h len (.iinc k n) = some (.inl (pc2, L2, st2, h2))) (hdg : decode (jtCode y) pc = .ok (.iinc k n, len)) (C : CF s0 E n0 m0 y h H L st ls locs) (hr : h2.1 - n0 ≤ R.cells ∧ h2.2.1 - m0 ≤ R.slots) (kk : ∀ ls2 H2 locs2, CF s0 E n0 m0 y h2 H2 L2 st2 ls2 locs2 → W p l e R s m args below meth c H2 locs2 (h2.1 - n0) (h2.2.1 - m0) Q (F0 m pc2 ls2 st2)) : W p l e R s m args below meth c H locs (h.1 - n0) (h.2.1 - m0) Q (F0 m pc ls st) := by
  obtain ⟨hl, q⟩ := gd_inl hs
  obtain ⟨hl, hk⟩ := and_inv hl
  have hl := Nat.eq_of_beq_eq_true hl
  subst hl
  have hk := blt_inv hk
  replace q := rI_inl q; obtain ⟨x, e, q⟩ := q
  obtain ⟨rfl, rfl, rfl, rfl⟩ := nx_inl q
  have hm : (k, Value.int x) ∈ KL L := KL_mem.mpr ⟨LKn_I e, e.symm⟩
  obtain ⟨j, hj⟩ := List.getElem?_of_mem hm
  exact lv_iinc F.exec F.code hdg C.lv.1 hj rfl (by rw [← C.lv.2]; exact hk) rfl fun ls2 hv => kk _ _ _ (C.lvs (LVr_set1 C.lv.2 (by rw [← C.lv.2]; exact hk) (by simp) hv) C.ok)
theorem sm_dup (F : JF s0 args0 E p l R s m meth c y)  (hs : exi call y pc L st h len (.dup) = some (.inl (pc2, L2, st2, h2))) (hdg : decode (jtCode y) pc = .ok (.dup, len)) (C : CF s0 E n0 m0 y h H L st ls locs) (hr : h2.1 - n0 ≤ R.cells ∧ h2.2.1 - m0 ≤ R.slots) (kk : ∀ ls2 H2 locs2, CF s0 E n0 m0 y h2 H2 L2 st2 ls2 locs2 → W p l e R s m args below meth c H2 locs2 (h2.1 - n0) (h2.2.1 - m0) Q (F0 m pc2 ls2 st2)) : W p l e R s m args below meth c H locs (h.1 - n0) (h.2.1 - m0) Q (F0 m pc ls st) := by
  obtain ⟨hl, q⟩ := gd_inl hs
  have hl := Nat.eq_of_beq_eq_true hl
  subst hl
  replace q := sA_inl q; obtain ⟨x0, r0, e0, q⟩ := q
  subst e0
  replace q := gd_inl q; obtain ⟨g, q⟩ := q
  obtain ⟨rfl, rfl, rfl, rfl⟩ := nx_inl q
  exact lv_dup F.exec F.code hdg (cat1 g) (kk _ _ _ (C.stk (okc (C.ok _ List.mem_cons_self) C.ok)))
theorem sm_pop (F : JF s0 args0 E p l R s m meth c y)  (hs : exi call y pc L st h len (.pop) = some (.inl (pc2, L2, st2, h2))) (hdg : decode (jtCode y) pc = .ok (.pop, len)) (C : CF s0 E n0 m0 y h H L st ls locs) (hr : h2.1 - n0 ≤ R.cells ∧ h2.2.1 - m0 ≤ R.slots) (kk : ∀ ls2 H2 locs2, CF s0 E n0 m0 y h2 H2 L2 st2 ls2 locs2 → W p l e R s m args below meth c H2 locs2 (h2.1 - n0) (h2.2.1 - m0) Q (F0 m pc2 ls2 st2)) : W p l e R s m args below meth c H locs (h.1 - n0) (h.2.1 - m0) Q (F0 m pc ls st) := by
  obtain ⟨hl, q⟩ := gd_inl hs
  have hl := Nat.eq_of_beq_eq_true hl
  subst hl
  replace q := sA_inl q; obtain ⟨x0, r0, e0, q⟩ := q
  subst e0
  replace q := gd_inl q; obtain ⟨g, q⟩ := q
  obtain ⟨rfl, rfl, rfl, rfl⟩ := nx_inl q
  exact lv_pop F.exec F.code hdg (cat1 g) (kk _ _ _ (C.stk (okt C.ok)))
theorem sm_dup_x1 (F : JF s0 args0 E p l R s m meth c y)  (hs : exi call y pc L st h len (.dup_x1) = some (.inl (pc2, L2, st2, h2))) (hdg : decode (jtCode y) pc = .ok (.dup_x1, len)) (C : CF s0 E n0 m0 y h H L st ls locs) (hr : h2.1 - n0 ≤ R.cells ∧ h2.2.1 - m0 ≤ R.slots) (kk : ∀ ls2 H2 locs2, CF s0 E n0 m0 y h2 H2 L2 st2 ls2 locs2 → W p l e R s m args below meth c H2 locs2 (h2.1 - n0) (h2.2.1 - m0) Q (F0 m pc2 ls2 st2)) : W p l e R s m args below meth c H locs (h.1 - n0) (h.2.1 - m0) Q (F0 m pc ls st) := by
  obtain ⟨hl, q⟩ := gd_inl hs
  have hl := Nat.eq_of_beq_eq_true hl
  subst hl
  replace q := sA_inl q; obtain ⟨x0, r0, e0, q⟩ := q
  subst e0
  replace q := sA_inl q; obtain ⟨x1, r1, e1, q⟩ := q
  subst e1
  replace q := gd_inl q; obtain ⟨g, q⟩ := q
  obtain ⟨g0, g1⟩ := and_inv g
  obtain ⟨rfl, rfl, rfl, rfl⟩ := nx_inl q
  exact lv_dup_x1 F.exec F.code hdg (cat1 g0) (cat1 g1) (kk _ _ _ (C.stk (okc (C.ok _ List.mem_cons_self) (okc (okt C.ok _ List.mem_cons_self) (okc (C.ok _ List.mem_cons_self) (okt (okt C.ok)))))))
theorem sm_dup2 (F : JF s0 args0 E p l R s m meth c y)  (hs : exi call y pc L st h len (.dup2) = some (.inl (pc2, L2, st2, h2))) (hdg : decode (jtCode y) pc = .ok (.dup2, len)) (C : CF s0 E n0 m0 y h H L st ls locs) (hr : h2.1 - n0 ≤ R.cells ∧ h2.2.1 - m0 ≤ R.slots) (kk : ∀ ls2 H2 locs2, CF s0 E n0 m0 y h2 H2 L2 st2 ls2 locs2 → W p l e R s m args below meth c H2 locs2 (h2.1 - n0) (h2.2.1 - m0) Q (F0 m pc2 ls2 st2)) : W p l e R s m args below meth c H locs (h.1 - n0) (h.2.1 - m0) Q (F0 m pc ls st) := by
  obtain ⟨hl, q⟩ := gd_inl hs
  have hl := Nat.eq_of_beq_eq_true hl
  subst hl
  replace q := sA_inl q; obtain ⟨x0, r0, e0, q⟩ := q
  subst e0
  replace q := sA_inl q; obtain ⟨x1, r1, e1, q⟩ := q
  subst e1
  replace q := gd_inl q; obtain ⟨g, q⟩ := q
  obtain ⟨g0, g1⟩ := and_inv g
  obtain ⟨rfl, rfl, rfl, rfl⟩ := nx_inl q
  exact lv_dup2_11 F.exec F.code hdg (cat1 g0) (cat1 g1) (kk _ _ _ (C.stk (okc (C.ok _ List.mem_cons_self) (okc (okt C.ok _ List.mem_cons_self) C.ok))))
theorem sm_goto (F : JF s0 args0 E p l R s m meth c y) {off : Int} (hs : exi call y pc L st h len (.goto off) = some (.inl (pc2, L2, st2, h2))) (hdg : decode (jtCode y) pc = .ok (.goto off, len)) (C : CF s0 E n0 m0 y h H L st ls locs) (hr : h2.1 - n0 ≤ R.cells ∧ h2.2.1 - m0 ≤ R.slots) (kk : ∀ ls2 H2 locs2, CF s0 E n0 m0 y h2 H2 L2 st2 ls2 locs2 → W p l e R s m args below meth c H2 locs2 (h2.1 - n0) (h2.2.1 - m0) Q (F0 m pc2 ls2 st2)) : W p l e R s m args below meth c H locs (h.1 - n0) (h.2.1 - m0) Q (F0 m pc ls st) := by
  obtain ⟨hl, q⟩ := gd_inl hs
  have hl := Nat.eq_of_beq_eq_true hl
  subst hl
  replace q := gd_inl q; obtain ⟨g, q⟩ := q
  obtain ⟨rfl, rfl, rfl, rfl⟩ := nx_inl q
  exact lv_goto F.exec F.code hdg (jmp g) (kk _ _ _ (C.stk C.ok))
theorem sm_if_eq (F : JF s0 args0 E p l R s m meth c y) {off : Int} (hs : exi call y pc L st h len (.ifCond .eq off) = some (.inl (pc2, L2, st2, h2))) (hdg : decode (jtCode y) pc = .ok (.ifCond .eq off, len)) (C : CF s0 E n0 m0 y h H L st ls locs) (hr : h2.1 - n0 ≤ R.cells ∧ h2.2.1 - m0 ≤ R.slots) (kk : ∀ ls2 H2 locs2, CF s0 E n0 m0 y h2 H2 L2 st2 ls2 locs2 → W p l e R s m args below meth c H2 locs2 (h2.1 - n0) (h2.2.1 - m0) Q (F0 m pc2 ls2 st2)) : W p l e R s m args below meth c H locs (h.1 - n0) (h.2.1 - m0) Q (F0 m pc ls st) := by
  obtain ⟨hl, q⟩ := gd_inl hs
  have hl := Nat.eq_of_beq_eq_true hl
  subst hl
  replace q := sI_inl q; obtain ⟨x0, r0, e0, q⟩ := q
  subst e0
  by_cases hc : x0 = 0
  · have hb : cnd .eq x0 0 = true := decide_eq_true hc
    replace q := jbr_t hb q; obtain ⟨g, q⟩ := q
    obtain ⟨rfl, rfl, rfl, rfl⟩ := nx_inl q
    exact lv_if_eq F.exec F.code hdg (jmp g) (fun _ => kk _ _ _ (C.stk (okt C.ok))) (fun z => absurd hc z)
  · have hb : cnd .eq x0 0 = false := decide_eq_false hc
    have q := jbr_f hb q
    obtain ⟨rfl, rfl, rfl, rfl⟩ := nx_inl q
    exact br_if_eq F.exec F.code hdg hc (kk _ _ _ (C.stk (okt C.ok)))
theorem sm_icmp_eq (F : JF s0 args0 E p l R s m meth c y) {off : Int} (hs : exi call y pc L st h len (.if_icmp .eq off) = some (.inl (pc2, L2, st2, h2))) (hdg : decode (jtCode y) pc = .ok (.if_icmp .eq off, len)) (C : CF s0 E n0 m0 y h H L st ls locs) (hr : h2.1 - n0 ≤ R.cells ∧ h2.2.1 - m0 ≤ R.slots) (kk : ∀ ls2 H2 locs2, CF s0 E n0 m0 y h2 H2 L2 st2 ls2 locs2 → W p l e R s m args below meth c H2 locs2 (h2.1 - n0) (h2.2.1 - m0) Q (F0 m pc2 ls2 st2)) : W p l e R s m args below meth c H locs (h.1 - n0) (h.2.1 - m0) Q (F0 m pc ls st) := by
  obtain ⟨hl, q⟩ := gd_inl hs
  have hl := Nat.eq_of_beq_eq_true hl
  subst hl
  replace q := sI_inl q; obtain ⟨x0, r0, e0, q⟩ := q
  subst e0
  replace q := sI_inl q; obtain ⟨x1, r1, e1, q⟩ := q
  subst e1
  by_cases hc : x1 = x0
  · have hb : cnd .eq x1 x0 = true := decide_eq_true hc
    replace q := jbr_t hb q; obtain ⟨g, q⟩ := q
    obtain ⟨rfl, rfl, rfl, rfl⟩ := nx_inl q
    exact lv_icmp_eq F.exec F.code hdg (jmp g) (fun _ => kk _ _ _ (C.stk (okt (okt C.ok)))) (fun z => absurd hc z)
  · have hb : cnd .eq x1 x0 = false := decide_eq_false hc
    have q := jbr_f hb q
    obtain ⟨rfl, rfl, rfl, rfl⟩ := nx_inl q
    exact br_icmp_eq F.exec F.code hdg hc (kk _ _ _ (C.stk (okt (okt C.ok))))
theorem sm_if_ne (F : JF s0 args0 E p l R s m meth c y) {off : Int} (hs : exi call y pc L st h len (.ifCond .ne off) = some (.inl (pc2, L2, st2, h2))) (hdg : decode (jtCode y) pc = .ok (.ifCond .ne off, len)) (C : CF s0 E n0 m0 y h H L st ls locs) (hr : h2.1 - n0 ≤ R.cells ∧ h2.2.1 - m0 ≤ R.slots) (kk : ∀ ls2 H2 locs2, CF s0 E n0 m0 y h2 H2 L2 st2 ls2 locs2 → W p l e R s m args below meth c H2 locs2 (h2.1 - n0) (h2.2.1 - m0) Q (F0 m pc2 ls2 st2)) : W p l e R s m args below meth c H locs (h.1 - n0) (h.2.1 - m0) Q (F0 m pc ls st) := by
  obtain ⟨hl, q⟩ := gd_inl hs
  have hl := Nat.eq_of_beq_eq_true hl
  subst hl
  replace q := sI_inl q; obtain ⟨x0, r0, e0, q⟩ := q
  subst e0
  by_cases hc : ¬ x0 = 0
  · have hb : cnd .ne x0 0 = true := decide_eq_true hc
    replace q := jbr_t hb q; obtain ⟨g, q⟩ := q
    obtain ⟨rfl, rfl, rfl, rfl⟩ := nx_inl q
    exact lv_if_ne F.exec F.code hdg (jmp g) (fun _ => kk _ _ _ (C.stk (okt C.ok))) (fun z => absurd z hc)
  · have hb : cnd .ne x0 0 = false := decide_eq_false hc
    have q := jbr_f hb q
    obtain ⟨rfl, rfl, rfl, rfl⟩ := nx_inl q
    exact br_if_ne F.exec F.code hdg hc (kk _ _ _ (C.stk (okt C.ok)))
theorem sm_icmp_ne (F : JF s0 args0 E p l R s m meth c y) {off : Int} (hs : exi call y pc L st h len (.if_icmp .ne off) = some (.inl (pc2, L2, st2, h2))) (hdg : decode (jtCode y) pc = .ok (.if_icmp .ne off, len)) (C : CF s0 E n0 m0 y h H L st ls locs) (hr : h2.1 - n0 ≤ R.cells ∧ h2.2.1 - m0 ≤ R.slots) (kk : ∀ ls2 H2 locs2, CF s0 E n0 m0 y h2 H2 L2 st2 ls2 locs2 → W p l e R s m args below meth c H2 locs2 (h2.1 - n0) (h2.2.1 - m0) Q (F0 m pc2 ls2 st2)) : W p l e R s m args below meth c H locs (h.1 - n0) (h.2.1 - m0) Q (F0 m pc ls st) := by
  obtain ⟨hl, q⟩ := gd_inl hs
  have hl := Nat.eq_of_beq_eq_true hl
  subst hl
  replace q := sI_inl q; obtain ⟨x0, r0, e0, q⟩ := q
  subst e0
  replace q := sI_inl q; obtain ⟨x1, r1, e1, q⟩ := q
  subst e1
  by_cases hc : ¬ x1 = x0
  · have hb : cnd .ne x1 x0 = true := decide_eq_true hc
    replace q := jbr_t hb q; obtain ⟨g, q⟩ := q
    obtain ⟨rfl, rfl, rfl, rfl⟩ := nx_inl q
    exact lv_icmp_ne F.exec F.code hdg (jmp g) (fun _ => kk _ _ _ (C.stk (okt (okt C.ok)))) (fun z => absurd z hc)
  · have hb : cnd .ne x1 x0 = false := decide_eq_false hc
    have q := jbr_f hb q
    obtain ⟨rfl, rfl, rfl, rfl⟩ := nx_inl q
    exact br_icmp_ne F.exec F.code hdg hc (kk _ _ _ (C.stk (okt (okt C.ok))))
theorem sm_if_lt (F : JF s0 args0 E p l R s m meth c y) {off : Int} (hs : exi call y pc L st h len (.ifCond .lt off) = some (.inl (pc2, L2, st2, h2))) (hdg : decode (jtCode y) pc = .ok (.ifCond .lt off, len)) (C : CF s0 E n0 m0 y h H L st ls locs) (hr : h2.1 - n0 ≤ R.cells ∧ h2.2.1 - m0 ≤ R.slots) (kk : ∀ ls2 H2 locs2, CF s0 E n0 m0 y h2 H2 L2 st2 ls2 locs2 → W p l e R s m args below meth c H2 locs2 (h2.1 - n0) (h2.2.1 - m0) Q (F0 m pc2 ls2 st2)) : W p l e R s m args below meth c H locs (h.1 - n0) (h.2.1 - m0) Q (F0 m pc ls st) := by
  obtain ⟨hl, q⟩ := gd_inl hs
  have hl := Nat.eq_of_beq_eq_true hl
  subst hl
  replace q := sI_inl q; obtain ⟨x0, r0, e0, q⟩ := q
  subst e0
  by_cases hc : x0 < 0
  · have hb : cnd .lt x0 0 = true := decide_eq_true hc
    replace q := jbr_t hb q; obtain ⟨g, q⟩ := q
    obtain ⟨rfl, rfl, rfl, rfl⟩ := nx_inl q
    exact lv_if_lt F.exec F.code hdg (jmp g) (fun _ => kk _ _ _ (C.stk (okt C.ok))) (fun z => absurd hc z)
  · have hb : cnd .lt x0 0 = false := decide_eq_false hc
    have q := jbr_f hb q
    obtain ⟨rfl, rfl, rfl, rfl⟩ := nx_inl q
    exact br_if_lt F.exec F.code hdg hc (kk _ _ _ (C.stk (okt C.ok)))
theorem sm_icmp_lt (F : JF s0 args0 E p l R s m meth c y) {off : Int} (hs : exi call y pc L st h len (.if_icmp .lt off) = some (.inl (pc2, L2, st2, h2))) (hdg : decode (jtCode y) pc = .ok (.if_icmp .lt off, len)) (C : CF s0 E n0 m0 y h H L st ls locs) (hr : h2.1 - n0 ≤ R.cells ∧ h2.2.1 - m0 ≤ R.slots) (kk : ∀ ls2 H2 locs2, CF s0 E n0 m0 y h2 H2 L2 st2 ls2 locs2 → W p l e R s m args below meth c H2 locs2 (h2.1 - n0) (h2.2.1 - m0) Q (F0 m pc2 ls2 st2)) : W p l e R s m args below meth c H locs (h.1 - n0) (h.2.1 - m0) Q (F0 m pc ls st) := by
  obtain ⟨hl, q⟩ := gd_inl hs
  have hl := Nat.eq_of_beq_eq_true hl
  subst hl
  replace q := sI_inl q; obtain ⟨x0, r0, e0, q⟩ := q
  subst e0
  replace q := sI_inl q; obtain ⟨x1, r1, e1, q⟩ := q
  subst e1
  by_cases hc : x1 < x0
  · have hb : cnd .lt x1 x0 = true := decide_eq_true hc
    replace q := jbr_t hb q; obtain ⟨g, q⟩ := q
    obtain ⟨rfl, rfl, rfl, rfl⟩ := nx_inl q
    exact lv_icmp_lt F.exec F.code hdg (jmp g) (fun _ => kk _ _ _ (C.stk (okt (okt C.ok)))) (fun z => absurd hc z)
  · have hb : cnd .lt x1 x0 = false := decide_eq_false hc
    have q := jbr_f hb q
    obtain ⟨rfl, rfl, rfl, rfl⟩ := nx_inl q
    exact br_icmp_lt F.exec F.code hdg hc (kk _ _ _ (C.stk (okt (okt C.ok))))
theorem sm_if_ge (F : JF s0 args0 E p l R s m meth c y) {off : Int} (hs : exi call y pc L st h len (.ifCond .ge off) = some (.inl (pc2, L2, st2, h2))) (hdg : decode (jtCode y) pc = .ok (.ifCond .ge off, len)) (C : CF s0 E n0 m0 y h H L st ls locs) (hr : h2.1 - n0 ≤ R.cells ∧ h2.2.1 - m0 ≤ R.slots) (kk : ∀ ls2 H2 locs2, CF s0 E n0 m0 y h2 H2 L2 st2 ls2 locs2 → W p l e R s m args below meth c H2 locs2 (h2.1 - n0) (h2.2.1 - m0) Q (F0 m pc2 ls2 st2)) : W p l e R s m args below meth c H locs (h.1 - n0) (h.2.1 - m0) Q (F0 m pc ls st) := by
  obtain ⟨hl, q⟩ := gd_inl hs
  have hl := Nat.eq_of_beq_eq_true hl
  subst hl
  replace q := sI_inl q; obtain ⟨x0, r0, e0, q⟩ := q
  subst e0
  by_cases hc : 0 ≤ x0
  · have hb : cnd .ge x0 0 = true := decide_eq_true hc
    replace q := jbr_t hb q; obtain ⟨g, q⟩ := q
    obtain ⟨rfl, rfl, rfl, rfl⟩ := nx_inl q
    exact lv_if_ge F.exec F.code hdg (jmp g) (fun _ => kk _ _ _ (C.stk (okt C.ok))) (fun z => absurd hc z)
  · have hb : cnd .ge x0 0 = false := decide_eq_false hc
    have q := jbr_f hb q
    obtain ⟨rfl, rfl, rfl, rfl⟩ := nx_inl q
    exact br_if_ge F.exec F.code hdg hc (kk _ _ _ (C.stk (okt C.ok)))
theorem sm_icmp_ge (F : JF s0 args0 E p l R s m meth c y) {off : Int} (hs : exi call y pc L st h len (.if_icmp .ge off) = some (.inl (pc2, L2, st2, h2))) (hdg : decode (jtCode y) pc = .ok (.if_icmp .ge off, len)) (C : CF s0 E n0 m0 y h H L st ls locs) (hr : h2.1 - n0 ≤ R.cells ∧ h2.2.1 - m0 ≤ R.slots) (kk : ∀ ls2 H2 locs2, CF s0 E n0 m0 y h2 H2 L2 st2 ls2 locs2 → W p l e R s m args below meth c H2 locs2 (h2.1 - n0) (h2.2.1 - m0) Q (F0 m pc2 ls2 st2)) : W p l e R s m args below meth c H locs (h.1 - n0) (h.2.1 - m0) Q (F0 m pc ls st) := by
  obtain ⟨hl, q⟩ := gd_inl hs
  have hl := Nat.eq_of_beq_eq_true hl
  subst hl
  replace q := sI_inl q; obtain ⟨x0, r0, e0, q⟩ := q
  subst e0
  replace q := sI_inl q; obtain ⟨x1, r1, e1, q⟩ := q
  subst e1
  by_cases hc : x0 ≤ x1
  · have hb : cnd .ge x1 x0 = true := decide_eq_true hc
    replace q := jbr_t hb q; obtain ⟨g, q⟩ := q
    obtain ⟨rfl, rfl, rfl, rfl⟩ := nx_inl q
    exact lv_icmp_ge F.exec F.code hdg (jmp g) (fun _ => kk _ _ _ (C.stk (okt (okt C.ok)))) (fun z => absurd hc z)
  · have hb : cnd .ge x1 x0 = false := decide_eq_false hc
    have q := jbr_f hb q
    obtain ⟨rfl, rfl, rfl, rfl⟩ := nx_inl q
    exact br_icmp_ge F.exec F.code hdg hc (kk _ _ _ (C.stk (okt (okt C.ok))))
theorem sm_if_gt (F : JF s0 args0 E p l R s m meth c y) {off : Int} (hs : exi call y pc L st h len (.ifCond .gt off) = some (.inl (pc2, L2, st2, h2))) (hdg : decode (jtCode y) pc = .ok (.ifCond .gt off, len)) (C : CF s0 E n0 m0 y h H L st ls locs) (hr : h2.1 - n0 ≤ R.cells ∧ h2.2.1 - m0 ≤ R.slots) (kk : ∀ ls2 H2 locs2, CF s0 E n0 m0 y h2 H2 L2 st2 ls2 locs2 → W p l e R s m args below meth c H2 locs2 (h2.1 - n0) (h2.2.1 - m0) Q (F0 m pc2 ls2 st2)) : W p l e R s m args below meth c H locs (h.1 - n0) (h.2.1 - m0) Q (F0 m pc ls st) := by
  obtain ⟨hl, q⟩ := gd_inl hs
  have hl := Nat.eq_of_beq_eq_true hl
  subst hl
  replace q := sI_inl q; obtain ⟨x0, r0, e0, q⟩ := q
  subst e0
  by_cases hc : 0 < x0
  · have hb : cnd .gt x0 0 = true := decide_eq_true hc
    replace q := jbr_t hb q; obtain ⟨g, q⟩ := q
    obtain ⟨rfl, rfl, rfl, rfl⟩ := nx_inl q
    exact lv_if_gt F.exec F.code hdg (jmp g) (fun _ => kk _ _ _ (C.stk (okt C.ok))) (fun z => absurd hc z)
  · have hb : cnd .gt x0 0 = false := decide_eq_false hc
    have q := jbr_f hb q
    obtain ⟨rfl, rfl, rfl, rfl⟩ := nx_inl q
    exact br_if_gt F.exec F.code hdg hc (kk _ _ _ (C.stk (okt C.ok)))
theorem sm_icmp_gt (F : JF s0 args0 E p l R s m meth c y) {off : Int} (hs : exi call y pc L st h len (.if_icmp .gt off) = some (.inl (pc2, L2, st2, h2))) (hdg : decode (jtCode y) pc = .ok (.if_icmp .gt off, len)) (C : CF s0 E n0 m0 y h H L st ls locs) (hr : h2.1 - n0 ≤ R.cells ∧ h2.2.1 - m0 ≤ R.slots) (kk : ∀ ls2 H2 locs2, CF s0 E n0 m0 y h2 H2 L2 st2 ls2 locs2 → W p l e R s m args below meth c H2 locs2 (h2.1 - n0) (h2.2.1 - m0) Q (F0 m pc2 ls2 st2)) : W p l e R s m args below meth c H locs (h.1 - n0) (h.2.1 - m0) Q (F0 m pc ls st) := by
  obtain ⟨hl, q⟩ := gd_inl hs
  have hl := Nat.eq_of_beq_eq_true hl
  subst hl
  replace q := sI_inl q; obtain ⟨x0, r0, e0, q⟩ := q
  subst e0
  replace q := sI_inl q; obtain ⟨x1, r1, e1, q⟩ := q
  subst e1
  by_cases hc : x0 < x1
  · have hb : cnd .gt x1 x0 = true := decide_eq_true hc
    replace q := jbr_t hb q; obtain ⟨g, q⟩ := q
    obtain ⟨rfl, rfl, rfl, rfl⟩ := nx_inl q
    exact lv_icmp_gt F.exec F.code hdg (jmp g) (fun _ => kk _ _ _ (C.stk (okt (okt C.ok)))) (fun z => absurd hc z)
  · have hb : cnd .gt x1 x0 = false := decide_eq_false hc
    have q := jbr_f hb q
    obtain ⟨rfl, rfl, rfl, rfl⟩ := nx_inl q
    exact br_icmp_gt F.exec F.code hdg hc (kk _ _ _ (C.stk (okt (okt C.ok))))
theorem sm_if_le (F : JF s0 args0 E p l R s m meth c y) {off : Int} (hs : exi call y pc L st h len (.ifCond .le off) = some (.inl (pc2, L2, st2, h2))) (hdg : decode (jtCode y) pc = .ok (.ifCond .le off, len)) (C : CF s0 E n0 m0 y h H L st ls locs) (hr : h2.1 - n0 ≤ R.cells ∧ h2.2.1 - m0 ≤ R.slots) (kk : ∀ ls2 H2 locs2, CF s0 E n0 m0 y h2 H2 L2 st2 ls2 locs2 → W p l e R s m args below meth c H2 locs2 (h2.1 - n0) (h2.2.1 - m0) Q (F0 m pc2 ls2 st2)) : W p l e R s m args below meth c H locs (h.1 - n0) (h.2.1 - m0) Q (F0 m pc ls st) := by
  obtain ⟨hl, q⟩ := gd_inl hs
  have hl := Nat.eq_of_beq_eq_true hl
  subst hl
  replace q := sI_inl q; obtain ⟨x0, r0, e0, q⟩ := q
  subst e0
  by_cases hc : x0 ≤ 0
  · have hb : cnd .le x0 0 = true := decide_eq_true hc
    replace q := jbr_t hb q; obtain ⟨g, q⟩ := q
    obtain ⟨rfl, rfl, rfl, rfl⟩ := nx_inl q
    exact lv_if_le F.exec F.code hdg (jmp g) (fun _ => kk _ _ _ (C.stk (okt C.ok))) (fun z => absurd hc z)
  · have hb : cnd .le x0 0 = false := decide_eq_false hc
    have q := jbr_f hb q
    obtain ⟨rfl, rfl, rfl, rfl⟩ := nx_inl q
    exact br_if_le F.exec F.code hdg hc (kk _ _ _ (C.stk (okt C.ok)))
theorem sm_icmp_le (F : JF s0 args0 E p l R s m meth c y) {off : Int} (hs : exi call y pc L st h len (.if_icmp .le off) = some (.inl (pc2, L2, st2, h2))) (hdg : decode (jtCode y) pc = .ok (.if_icmp .le off, len)) (C : CF s0 E n0 m0 y h H L st ls locs) (hr : h2.1 - n0 ≤ R.cells ∧ h2.2.1 - m0 ≤ R.slots) (kk : ∀ ls2 H2 locs2, CF s0 E n0 m0 y h2 H2 L2 st2 ls2 locs2 → W p l e R s m args below meth c H2 locs2 (h2.1 - n0) (h2.2.1 - m0) Q (F0 m pc2 ls2 st2)) : W p l e R s m args below meth c H locs (h.1 - n0) (h.2.1 - m0) Q (F0 m pc ls st) := by
  obtain ⟨hl, q⟩ := gd_inl hs
  have hl := Nat.eq_of_beq_eq_true hl
  subst hl
  replace q := sI_inl q; obtain ⟨x0, r0, e0, q⟩ := q
  subst e0
  replace q := sI_inl q; obtain ⟨x1, r1, e1, q⟩ := q
  subst e1
  by_cases hc : x1 ≤ x0
  · have hb : cnd .le x1 x0 = true := decide_eq_true hc
    replace q := jbr_t hb q; obtain ⟨g, q⟩ := q
    obtain ⟨rfl, rfl, rfl, rfl⟩ := nx_inl q
    exact lv_icmp_le F.exec F.code hdg (jmp g) (fun _ => kk _ _ _ (C.stk (okt (okt C.ok)))) (fun z => absurd hc z)
  · have hb : cnd .le x1 x0 = false := decide_eq_false hc
    have q := jbr_f hb q
    obtain ⟨rfl, rfl, rfl, rfl⟩ := nx_inl q
    exact br_icmp_le F.exec F.code hdg hc (kk _ _ _ (C.stk (okt (okt C.ok))))
theorem rf_of {v : Value} (h : isR v = true) : ∃ r, v = va_rf r := by
  rcases isR_inv h with rfl | ⟨a, rfl⟩
  · exact ⟨none, rfl⟩
  · exact ⟨some a, rfl⟩
theorem rf_inj {r r' : Option Nat} (h : va_rf r = va_rf r') : r = r' := by
  cases r <;> cases r' <;> first | rfl | (cases h; rfl) | cases h
theorem sm_acmp_eq (F : JF s0 args0 E p l R s m meth c y) {off : Int} (hs : exi call y pc L st h len (.if_acmp .eq off) = some (.inl (pc2, L2, st2, h2))) (hdg : decode (jtCode y) pc = .ok (.if_acmp .eq off, len)) (C : CF s0 E n0 m0 y h H L st ls locs) (hr : h2.1 - n0 ≤ R.cells ∧ h2.2.1 - m0 ≤ R.slots) (kk : ∀ ls2 H2 locs2, CF s0 E n0 m0 y h2 H2 L2 st2 ls2 locs2 → W p l e R s m args below meth c H2 locs2 (h2.1 - n0) (h2.2.1 - m0) Q (F0 m pc2 ls2 st2)) : W p l e R s m args below meth c H locs (h.1 - n0) (h.2.1 - m0) Q (F0 m pc ls st) := by
  obtain ⟨hl, q⟩ := gd_inl hs
  have hl := Nat.eq_of_beq_eq_true hl
  subst hl
  replace q := sR_inl q; obtain ⟨x0, r0, e0, v0, q⟩ := q
  subst e0
  replace q := sR_inl q; obtain ⟨x1, r1, e1, v1, q⟩ := q
  subst e1
  obtain ⟨a0, rfl⟩ := rf_of v0
  obtain ⟨a1, rfl⟩ := rf_of v1
  by_cases hc : a1 = a0
  · replace q := jbr_t (decide_eq_true (by rw [hc])) q; obtain ⟨g, q⟩ := q
    obtain ⟨rfl, rfl, rfl, rfl⟩ := nx_inl q
    exact lv_acmp_eq F.exec F.code hdg (jmp g) (fun _ => kk _ _ _ (C.stk (okt (okt C.ok)))) (fun z => absurd hc z)
  · have q := jbr_f (decide_eq_false (fun z => hc (rf_inj z))) q
    obtain ⟨rfl, rfl, rfl, rfl⟩ := nx_inl q
    exact br_acmp_eq F.exec F.code hdg hc (kk _ _ _ (C.stk (okt (okt C.ok))))
theorem sm_acmp_ne (F : JF s0 args0 E p l R s m meth c y) {off : Int} (hs : exi call y pc L st h len (.if_acmp .ne off) = some (.inl (pc2, L2, st2, h2))) (hdg : decode (jtCode y) pc = .ok (.if_acmp .ne off, len)) (C : CF s0 E n0 m0 y h H L st ls locs) (hr : h2.1 - n0 ≤ R.cells ∧ h2.2.1 - m0 ≤ R.slots) (kk : ∀ ls2 H2 locs2, CF s0 E n0 m0 y h2 H2 L2 st2 ls2 locs2 → W p l e R s m args below meth c H2 locs2 (h2.1 - n0) (h2.2.1 - m0) Q (F0 m pc2 ls2 st2)) : W p l e R s m args below meth c H locs (h.1 - n0) (h.2.1 - m0) Q (F0 m pc ls st) := by
  obtain ⟨hl, q⟩ := gd_inl hs
  have hl := Nat.eq_of_beq_eq_true hl
  subst hl
  replace q := sR_inl q; obtain ⟨x0, r0, e0, v0, q⟩ := q
  subst e0
  replace q := sR_inl q; obtain ⟨x1, r1, e1, v1, q⟩ := q
  subst e1
  obtain ⟨a0, rfl⟩ := rf_of v0
  obtain ⟨a1, rfl⟩ := rf_of v1
  replace q := (show jbr (decide (¬ va_rf a1 = va_rf a0)) pc off L _ h = some (.inl (pc2, L2, st2, h2)) from q)
  by_cases hc : a1 = a0
  · subst hc
    have q := jbr_f (decide_eq_false (fun z => z rfl)) q
    obtain ⟨rfl, rfl, rfl, rfl⟩ := nx_inl q
    exact br_acmp_ne F.exec F.code hdg (kk _ _ _ (C.stk (okt (okt C.ok))))
  · replace q := jbr_t (decide_eq_true (p := ¬ va_rf a1 = va_rf a0) (fun z => hc (rf_inj z))) q; obtain ⟨g, q⟩ := q
    obtain ⟨rfl, rfl, rfl, rfl⟩ := nx_inl q
    exact lv_acmp_ne F.exec F.code hdg (jmp g) (fun _ => kk _ _ _ (C.stk (okt (okt C.ok)))) (fun z => absurd z hc)
theorem sm_ifnull (F : JF s0 args0 E p l R s m meth c y) {off : Int} (hs : exi call y pc L st h len (.ifnull off) = some (.inl (pc2, L2, st2, h2))) (hdg : decode (jtCode y) pc = .ok (.ifnull off, len)) (C : CF s0 E n0 m0 y h H L st ls locs) (hr : h2.1 - n0 ≤ R.cells ∧ h2.2.1 - m0 ≤ R.slots) (kk : ∀ ls2 H2 locs2, CF s0 E n0 m0 y h2 H2 L2 st2 ls2 locs2 → W p l e R s m args below meth c H2 locs2 (h2.1 - n0) (h2.2.1 - m0) Q (F0 m pc2 ls2 st2)) : W p l e R s m args below meth c H locs (h.1 - n0) (h.2.1 - m0) Q (F0 m pc ls st) := by
  obtain ⟨hl, q⟩ := gd_inl hs
  have hl := Nat.eq_of_beq_eq_true hl
  subst hl
  replace q := sR_inl q; obtain ⟨x0, r0, e0, v0, q⟩ := q
  subst e0
  rcases isR_inv v0 with rfl | ⟨a, rfl⟩
  · replace q := jbr_t (decide_eq_true rfl) q; obtain ⟨g, q⟩ := q
    obtain ⟨rfl, rfl, rfl, rfl⟩ := nx_inl q
    exact lv_ifnullN F.exec F.code hdg (jmp g) (kk _ _ _ (C.stk (okt C.ok)))
  · have q := jbr_f (decide_eq_false (fun z => by cases z)) q
    obtain ⟨rfl, rfl, rfl, rfl⟩ := nx_inl q
    exact lv_ifnull F.exec F.code hdg (kk _ _ _ (C.stk (okt C.ok)))
theorem sm_ifnonnull (F : JF s0 args0 E p l R s m meth c y) {off : Int} (hs : exi call y pc L st h len (.ifnonnull off) = some (.inl (pc2, L2, st2, h2))) (hdg : decode (jtCode y) pc = .ok (.ifnonnull off, len)) (C : CF s0 E n0 m0 y h H L st ls locs) (hr : h2.1 - n0 ≤ R.cells ∧ h2.2.1 - m0 ≤ R.slots) (kk : ∀ ls2 H2 locs2, CF s0 E n0 m0 y h2 H2 L2 st2 ls2 locs2 → W p l e R s m args below meth c H2 locs2 (h2.1 - n0) (h2.2.1 - m0) Q (F0 m pc2 ls2 st2)) : W p l e R s m args below meth c H locs (h.1 - n0) (h.2.1 - m0) Q (F0 m pc ls st) := by
  obtain ⟨hl, q⟩ := gd_inl hs
  have hl := Nat.eq_of_beq_eq_true hl
  subst hl
  replace q := sR_inl q; obtain ⟨x0, r0, e0, v0, q⟩ := q
  subst e0
  rcases isR_inv v0 with rfl | ⟨a, rfl⟩
  · have q := jbr_f (decide_eq_false (fun z => z rfl)) q
    obtain ⟨rfl, rfl, rfl, rfl⟩ := nx_inl q
    exact lv_ifnonnullN F.exec F.code hdg (kk _ _ _ (C.stk (okt C.ok)))
  · replace q := jbr_t (decide_eq_true (fun z => by cases z)) q; obtain ⟨g, q⟩ := q
    obtain ⟨rfl, rfl, rfl, rfl⟩ := nx_inl q
    exact lv_ifnonnull F.exec F.code hdg (jmp g) (kk _ _ _ (C.stk (okt C.ok)))
theorem i32_small {z : Int} (h1 : -1001 ≤ z) (h2 : z ≤ 1000) : (Int32.ofInt z).toInt = z := Int32.toInt_ofInt_of_le (by omega) (by omega)
theorem sm_lookupswitch (F : JF s0 args0 E p l R s m meth c y) {d : Int} {ps : Array (Int × Int)} (hs : exi call y pc L st h len (.lookupswitch d ps) = some (.inl (pc2, L2, st2, h2))) (hdg : decode (jtCode y) pc = .ok (.lookupswitch d ps, len)) (C : CF s0 E n0 m0 y h H L st ls locs) (hr : h2.1 - n0 ≤ R.cells ∧ h2.2.1 - m0 ≤ R.slots) (kk : ∀ ls2 H2 locs2, CF s0 E n0 m0 y h2 H2 L2 st2 ls2 locs2 → W p l e R s m args below meth c H2 locs2 (h2.1 - n0) (h2.2.1 - m0) Q (F0 m pc2 ls2 st2)) : W p l e R s m args below meth c H locs (h.1 - n0) (h.2.1 - m0) Q (F0 m pc ls st) := by
  obtain ⟨x, r, e0, q⟩ := sI_inl hs
  subst e0
  replace q := gd_inl q; obtain ⟨g, q⟩ := q
  obtain ⟨g1, g2⟩ := and_inv g
  obtain ⟨rfl, rfl, rfl, rfl⟩ := nx_inl q
  exact lv_lookup F.exec F.code hdg g2 rfl (jmp g1) (kk _ _ _ (C.stk (okt C.ok)))
theorem sm_tableswitch (F : JF s0 args0 E p l R s m meth c y) {d lo hi : Int} {ts : Array Int} (hs : exi call y pc L st h len (.tableswitch d lo hi ts) = some (.inl (pc2, L2, st2, h2))) (hdg : decode (jtCode y) pc = .ok (.tableswitch d lo hi ts, len)) (C : CF s0 E n0 m0 y h H L st ls locs) (hr : h2.1 - n0 ≤ R.cells ∧ h2.2.1 - m0 ≤ R.slots) (kk : ∀ ls2 H2 locs2, CF s0 E n0 m0 y h2 H2 L2 st2 ls2 locs2 → W p l e R s m args below meth c H2 locs2 (h2.1 - n0) (h2.2.1 - m0) Q (F0 m pc2 ls2 st2)) : W p l e R s m args below meth c H locs (h.1 - n0) (h.2.1 - m0) Q (F0 m pc ls st) := by
  obtain ⟨x, r, e0, q⟩ := sI_inl hs
  subst e0
  replace q := gd_inl q; obtain ⟨g, q⟩ := q
  obtain ⟨g, g3⟩ := and_inv g
  obtain ⟨g1, g2⟩ := and_inv g
  obtain ⟨rfl, rfl, rfl, rfl⟩ := nx_inl q
  obtain ⟨b1, b2, b3⟩ := of_decide_eq_true g3
  have hlo : (Int32.ofInt lo).toInt = lo := i32_small (by omega) (by omega)
  have hhi : (Int32.ofInt hi).toInt = hi := i32_small (by omega) (by omega)
  by_cases hin : x.toInt < lo ∨ hi < x.toInt
  · refine lv_tableOut F.exec F.code hdg hin (jmp g1) ?_
    have e : swT x (Int32.ofInt lo) (Int32.ofInt hi) (ts.toList.map fun t => ((pc : Int) + t).toNat) ((pc : Int) + d).toNat = ((pc : Int) + d).toNat := by
      unfold swT
      rw [if_pos]
      rcases hin with z | z
      · exact Or.inl (Int32.lt_iff_toInt_lt.mpr (by rw [hlo]; exact z))
      · exact Or.inr (Int32.lt_iff_toInt_lt.mpr (by rw [hhi]; exact z))
    rw [e] at kk
    exact kk _ _ _ (C.stk (okt C.ok))
  · have hin1 : ¬ x.toInt < lo := fun z => hin (Or.inl z)
    have hin2 : ¬ hi < x.toInt := fun z => hin (Or.inr z)
    have hidx : (x.toInt - lo).toNat < ts.size := by omega
    have hsub : (x - Int32.ofInt lo).toNatClampNeg = (x.toInt - lo).toNat := by
      have : (x - Int32.ofInt lo).toInt = x.toInt - lo := by
        rw [Int32.toInt_sub, hlo]
        exact Int.bmod_eq_of_le (by omega) (by omega)
      show (x - Int32.ofInt lo).toInt.toNat = _
      rw [this]
    have ho : ts[(x.toInt - lo).toNat]? = some ts[(x.toInt - lo).toNat] := Array.getElem?_eq_getElem hidx
    have hge : 0 ≤ (pc : Int) + ts[(x.toInt - lo).toNat] := of_decide_eq_true (List.all_eq_true.mp g2 _ (Array.getElem_mem_toList hidx))
    refine lv_tableIn F.exec F.code hdg hin1 hin2 ho (tgt := ((pc : Int) + ts[(x.toInt - lo).toNat]).toNat) (by omega) ?_
    have e : swT x (Int32.ofInt lo) (Int32.ofInt hi) (ts.toList.map fun t => ((pc : Int) + t).toNat) ((pc : Int) + d).toNat = ((pc : Int) + ts[(x.toInt - lo).toNat]).toNat := by
      unfold swT
      rw [if_neg, hsub, List.getD_eq_getElem?_getD, List.getElem?_map, Array.getElem?_toList, ho]
      · rfl
      · rintro (z | z)
        · have := Int32.lt_iff_toInt_lt.mp z; omega
        · have := Int32.lt_iff_toInt_lt.mp z; omega
    rw [e] at kk
    exact kk _ _ _ (C.stk (okt C.ok))
theorem jkey_or (y idx : Nat) : jkey y idx = 0 ∨ (jown (jkey y idx) = jtCls (y / 1000) ∧ jidx (jkey y idx) = idx) := by
  unfold jkey jown jidx
  cases hb : Nat.blt idx 2000 with
  | false => exact Or.inl rfl
  | true =>
    have hi := blt_inv hb
    right
    show jtCls ((2000 * (y / 1000) + idx) / 2000) = _ ∧ (2000 * (y / 1000) + idx) % 2000 = idx
    rw [show (2000 * (y / 1000) + idx) / 2000 = y / 1000 by omega, show (2000 * (y / 1000) + idx) % 2000 = idx by omega]
    exact ⟨rfl, rfl⟩
/-- an object's cell, at a later state -/
theorem obj_at (F : JF s0 args0 E p l R s m meth c y) (C : RpH s0 E h H) {a t n : Nat} {f : Nat → Value} (hc : jm h a = some (t, n, f)) (ht : t < 200) : ∃ ce, H[a]? = some ce ∧ ce.vm.isStatics = false ∧ ce.vm ≠ .unknown ∧ (mutT t = true → ce.vm = .none ∧ s0.heap.size ≤ a) ∧ ckO s0 t f ce ∧ s.vm.findClass (jtCls (t % 100)) = some ce.cls := by
  obtain ⟨ce, g1, g2, g3, g4, g5, -⟩ := C.2.2.2.2 a _ hc
  have g6 := g5 ht
  exact ⟨ce, g1, g2, g3, g4, g6, by rw [F.warm.alike.findClass]; exact g6.2.1⟩
theorem arr_at (F : JF s0 args0 E p l R s m meth c y) (C : RpH s0 E h H) {a t n : Nat} {f : Nat → Value} (hc : jm h a = some (t, n, f)) (ht : 200 ≤ t) : ∃ ce, H[a]? = some ce ∧ ce.vm.isStatics = false ∧ ce.vm ≠ .unknown ∧ (mutT t = true → ce.vm = .none ∧ s0.heap.size ≤ a) ∧ ckA s0 H t n f ce ∧ s.isArrayOf ce (arrTy t) ∧ (t / 10 ≠ 107 → s.vm.findClass (arrN t) = some ce.cls) := by
  obtain ⟨ce, g1, g2, g3, g4, -, g6⟩ := C.2.2.2.2 a _ hc
  have g7 := (g6 ht).2
  exact ⟨ce, g1, g2, g3, g4, g7, State.isArrayOf_alike F.warm.alike g7.1, fun hh => by rw [F.warm.alike.findClass]; exact g7.2.1 hh⟩
/-- a field of it, as the machine finds it -/
theorem fld_at (F : JF s0 args0 E p l R s m meth c y) {t k : Nat} {f : Nat → Value} {ce : Cell} (hO : ckO s0 t f ce) (hcl : s.vm.findClass (jtCls (t % 100)) = some ce.cls) {r : String × String × String × Bool} (hr : (jtT (t % 100))[k]? = some r) {ref : String} (hsame : ref = r.1 ∨ Cond.sameField ref r.1 r.2.1 r.2.2.1 ∈ lw_all) :
    ∃ cf kf fi fd, s.fieldFound? ref r.2.1 r.2.2.1 = some (cf, kf, fi, fd) ∧ SlotIs s0 r.1 r.2.1 r.2.2.1 fd.slot ∧ ce.slots[fd.slot]? = some (f k) ∧ fd.isStatic = false ∧ (∃ kC, s.vm.classes[ce.cls]? = some kC ∧ kC.kind = .ordinary) ∧
      ((layW (jtCls (t % 100)) r).before args s = true) ∧ s.fieldFound? r.1 r.2.1 r.2.2.1 = some (cf, kf, fi, fd) := by
  obtain ⟨h1, h2, h3⟩ := hO
  obtain ⟨i, hi, hv⟩ := h3 k r hr
  obtain ⟨cf, kf, fi, fd, e1, e2⟩ := slotIs_moved F.warm.alike hi
  have hw := (conLay h1 hr).1
  have hlw : (layW (jtCls (t % 100)) r).before args s = true := jw F.tbl F.warm hw
  obtain ⟨kC, hkC, -⟩ := Vm.findClass_spec hcl
  have hst := (u_facts hcl hkC (layW_or hlw) e1).1
  have hord : kC.kind = .ordinary := by
    rcases gd_jtT (t % 100) with (z | z) | ⟨-, -, n9, hins⟩
    · rw [z] at hr; simp at hr
    · rw [z] at h1; exact absurd h1 (by decide)
    · obtain ⟨c9, k9, w1, w2, w3, -⟩ := Cond.instantiable_spec (jw (args := args) F.tbl F.warm hins)
      cases hcl.symm.trans w1
      cases hkC.symm.trans w2
      exact w3
  subst e2
  refine ⟨cf, kf, fi, fd, ?_, hi, hv, hst, ⟨kC, hkC, hord⟩, hlw, e1⟩
  rcases hsame with rfl | hsw
  · exact e1
  · exact u_same (jw (args := args) F.tbl F.warm hsw) _ e1
theorem sm_getf (F : JF s0 args0 E p l R s m meth c y) {idx : Nat} {o v : Value} {r : List Value} (hdg : decode (jtCode y) pc = .ok (.getfield idx, 3)) (hv : jf (jc h o) (jtF (jkey y idx)).2.1 (jtF (jkey y idx)).2.2.1 = v) (hok : okV v = true) (C : RpH s0 E h H)
    (kk : W p l e R s m args below meth c H locs (h.1 - n0) (h.2.1 - m0) Q (F0 m (pc + 3) ls (v :: r))) : W p l e R s m args below meth c H locs (h.1 - n0) (h.2.1 - m0) Q (F0 m pc ls (o :: r)) := by
  obtain ⟨a, t, n, f, rfl, hc, ht, rfl⟩ := jf_inl hv hok
  rcases gd_jtF (jkey y idx) with e0 | ⟨decl, nm, ds, ref, hFL, hsame, hT, -, -⟩
  · rw [e0] at ht; exact absurd ht List.not_mem_nil
  rcases jkey_or y idx with e0 | ⟨e1, e2⟩
  · rw [e0] at ht; exact absurd ht List.not_mem_nil
  obtain ⟨hr, ht2⟩ := hT t ht
  obtain ⟨ce, g1, g2, g3, -, g5, g6⟩ := obj_at F C hc ht2
  obtain ⟨cf, kf, fi, fd, q1, -, q3, q4, -⟩ := fld_at (args := args) F g5 g6 hr hsame
  unfold FLk at hFL
  rw [e1, e2] at hFL
  rcases hFL with hl | ⟨host, hl⟩
  · exact W.getf F.exec F.code F.own (jw F.tbl F.warm hl) q1 q4 g1 g3 q3 rfl rfl hdg kk
  · exact va_Wgetf F.exec F.code F.own (jw_F F.tbl F.warm hl) q1 q4 g1 g3 q3 rfl rfl hdg kk
theorem sm_getfield (F : JF s0 args0 E p l R s m meth c y) {idx : Nat} (hs : exi call y pc L st h len (.getfield idx) = some (.inl (pc2, L2, st2, h2))) (hdg : decode (jtCode y) pc = .ok (.getfield idx, len)) (C : CF s0 E n0 m0 y h H L st ls locs) (hr : h2.1 - n0 ≤ R.cells ∧ h2.2.1 - m0 ≤ R.slots) (kk : ∀ ls2 H2 locs2, CF s0 E n0 m0 y h2 H2 L2 st2 ls2 locs2 → W p l e R s m args below meth c H2 locs2 (h2.1 - n0) (h2.2.1 - m0) Q (F0 m pc2 ls2 st2)) : W p l e R s m args below meth c H locs (h.1 - n0) (h.2.1 - m0) Q (F0 m pc ls st) := by
  obtain ⟨hl, q⟩ := gd_inl hs
  have hl := Nat.eq_of_beq_eq_true hl
  subst hl
  replace q := sA_inl q; obtain ⟨o, r, e0, q⟩ := q
  subst e0
  cases hb1 : Nat.beq (jtF (jkey y idx)).1 1 with
  | true =>
    rw [hb1] at q
    replace q := rJ_inl q; obtain ⟨x, e, q⟩ := q
    obtain ⟨rfl, rfl, rfl, rfl⟩ := nx_inl q
    exact sm_getf F hdg e rfl C.rp (kk _ _ _ (C.stk (okc rfl (okt C.ok))))
  | false =>
    rw [hb1] at q
    cases hb2 : Nat.beq (jtF (jkey y idx)).1 2 with
    | true =>
      rw [hb2] at q
      simp only [cond_false, cond_true] at q
      replace q := rR_inl q; obtain ⟨e, q⟩ := q
      obtain ⟨rfl, rfl, rfl, rfl⟩ := nx_inl q
      exact sm_getf F hdg rfl (okR e) C.rp (kk _ _ _ (C.stk (okc (okR e) (okt C.ok))))
    | false =>
      rw [hb2] at q
      replace q := rI_inl q; obtain ⟨x, e, q⟩ := q
      obtain ⟨rfl, rfl, rfl, rfl⟩ := nx_inl q
      exact sm_getf F hdg e rfl C.rp (kk _ _ _ (C.stk (okc rfl (okt C.ok))))
theorem sm_putfield (F : JF s0 args0 E p l R s m meth c y) {idx : Nat} (hs : exi call y pc L st h len (.putfield idx) = some (.inl (pc2, L2, st2, h2))) (hdg : decode (jtCode y) pc = .ok (.putfield idx, len)) (C : CF s0 E n0 m0 y h H L st ls locs) (hr : h2.1 - n0 ≤ R.cells ∧ h2.2.1 - m0 ≤ R.slots) (kk : ∀ ls2 H2 locs2, CF s0 E n0 m0 y h2 H2 L2 st2 ls2 locs2 → W p l e R s m args below meth c H2 locs2 (h2.1 - n0) (h2.2.1 - m0) Q (F0 m pc2 ls2 st2)) : W p l e R s m args below meth c H locs (h.1 - n0) (h.2.1 - m0) Q (F0 m pc ls st) := by
  obtain ⟨hl, q⟩ := gd_inl hs
  have hl := Nat.eq_of_beq_eq_true hl
  subst hl
  replace q := sA_inl q; obtain ⟨v, r, e0, q⟩ := q
  subst e0
  replace q := sA_inl q; obtain ⟨o, r, e0, q⟩ := q
  subst e0
  replace q := gd_inl q; obtain ⟨gf, q⟩ := q
  replace q := pF_inl q; obtain ⟨a, t, n, f, rfl, hc, ht, ht1, hok, q⟩ := q
  obtain ⟨rfl, rfl, rfl, rfl⟩ := nx_inl q
  rcases gd_jtF (jkey y idx) with e0 | ⟨decl, nm, ds, ref, hFL, hsame, hT, ⟨ty, hty, htc⟩, hdecl⟩
  · rw [e0] at ht; exact absurd ht List.not_mem_nil
  rcases jkey_or y idx with e0 | ⟨e1, e2⟩
  · rw [e0] at ht; exact absurd ht List.not_mem_nil
  obtain ⟨hr1, ht2⟩ := hT t ht
  obtain ⟨ce, g1, g2, g3, g4, g5, g6⟩ := obj_at F C.rp hc ht2
  have hm : mutT t = true := by simp [mutT, Nat.blt_eq.mpr ht1]
  obtain ⟨g7, g8⟩ := g4 hm
  obtain ⟨cf, kf, fi, fd, q1, q2, q3, q4, ⟨kC, q5, q6⟩, q7, q8⟩ := fld_at (args := args) F g5 g6 hr1 hsame
  obtain ⟨w1, w2⟩ := okF_fits htc hok
  obtain ⟨w3, w4⟩ := u_fits g6 q5 q6 (layW_or q7) q8 hty w1 w2
  have hfin : hasFlag fd.accessFlags Acc.final = false ∨ (m.cls = cf ∧ meth.name = "<init>") := by
    by_cases hz : (jtF (jkey y idx)).2.2.2 = 0
    · left
      rw [hz] at q7
      obtain ⟨c9, k9, cf', kf', fi', fd', r1, r2, hi', hst, hfin, -⟩ := Cond.lays_spec (cls := jtCls (t % 100)) (owner := decl) (name := nm) (desc := ds) q7
      cases q8.symm.trans hi'
      exact hfin
    · right
      have hz' : Nat.beq (jtF (jkey y idx)).2.2.2 0 = false := by
        cases hb : Nat.beq (jtF (jkey y idx)).2.2.2 0 with
        | false => rfl
        | true => exact absurd (Nat.eq_of_beq_eq_true hb) hz
      rw [hz', Bool.false_or] at gf
      obtain ⟨gf1, gf2⟩ := and_inv gf
      have gf1 := Nat.eq_of_beq_eq_true gf1
      have gf2 := Nat.le_of_ble_eq_true gf2
      have hdec : decl = jtCls (y / 1000) := by
        rcases hdecl with z | z
        · exact absurd z hz
        · rw [z, gf1]; rfl
      have q7' : (Cond.laysFinal (jtCls (t % 100)) decl nm ds).before args s = true := by
        have e : layW (jtCls (t % 100)) (decl, nm, ds, decide ((jtF (jkey y idx)).2.2.2 ≠ 0)) = Cond.laysFinal (jtCls (t % 100)) decl nm ds := by simp [layW, hz]
        rw [e] at q7; exact q7
      obtain ⟨c9, k9, cf', kf', fi', fd', r1, r2, hi', hst, -, -, hown, -⟩ := Cond.laysFinal_spec q7'
      cases q8.symm.trans hi'
      refine ⟨?_, ?_⟩
      · have h9 := F.own
        rw [← hdec] at h9
        exact Option.some.inj (h9.symm.trans hown)
      · rcases F.name with z | z
        · rw [z] at hdg; cases hdg
        · rcases gd_I y with z2 | z2 | z2
          · rw [z2] at hdg; cases hdg
          · omega
          · exact z.trans z2
  have hlt : fd.slot < ce.slots.size := (Array.getElem?_eq_some_iff.mp q3).1
  have ha : a < H.size := (Array.getElem?_eq_some_iff.mp g1).1
  have hfit : s.fitsSlot ce.cls ce.vm fd.slot v = true := by rw [g7]; exact w4
  have hself : (H.setIfInBounds a (ce.setSlot fd.slot v))[a]? = some (ce.setSlot fd.slot v) := by simp [ha]
  have C2 : CF s0 E n0 m0 y (jset h a (t, n, ju f (jtF (jkey y idx)).2.2.1 v)) (H.setIfInBounds a (ce.setSlot fd.slot v)) L r ls (locs ++ [⟨a, fd.slot⟩]) :=
    C.set hm hc ⟨_, hself, g2, g3, fun _ => ⟨g7, g8⟩, fun _ => ckO_set F.tbl g5 hr1 q2, fun z => absurd z (by show ¬ 200 ≤ t; omega)⟩ (by simp) (fun q hq => by simp [Array.getElem?_setIfInBounds, Ne.symm hq]) (Kp_set g1 hself fun q hq => by simp [Array.getElem?_setIfInBounds, Ne.symm hq]) (okt (okt C.ok))
  unfold FLk at hFL
  rw [e1, e2] at hFL
  rcases hFL with hl | ⟨host, hl⟩
  · exact W.putf F.exec F.code F.own (jw F.tbl F.warm hl) q1 q4 hfin g1 g3 hlt w3 hfit rfl rfl hdg (kk _ _ _ C2)
  · exact va_Wputf F.exec F.code F.own (jw_F F.tbl F.warm hl) q1 q4 hfin g1 g3 hlt w3 hfit rfl rfl hdg (kk _ _ _ C2)
theorem sm_gets (F : JF s0 args0 E p l R s m meth c y) {idx : Nat} {C0 nm ds ref : String} {v : Value} (hk : jkey y idx ≠ 0) (hdg : decode (jtCode y) pc = .ok (.getstatic idx, 3)) (hFL : FLk (jkey y idx) ref nm ds) (hsame : ref = C0 ∨ Cond.sameField ref C0 nm ds ∈ lw_all) (hZ : va_Z C0 nm ds v (fun q => s0.heap.size ≤ q) s0 s0.heap) (C : RpH s0 E h H)
    (kk : W p l e R s m args below meth c H locs (h.1 - n0) (h.2.1 - m0) Q (F0 m (pc + 3) ls (v :: st))) : W p l e R s m args below meth c H locs (h.1 - n0) (h.2.1 - m0) Q (F0 m pc ls st) := by
  obtain ⟨e1, e2⟩ := (jkey_or y idx).resolve_left hk
  obtain ⟨cf, kf, fi, f, a, cell, h1, h2, h3, h4, h5, h6, h7, h8⟩ := va_Z.kept (va_Z.moved F.warm.alike hZ) (H1 := H) (fun q hq _ => C.2.2.1 q hq)
  have hi : s.fieldFound? ref nm ds = some (cf, kf, fi, f) := by
    rcases hsame with rfl | hsw
    · exact h1
    · exact u_same (jw (args := args) F.tbl F.warm hsw) _ h1
  have hkn : cell.vm ≠ .unknown := fun z => by rw [z] at h6; cases h6
  unfold FLk at hFL
  rw [e1, e2] at hFL
  rcases hFL with hl | ⟨host, hl⟩
  · exact W.gets F.exec F.code F.own (jw F.tbl F.warm hl) hi h2 h3 h4 h5 hkn h7 rfl hdg kk
  · exact va_WgetsN F.exec F.code F.own (jw_F F.tbl F.warm hl) hi h2 h3 h4 h5 hkn h7 rfl hdg kk
theorem sm_getstatic (F : JF s0 args0 E p l R s m meth c y) {idx : Nat} (hs : exi call y pc L st h len (.getstatic idx) = some (.inl (pc2, L2, st2, h2))) (hdg : decode (jtCode y) pc = .ok (.getstatic idx, len)) (C : CF s0 E n0 m0 y h H L st ls locs) (hr : h2.1 - n0 ≤ R.cells ∧ h2.2.1 - m0 ≤ R.slots) (kk : ∀ ls2 H2 locs2, CF s0 E n0 m0 y h2 H2 L2 st2 ls2 locs2 → W p l e R s m args below meth c H2 locs2 (h2.1 - n0) (h2.2.1 - m0) Q (F0 m pc2 ls2 st2)) : W p l e R s m args below meth c H locs (h.1 - n0) (h.2.1 - m0) Q (F0 m pc ls st) := by
  obtain ⟨hl, q⟩ := gd_inl hs
  have hl := Nat.eq_of_beq_eq_true hl
  subst hl
  have hE : je h = E := C.rp.2.2.2.1
  have hk : jkey y idx ≠ 0 := fun z => by rw [z] at q; exact nomatch (show (none : Rs) = some _ from q)
  rcases gd_jtS (jkey y idx) with e9 | ⟨C0, nm, ds, ref, hFL, hsame, (⟨e0, hm⟩ | ⟨e0, hm⟩)⟩
  · rw [e9] at q; exact nomatch (show (none : Rs) = some _ from q)
  · rw [e0] at q
    obtain ⟨rfl, rfl, rfl, rfl⟩ := nx_inl q
    exact sm_gets F hk hdg hFL hsame (F.env.1 _ hm) C.rp (kk _ _ _ (C.stk (okc rfl C.ok)))
  · rw [e0, hE] at q
    simp only [show Nat.beq 1 0 = false from rfl, show Nat.beq 1 1 = true from rfl, cond_false, cond_true] at q
    replace q := rR_inl q; obtain ⟨hv, q⟩ := q
    obtain ⟨rfl, rfl, rfl, rfl⟩ := nx_inl q
    exact sm_gets F hk hdg hFL hsame (F.env.2.1 _ hm) C.rp (kk _ _ _ (C.stk (okc (okR hv) C.ok)))
theorem sm_ldc (F : JF s0 args0 E p l R s m meth c y) {idx : Nat} (hs : exi call y pc L st h len (.ldc idx) = some (.inl (pc2, L2, st2, h2))) (hdg : decode (jtCode y) pc = .ok (.ldc idx, len)) (C : CF s0 E n0 m0 y h H L st ls locs) (hr : h2.1 - n0 ≤ R.cells ∧ h2.2.1 - m0 ≤ R.slots) (kk : ∀ ls2 H2 locs2, CF s0 E n0 m0 y h2 H2 L2 st2 ls2 locs2 → W p l e R s m args below meth c H2 locs2 (h2.1 - n0) (h2.2.1 - m0) Q (F0 m pc2 ls2 st2)) : W p l e R s m args below meth c H locs (h.1 - n0) (h.2.1 - m0) Q (F0 m pc ls st) := by
  obtain ⟨hl, q⟩ := gd_inl hs
  have hl := Nat.eq_of_beq_eq_true hl
  subst hl
  have hE : je h = E := C.rp.2.2.2.1
  have hk : jkey y idx ≠ 0 := fun z => by rw [z] at q; exact nomatch (show (none : Rs) = some _ from q)
  obtain ⟨e1, e2⟩ := (jkey_or y idx).resolve_left hk
  rcases gd_jtL (jkey y idx) with e9 | ⟨e0, hm⟩ | ⟨e0, tx, hm⟩ | ⟨e0, e3, hm⟩
  · rw [e9] at q; exact nomatch (show (none : Rs) = some _ from q)
  · rw [e0] at q
    obtain ⟨rfl, rfl, rfl, rfl⟩ := nx_inl q
    rw [e1, e2] at hm
    exact lv_ldc F.exec F.code F.own (jw F.tbl F.warm hm) hdg (kk _ _ _ (C.stk (okc rfl C.ok)))
  · rw [e0, hE] at q
    simp only [show Nat.beq 1 0 = false from rfl, show Nat.beq 1 1 = true from rfl, cond_false, cond_true] at q
    replace q := rR_inl q; obtain ⟨hv, q⟩ := q
    obtain ⟨rfl, rfl, rfl, rfl⟩ := nx_inl q
    obtain ⟨a, ha, hR⟩ := F.env.2.2.1 _ hm
    have hR' := vk_R.warm F.warm hR
    rw [e1, e2] at hR'
    have ha' : E (jtL (jkey y idx)).2.toNat = .ref a := ha
    rw [ha'] at kk
    exact va_ldcS F.exec F.code F.own hR' hdg (kk _ _ _ (C.stk (okc rfl C.ok)))
  · rw [e0, hE] at q
    simp only [show Nat.beq 1 0 = false from rfl, show Nat.beq 1 1 = true from rfl, cond_false, cond_true] at q
    replace q := rR_inl q; obtain ⟨hv, q⟩ := q
    obtain ⟨rfl, rfl, rfl, rfl⟩ := nx_inl q
    obtain ⟨mi, ha, hM⟩ := F.env.2.2.2
    rw [e3, ha] at kk
    rw [e1, e2] at hm
    exact va_ldcM F.exec F.code F.own (jw F.tbl F.warm hm) (va_Mi.moved F.warm.alike hM) hdg (kk _ _ _ (C.stk (okc rfl C.ok)))
/-- ldc_w of a string: after the kit's va_ldcS and the library's ldcStringW -/
theorem jx_ldcwS {cells slots : Nat} {cc : ByteArray} {rest : List Value} (hexec : p.tables.exec = Jvm.exec) (hb : c.code = cc) {own tx : String} {index q : Nat} (hown : s.vm.findClass own = some m.cls) (hZ : vk_R own index tx q s) (hdg : decode cc pc = .ok (.ldc_w index, 3))
    (k : W p l e R s m args below meth c H locs cells slots Q (F0 m (pc + 3) ls (.ref q :: rest))) : W p l e R s m args below meth c H locs cells slots Q (F0 m pc ls rest) := by
  intro T hT X
  obtain ⟨t, a1, b1⟩ := k T hT X
  refine ⟨t, ?_, b1⟩
  obtain ⟨k, cf, i, a', hk, hcf, hcp, -, hr, hev'⟩ := Cond.stringRef_spec hown hZ.1
  cases hZ.2.symm.trans hev'
  obtain ⟨k', hk', he⟩ := X.warmed.alike.2.2 _ _ hk
  have hr' : k'.resolved[index]? = some (some (.string q)) := by
    rcases X.warmed.entry hk hk' index with h | ⟨h, -⟩
    · rw [h]; exact hr
    · rw [hr] at h; cases h
  have hdg' : decode c.code pc = .ok (.ldc_w index, 3) := by rw [hb]; exact hdg
  jvm_step X.here [hexec, hdg', ldc_w.wp_string (e := e) (s := T) (f := F0 m pc ls rest) X.here.top hk' (by rw [he]; exact hcf) hcp hr']
  exact a1
theorem sm_ldcw (F : JF s0 args0 E p l R s m meth c y) {idx : Nat} (hs : exi call y pc L st h len (.ldc_w idx) = some (.inl (pc2, L2, st2, h2))) (hdg : decode (jtCode y) pc = .ok (.ldc_w idx, len)) (C : CF s0 E n0 m0 y h H L st ls locs) (hr : h2.1 - n0 ≤ R.cells ∧ h2.2.1 - m0 ≤ R.slots) (kk : ∀ ls2 H2 locs2, CF s0 E n0 m0 y h2 H2 L2 st2 ls2 locs2 → W p l e R s m args below meth c H2 locs2 (h2.1 - n0) (h2.2.1 - m0) Q (F0 m pc2 ls2 st2)) : W p l e R s m args below meth c H locs (h.1 - n0) (h.2.1 - m0) Q (F0 m pc ls st) := by
  obtain ⟨hl, q⟩ := gd_inl hs
  have hl := Nat.eq_of_beq_eq_true hl
  subst hl
  have hE : je h = E := C.rp.2.2.2.1
  have hk : jkey y idx ≠ 0 := fun z => by rw [z] at q; exact nomatch (show (none : Rs) = some _ from q)
  obtain ⟨e1, e2⟩ := (jkey_or y idx).resolve_left hk
  rcases gd_jtL (jkey y idx) with e9 | ⟨e0, hm⟩ | ⟨e0, tx, hm⟩ | ⟨e0, e3, hm⟩
  · rw [e9] at q; exact nomatch (show (none : Rs) = some _ from q)
  · rw [e0] at q
    obtain ⟨rfl, rfl, rfl, rfl⟩ := nx_inl q
    rw [e1, e2] at hm
    exact lv_ldcw F.exec F.code F.own (jw F.tbl F.warm hm) hdg (kk _ _ _ (C.stk (okc rfl C.ok)))
  · rw [e0, hE] at q
    cases h47 : Nat.beq (jtL (jkey y idx)).2.toNat 47 with
    | true => rw [h47] at q; exact nomatch (show (none : Rs) = some _ from q)
    | false =>
      rw [h47] at q
      simp only [show Nat.beq 1 0 = false from rfl, show Nat.beq 1 1 = true from rfl, Bool.not_false, Bool.and_true, cond_false, cond_true] at q
      replace q := rR_inl q; obtain ⟨hv, q⟩ := q
      obtain ⟨rfl, rfl, rfl, rfl⟩ := nx_inl q
      obtain ⟨a, ha, hR⟩ := F.env.2.2.1 _ hm
      have hR' := vk_R.warm F.warm hR
      rw [e1, e2] at hR'
      have ha' : E (jtL (jkey y idx)).2.toNat = .ref a := ha
      rw [ha'] at kk
      exact jx_ldcwS F.exec F.code F.own hR' hdg (kk _ _ _ (C.stk (okc rfl C.ok)))
  · rw [e0, e3] at q; exact nomatch (show (none : Rs) = some _ from q)
theorem sm_ldc2w (F : JF s0 args0 E p l R s m meth c y) {idx : Nat} (hs : exi call y pc L st h len (.ldc2_w idx) = some (.inl (pc2, L2, st2, h2))) (hdg : decode (jtCode y) pc = .ok (.ldc2_w idx, len)) (C : CF s0 E n0 m0 y h H L st ls locs) (hr : h2.1 - n0 ≤ R.cells ∧ h2.2.1 - m0 ≤ R.slots) (kk : ∀ ls2 H2 locs2, CF s0 E n0 m0 y h2 H2 L2 st2 ls2 locs2 → W p l e R s m args below meth c H2 locs2 (h2.1 - n0) (h2.2.1 - m0) Q (F0 m pc2 ls2 st2)) : W p l e R s m args below meth c H locs (h.1 - n0) (h.2.1 - m0) Q (F0 m pc ls st) := by
  obtain ⟨hl, q⟩ := gd_inl hs
  have hl := Nat.eq_of_beq_eq_true hl
  subst hl
  have hk : jkey y idx ≠ 0 := fun z => by rw [z] at q; exact nomatch (show (none : Rs) = some _ from q)
  obtain ⟨e1, e2⟩ := (jkey_or y idx).resolve_left hk
  rcases gd_jtL2 (jkey y idx) with e9 | ⟨v, e0, hm⟩
  · rw [e9] at q; exact nomatch (show (none : Rs) = some _ from q)
  · rw [e0] at q
    obtain ⟨rfl, rfl, rfl, rfl⟩ := nx_inl q
    rw [e1, e2] at hm
    exact lv_ldc2 F.exec F.code F.own (jw F.tbl F.warm hm) hdg (kk _ _ _ (C.stk (okc rfl C.ok)))
theorem sm_iaload (F : JF s0 args0 E p l R s m meth c y)  (hs : exi call y pc L st h len (.iaload) = some (.inl (pc2, L2, st2, h2))) (hdg : decode (jtCode y) pc = .ok (.iaload, len)) (C : CF s0 E n0 m0 y h H L st ls locs) (hr : h2.1 - n0 ≤ R.cells ∧ h2.2.1 - m0 ≤ R.slots) (kk : ∀ ls2 H2 locs2, CF s0 E n0 m0 y h2 H2 L2 st2 ls2 locs2 → W p l e R s m args below meth c H2 locs2 (h2.1 - n0) (h2.2.1 - m0) Q (F0 m pc2 ls2 st2)) : W p l e R s m args below meth c H locs (h.1 - n0) (h.2.1 - m0) Q (F0 m pc ls st) := by
  obtain ⟨hl, q⟩ := gd_inl hs
  have hl := Nat.eq_of_beq_eq_true hl
  subst hl
  replace q := sI_inl q; obtain ⟨i, r, e0, q⟩ := q
  subst e0
  replace q := sA_inl q; obtain ⟨o, r, e0, q⟩ := q
  subst e0
  replace q := aG_inl q; obtain ⟨a, t, n, f, rfl, hc, ht, hin, q⟩ := q
  replace q := rI_inl q; obtain ⟨x, ex, q⟩ := q
  obtain ⟨rfl, rfl, rfl, rfl⟩ := nx_inl q
  have ht' : t = 1000 ∨ t = 1001 := by simpa using ht
  obtain ⟨ce, g1, g2, g3, -, g5, g6, -⟩ := arr_at F C.rp hc (by omega)
  have hsz : ce.slots.size = n := g5.2.2.1
  have hin2 : ¬ (i < 0 ∨ ce.slots.size ≤ i.toNatClampNeg) := by rw [hsz]; exact hin
  have hvv : ce.slots[i.toNatClampNeg]? = some (f i.toNatClampNeg) := g5.2.2.2.1 _ (by omega)
  have ha : arrTy t = .int := by rcases ht' with rfl | rfl <;> rfl
  rw [ha] at g6
  rw [ex] at hvv
  exact W.iald F.exec F.code g1 g6 g3 hin2 hvv rfl rfl hdg (kk _ _ _ (C.stk (okc rfl (okt (okt C.ok)))))
theorem sm_laload (F : JF s0 args0 E p l R s m meth c y)  (hs : exi call y pc L st h len (.laload) = some (.inl (pc2, L2, st2, h2))) (hdg : decode (jtCode y) pc = .ok (.laload, len)) (C : CF s0 E n0 m0 y h H L st ls locs) (hr : h2.1 - n0 ≤ R.cells ∧ h2.2.1 - m0 ≤ R.slots) (kk : ∀ ls2 H2 locs2, CF s0 E n0 m0 y h2 H2 L2 st2 ls2 locs2 → W p l e R s m args below meth c H2 locs2 (h2.1 - n0) (h2.2.1 - m0) Q (F0 m pc2 ls2 st2)) : W p l e R s m args below meth c H locs (h.1 - n0) (h.2.1 - m0) Q (F0 m pc ls st) := by
  obtain ⟨hl, q⟩ := gd_inl hs
  have hl := Nat.eq_of_beq_eq_true hl
  subst hl
  replace q := sI_inl q; obtain ⟨i, r, e0, q⟩ := q
  subst e0
  replace q := sA_inl q; obtain ⟨o, r, e0, q⟩ := q
  subst e0
  replace q := aG_inl q; obtain ⟨a, t, n, f, rfl, hc, ht, hin, q⟩ := q
  replace q := rJ_inl q; obtain ⟨x, ex, q⟩ := q
  obtain ⟨rfl, rfl, rfl, rfl⟩ := nx_inl q
  have ht' : t = 1030 := by simpa using ht
  obtain ⟨ce, g1, g2, g3, -, g5, g6, -⟩ := arr_at F C.rp hc (by omega)
  have hsz : ce.slots.size = n := g5.2.2.1
  have hin2 : ¬ (i < 0 ∨ ce.slots.size ≤ i.toNatClampNeg) := by rw [hsz]; exact hin
  have hvv : ce.slots[i.toNatClampNeg]? = some (f i.toNatClampNeg) := g5.2.2.2.1 _ (by omega)
  have ha : arrTy t = .long := by rw [ht']; rfl
  rw [ha] at g6
  rw [ex] at hvv
  exact W.lald F.exec F.code g1 g6 g3 hin2 hvv rfl rfl hdg (kk _ _ _ (C.stk (okc rfl (okt (okt C.ok)))))
theorem sm_baload (F : JF s0 args0 E p l R s m meth c y)  (hs : exi call y pc L st h len (.baload) = some (.inl (pc2, L2, st2, h2))) (hdg : decode (jtCode y) pc = .ok (.baload, len)) (C : CF s0 E n0 m0 y h H L st ls locs) (hr : h2.1 - n0 ≤ R.cells ∧ h2.2.1 - m0 ≤ R.slots) (kk : ∀ ls2 H2 locs2, CF s0 E n0 m0 y h2 H2 L2 st2 ls2 locs2 → W p l e R s m args below meth c H2 locs2 (h2.1 - n0) (h2.2.1 - m0) Q (F0 m pc2 ls2 st2)) : W p l e R s m args below meth c H locs (h.1 - n0) (h.2.1 - m0) Q (F0 m pc ls st) := by
  obtain ⟨hl, q⟩ := gd_inl hs
  have hl := Nat.eq_of_beq_eq_true hl
  subst hl
  replace q := sI_inl q; obtain ⟨i, r, e0, q⟩ := q
  subst e0
  replace q := sA_inl q; obtain ⟨o, r, e0, q⟩ := q
  subst e0
  replace q := aG_inl q; obtain ⟨a, t, n, f, rfl, hc, ht, hin, q⟩ := q
  replace q := rI_inl q; obtain ⟨x, ex, q⟩ := q
  obtain ⟨rfl, rfl, rfl, rfl⟩ := nx_inl q
  have ht' : t = 1010 ∨ t = 1011 ∨ t = 1020 := by simpa using ht
  obtain ⟨ce, g1, g2, g3, -, g5, g6, -⟩ := arr_at F C.rp hc (by omega)
  have hsz : ce.slots.size = n := g5.2.2.1
  have hin2 : ¬ (i < 0 ∨ ce.slots.size ≤ i.toNatClampNeg) := by rw [hsz]; exact hin
  have hvv : ce.slots[i.toNatClampNeg]? = some (f i.toNatClampNeg) := g5.2.2.2.1 _ (by omega)
  rw [ex] at hvv
  by_cases h1020 : t = 1020
  · have ha : arrTy t = .boolean := by rw [h1020]; rfl
    rw [ha] at g6
    exact W.zald F.exec F.code g1 g6 g3 hin2 hvv rfl rfl hdg (kk _ _ _ (C.stk (okc rfl (okt (okt C.ok)))))
  · have ha : arrTy t = .byte := by rcases ht' with rfl | rfl | rfl <;> first | rfl | exact absurd rfl h1020
    rw [ha] at g6
    exact W.bald F.exec F.code g1 g6 g3 hin2 hvv rfl rfl hdg (kk _ _ _ (C.stk (okc rfl (okt (okt C.ok)))))
theorem sm_aaload (F : JF s0 args0 E p l R s m meth c y)  (hs : exi call y pc L st h len (.aaload) = some (.inl (pc2, L2, st2, h2))) (hdg : decode (jtCode y) pc = .ok (.aaload, len)) (C : CF s0 E n0 m0 y h H L st ls locs) (hr : h2.1 - n0 ≤ R.cells ∧ h2.2.1 - m0 ≤ R.slots) (kk : ∀ ls2 H2 locs2, CF s0 E n0 m0 y h2 H2 L2 st2 ls2 locs2 → W p l e R s m args below meth c H2 locs2 (h2.1 - n0) (h2.2.1 - m0) Q (F0 m pc2 ls2 st2)) : W p l e R s m args below meth c H locs (h.1 - n0) (h.2.1 - m0) Q (F0 m pc ls st) := by
  obtain ⟨hl, q⟩ := gd_inl hs
  have hl := Nat.eq_of_beq_eq_true hl
  subst hl
  replace q := sI_inl q; obtain ⟨i, r, e0, q⟩ := q
  subst e0
  replace q := sA_inl q; obtain ⟨o, r, e0, q⟩ := q
  subst e0
  replace q := aG_inl q; obtain ⟨a, t, n, f, rfl, hc, ht, hin, q⟩ := q
  replace q := rR_inl q; obtain ⟨hv, q⟩ := q
  obtain ⟨rfl, rfl, rfl, rfl⟩ := nx_inl q
  have ht' : t = 1040 ∨ t = 1041 ∨ t = 1050 ∨ t = 1060 ∨ t = 1071 := by simpa using ht
  obtain ⟨ce, g1, g2, g3, -, g5, g6, -⟩ := arr_at F C.rp hc (by omega)
  have hsz : ce.slots.size = n := g5.2.2.1
  have hin2 : ¬ (i < 0 ∨ ce.slots.size ≤ i.toNatClampNeg) := by rw [hsz]; exact hin
  have hvv : ce.slots[i.toNatClampNeg]? = some (f i.toNatClampNeg) := g5.2.2.2.1 _ (by omega)
  have ha : (arrTy t).isReference = true := by rcases ht' with rfl | rfl | rfl | rfl | rfl <;> rfl
  exact W.aald F.exec F.code g1 g6 ha g3 hin2 hvv rfl rfl hdg (kk _ _ _ (C.stk (okc (okR hv) (okt (okt C.ok)))))
theorem sm_iastore (F : JF s0 args0 E p l R s m meth c y)  (hs : exi call y pc L st h len (.iastore) = some (.inl (pc2, L2, st2, h2))) (hdg : decode (jtCode y) pc = .ok (.iastore, len)) (C : CF s0 E n0 m0 y h H L st ls locs) (hr : h2.1 - n0 ≤ R.cells ∧ h2.2.1 - m0 ≤ R.slots) (kk : ∀ ls2 H2 locs2, CF s0 E n0 m0 y h2 H2 L2 st2 ls2 locs2 → W p l e R s m args below meth c H2 locs2 (h2.1 - n0) (h2.2.1 - m0) Q (F0 m pc2 ls2 st2)) : W p l e R s m args below meth c H locs (h.1 - n0) (h.2.1 - m0) Q (F0 m pc ls st) := by
  obtain ⟨hl, q⟩ := gd_inl hs
  have hl := Nat.eq_of_beq_eq_true hl
  subst hl
  replace q := sI_inl q; obtain ⟨x, r, e0, q⟩ := q
  subst e0
  replace q := sI_inl q; obtain ⟨i, r, e0, q⟩ := q
  subst e0
  replace q := sA_inl q; obtain ⟨o, r, e0, q⟩ := q
  subst e0
  replace q := aS_inl q; obtain ⟨a, t, n, f, rfl, hc, ht, hin, q⟩ := q
  obtain ⟨rfl, rfl, rfl, rfl⟩ := nx_inl q
  have ht' : t = 1000 := by simpa using ht
  obtain ⟨ce, g1, g2, g3, g4, g5, g6, -⟩ := arr_at F C.rp hc (by omega)
  have hsz : ce.slots.size = n := g5.2.2.1
  have hin2 : ¬ (i < 0 ∨ ce.slots.size ≤ i.toNatClampNeg) := by rw [hsz]; exact hin
  have ha : arrTy t = .int := by rw [ht']; rfl
  have hm : mutT t = true := by rw [ht']; rfl
  rw [ha] at g6
  exact W.iast F.exec F.code g1 g6 g3 hin2 rfl rfl hdg fun H2 k1 k2 k3 => kk _ _ _ (C.set hm hc ⟨_, k1, g2, g3, fun _ => g4 hm, fun z => absurd z (by show ¬ t < 200; omega), fun _ => ⟨by show 1000 ≤ t; omega, ckA_set g5 (Kp_set g1 k1 k3) ⟨by rw [ha]; rfl, fun z => by omega⟩⟩⟩ k2 k3 (Kp_set g1 k1 k3) (okt (okt (okt C.ok))))
theorem sm_lastore (F : JF s0 args0 E p l R s m meth c y)  (hs : exi call y pc L st h len (.lastore) = some (.inl (pc2, L2, st2, h2))) (hdg : decode (jtCode y) pc = .ok (.lastore, len)) (C : CF s0 E n0 m0 y h H L st ls locs) (hr : h2.1 - n0 ≤ R.cells ∧ h2.2.1 - m0 ≤ R.slots) (kk : ∀ ls2 H2 locs2, CF s0 E n0 m0 y h2 H2 L2 st2 ls2 locs2 → W p l e R s m args below meth c H2 locs2 (h2.1 - n0) (h2.2.1 - m0) Q (F0 m pc2 ls2 st2)) : W p l e R s m args below meth c H locs (h.1 - n0) (h.2.1 - m0) Q (F0 m pc ls st) := by
  obtain ⟨hl, q⟩ := gd_inl hs
  have hl := Nat.eq_of_beq_eq_true hl
  subst hl
  replace q := sJ_inl q; obtain ⟨x, r, e0, q⟩ := q
  subst e0
  replace q := sI_inl q; obtain ⟨i, r, e0, q⟩ := q
  subst e0
  replace q := sA_inl q; obtain ⟨o, r, e0, q⟩ := q
  subst e0
  replace q := aS_inl q; obtain ⟨a, t, n, f, rfl, hc, ht, hin, q⟩ := q
  obtain ⟨rfl, rfl, rfl, rfl⟩ := nx_inl q
  have ht' : t = 1030 := by simpa using ht
  obtain ⟨ce, g1, g2, g3, g4, g5, g6, -⟩ := arr_at F C.rp hc (by omega)
  have hsz : ce.slots.size = n := g5.2.2.1
  have hin2 : ¬ (i < 0 ∨ ce.slots.size ≤ i.toNatClampNeg) := by rw [hsz]; exact hin
  have ha : arrTy t = .long := by rw [ht']; rfl
  have hm : mutT t = true := by rw [ht']; rfl
  rw [ha] at g6
  exact W.last F.exec F.code g1 g6 g3 hin2 rfl rfl hdg fun H2 k1 k2 k3 => kk _ _ _ (C.set hm hc ⟨_, k1, g2, g3, fun _ => g4 hm, fun z => absurd z (by show ¬ t < 200; omega), fun _ => ⟨by show 1000 ≤ t; omega, ckA_set g5 (Kp_set g1 k1 k3) ⟨by rw [ha]; rfl, fun z => by omega⟩⟩⟩ k2 k3 (Kp_set g1 k1 k3) (okt (okt (okt C.ok))))
theorem jc_inl {h : AH} {a : Nat} {c : Cl} (e : jm h a = some c) : jc h (.ref a) = some c := e
theorem bst_byte (x : Int32) : narrow .byte (.int x) = .int x.toInt8.toInt32 := rfl
theorem bst_bool {x : Int32} (hx : (x == 0 || x == 1) = true) : narrow .boolean (.int x) = .int x := by
  have hx : x = 0 ∨ x = 1 := by simpa using hx
  rcases hx with rfl | rfl <;> rfl
theorem sm_bastore (F : JF s0 args0 E p l R s m meth c y)  (hs : exi call y pc L st h len (.bastore) = some (.inl (pc2, L2, st2, h2))) (hdg : decode (jtCode y) pc = .ok (.bastore, len)) (C : CF s0 E n0 m0 y h H L st ls locs) (hr : h2.1 - n0 ≤ R.cells ∧ h2.2.1 - m0 ≤ R.slots) (kk : ∀ ls2 H2 locs2, CF s0 E n0 m0 y h2 H2 L2 st2 ls2 locs2 → W p l e R s m args below meth c H2 locs2 (h2.1 - n0) (h2.2.1 - m0) Q (F0 m pc2 ls2 st2)) : W p l e R s m args below meth c H locs (h.1 - n0) (h.2.1 - m0) Q (F0 m pc ls st) := by
  obtain ⟨hl, q⟩ := gd_inl hs
  have hl := Nat.eq_of_beq_eq_true hl
  subst hl
  replace q := sI_inl q; obtain ⟨x, r, e0, q⟩ := q
  subst e0
  replace q := sI_inl q; obtain ⟨i, r, e0, q⟩ := q
  subst e0
  replace q := sA_inl q; obtain ⟨o, r, e0, q⟩ := q
  subst e0
  cases hj : jc h o with
  | none => rw [hj] at q; cases q
  | some c9 =>
    obtain ⟨t9, n9, f9⟩ := c9
    rw [hj] at q
    cases hb : Nat.beq t9 1010 with
    | true =>
      have q : aS h o [1010] i (.int x.toInt8.toInt32) (fun h => nx (pc + 1) L r h) = some (.inl (pc2, L2, st2, h2)) := by simpa only [hb, cond_true] using q
      replace q := aS_inl q; obtain ⟨a, t, n, f, rfl, hc, ht, hin, q⟩ := q
      obtain ⟨rfl, rfl, rfl, rfl⟩ := nx_inl q
      have ht' : t = 1010 := by simpa using ht
      obtain ⟨ce, g1, g2, g3, g4, g5, g6, -⟩ := arr_at F C.rp hc (by omega)
      have hsz : ce.slots.size = n := g5.2.2.1
      have hin2 : ¬ (i < 0 ∨ ce.slots.size ≤ i.toNatClampNeg) := by rw [hsz]; exact hin
      have ha : arrTy t = .byte := by rw [ht']; rfl
      have hm : mutT t = true := by rw [ht']; rfl
      rw [ha] at g6
      exact W.bast F.exec F.code g1 g6 g3 hin2 rfl rfl hdg fun H2 k1 k2 k3 => kk _ _ _ (C.set hm hc ⟨_, k1, g2, g3, fun _ => g4 hm, fun z => absurd z (by show ¬ t < 200; omega), fun _ => ⟨by show 1000 ≤ t; omega, ckA_set g5 (Kp_set g1 k1 k3) ⟨by rw [ha]; exact fits_narrow_byte x, fun z => by omega⟩⟩⟩ k2 k3 (Kp_set g1 k1 k3) (okt (okt (okt C.ok))))
    | false =>
      have q : gd (x == 0 || x == 1) (aS h o [1020] i (.int x) (fun h => nx (pc + 1) L r h)) = some (.inl (pc2, L2, st2, h2)) := by simpa only [hb, cond_false] using q
      replace q := gd_inl q; obtain ⟨hx, q⟩ := q
      replace q := aS_inl q; obtain ⟨a, t, n, f, rfl, hc, ht, hin, q⟩ := q
      obtain ⟨rfl, rfl, rfl, rfl⟩ := nx_inl q
      have ht' : t = 1020 := by simpa using ht
      obtain ⟨ce, g1, g2, g3, g4, g5, g6, -⟩ := arr_at F C.rp hc (by omega)
      have hsz : ce.slots.size = n := g5.2.2.1
      have hin2 : ¬ (i < 0 ∨ ce.slots.size ≤ i.toNatClampNeg) := by rw [hsz]; exact hin
      have ha : arrTy t = .boolean := by rw [ht']; rfl
      have hm : mutT t = true := by rw [ht']; rfl
      rw [ha] at g6
      refine W.zast F.exec F.code g1 g6 g3 hin2 rfl rfl hdg fun H2 k1 k2 k3 => ?_
      rw [bst_bool hx] at k1
      exact kk _ _ _ (C.set hm hc ⟨_, k1, g2, g3, fun _ => g4 hm, fun z => absurd z (by show ¬ t < 200; omega), fun _ => ⟨by show 1000 ≤ t; omega, ckA_set g5 (Kp_set g1 k1 k3) ⟨by rw [ha]; have := fits_narrow_boolean x; rwa [bst_bool hx] at this, fun z => by omega⟩⟩⟩ k2 k3 (Kp_set g1 k1 k3) (okt (okt (okt C.ok))))
theorem jo_spec {args : Array Value} {s : State} {C : String} (h : (Cond.arrayOver (.object C)).before args s = true) : ∃ comp cA kA, s.vm.findClass C = some comp ∧ True ∧ s.vm.classes[cA]? = some kA ∧ kA.kind = .array comp (.object C) ∧ s.vm.findClass ("[" ++ (FieldType.object C).toString) = some cA := by
  obtain ⟨comp, cA, kA, h1, h2, h3, h4, h5⟩ := Cond.arrayOver_spec h
  exact ⟨comp, cA, kA, h1, trivial, h3, h4, h5⟩
theorem arr_born (F : JF s0 args0 E p l R s m meth c y) (C : RpH s0 E h H) {t n : Nat} {ty : FieldType} {dv : Value} (hty : arrTy t = ty) (hdv : dv = dv) (ht : 1000 ≤ t) (hmu : mutT t = true) {cA : ClassId} {kA : Class} {comp : ClassId} (k1 : s.vm.findClass (arrN t) = some cA) (k2 : s.vm.classes[cA]? = some kA) (k3 : kA.kind = .array comp ty) {dv2 : Value} (hd : dv2 = dv) (hf : fits ty dv = true ∧ isR dv = false ∨ dv = .null ∧ fits ty dv = true) : ck s0 s0.heap.size H.size (t, n, fun _ => dv) (H.push { cls := cA, slots := Array.replicate n dv2, vm := .none }) := by
  subst hd
  subst hty
  obtain ⟨kA0, hkA0, he⟩ := (F.warm.alike.symm).2.2 _ _ k2
  have k3' : kA0.kind = .array comp (arrTy t) := by
    have : kA0.kind = kA.kind := by rw [he]
    rw [this]; exact k3
  refine ⟨{ cls := cA, slots := Array.replicate n dv2, vm := .none }, by simp, rfl, by simp, fun _ => ⟨rfl, C.2.1⟩, fun z => absurd z (by show ¬ t < 200; omega), fun _ => ⟨ht, ⟨⟨fun _ => by simp, kA0, hkA0, comp, k3'⟩, fun _ => by rw [← F.warm.alike.findClass]; exact k1, by simp, fun i hi => ?_, fun i hi => ?_⟩⟩⟩
  · have hi' : i < n := hi
    simp [hi']
  · rcases hf with ⟨q1, q2⟩ | ⟨q1, q2⟩
    · exact ⟨q1, fun _ b hb => by have hb' : dv2 = .ref b := hb; rw [hb'] at q2; cases q2⟩
    · exact ⟨q2, fun _ b hb => by have hb' : dv2 = .ref b := hb; rw [q1] at hb'; cases hb'⟩
theorem sm_aastore (F : JF s0 args0 E p l R s m meth c y)  (hs : exi call y pc L st h len (.aastore) = some (.inl (pc2, L2, st2, h2))) (hdg : decode (jtCode y) pc = .ok (.aastore, len)) (C : CF s0 E n0 m0 y h H L st ls locs) (hr : h2.1 - n0 ≤ R.cells ∧ h2.2.1 - m0 ≤ R.slots) (kk : ∀ ls2 H2 locs2, CF s0 E n0 m0 y h2 H2 L2 st2 ls2 locs2 → W p l e R s m args below meth c H2 locs2 (h2.1 - n0) (h2.2.1 - m0) Q (F0 m pc2 ls2 st2)) : W p l e R s m args below meth c H locs (h.1 - n0) (h.2.1 - m0) Q (F0 m pc ls st) := by
  obtain ⟨hl, q⟩ := gd_inl hs
  have hl := Nat.eq_of_beq_eq_true hl
  subst hl
  replace q := sA_inl q; obtain ⟨x, r, e0, q⟩ := q
  subst e0
  replace q := sI_inl q; obtain ⟨i, r, e0, q⟩ := q
  subst e0
  replace q := sA_inl q; obtain ⟨o, r, e0, q⟩ := q
  subst e0
  replace q := gd_inl q; obtain ⟨hok, q⟩ := q
  replace q := aS_inl q; obtain ⟨a, t, n, f, rfl, hc, ht, hin, q⟩ := q
  obtain ⟨rfl, rfl, rfl, rfl⟩ := nx_inl q
  have ht' : t = 1040 ∨ t = 1050 ∨ t = 1060 := by simpa using ht
  obtain ⟨ce, g1, g2, g3, g4, g5, g6, -⟩ := arr_at F C.rp hc (by omega)
  have hsz : ce.slots.size = n := g5.2.2.1
  have hin2 : ¬ (i < 0 ∨ ce.slots.size ≤ i.toNatClampNeg) := by rw [hsz]; exact hin
  have ha : arrTy t = .object (arrC t) := by rcases ht' with rfl | rfl | rfl <;> rfl
  have hm : mutT t = true := by rcases ht' with rfl | rfl | rfl <;> rfl
  rw [ha] at g6
  have hvR : isR x = true := by
    cases x with
    | null => rfl
    | ref b => rfl
    | _ => cases hok
  rcases isR_inv hvR with rfl | ⟨b, rfl⟩
  · exact va_WaastN F.exec F.code g1 g6 g3 hin2 rfl rfl hdg fun H2 k1 k2 k3 => kk _ _ _ (C.set hm hc ⟨_, k1, g2, g3, fun _ => g4 hm, fun z => absurd z (by show ¬ t < 200; omega), fun _ => ⟨by show 1000 ≤ t; omega, ckA_set g5 (Kp_set g1 k1 k3) ⟨by rw [ha]; rfl, fun _ b hb => by cases hb⟩⟩⟩ k2 k3 (Kp_set g1 k1 k3) (okt (okt (okt C.ok))))
  · cases hb : jm h b with
    | none => simp only [okA, jc_inl hc, hb] at hok; cases hok
    | some c9 =>
      obtain ⟨t2, n2, f2⟩ := c9
      simp only [okA, jc_inl hc, hb] at hok
      have ht2 : t2 < 200 := by
        by_cases hz : t2 < 200
        · exact hz
        · exfalso
          obtain ⟨ce2, -, -, -, -, -, z6⟩ := C.rp.2.2.2.2 b _ hb
          have z7 : 1000 ≤ t2 := (z6 (by show 200 ≤ t2; omega)).1
          simp only [Bool.or_eq_true, Bool.and_eq_true, Nat.beq_eq, Nat.blt_eq] at hok
          omega
      obtain ⟨cv, v1, v2, v3, -, v5, v6⟩ := obj_at F C.rp hb ht2
      obtain ⟨hobj, kA, hkA, comp, hkind⟩ := g6
      obtain ⟨kv, hkv, -⟩ := Vm.findClass_spec v6
      have hasg : s.vm.assignable cv.cls comp = true ∧ ∃ kc, s.vm.classes[comp]? = some kc := by
        have hao : Cond.arrayOver (.object (arrC t)) ∈ lw_tbl := by rcases ht' with rfl | rfl | rfl <;> first | exact gw_ao_o | exact gw_ao_s | exact gw_ao_k
        have hnm : s.vm.findClass (arrN t) = some ce.cls := by rw [F.warm.alike.findClass]; exact g5.2.1 (by omega)
        have hA := va_AO.use (A := args) (va_AO.moved F.warm.alike (va_AO.of (F.tbl _ hao)))
        obtain ⟨comp9, cA9, kA9, hcomp9, -, hkA9, hkind9, hname9⟩ := jo_spec hA
        have hnn : "[" ++ (FieldType.object (arrC t)).toString = arrN t := by rcases ht' with rfl | rfl | rfl <;> decide
        rw [hnn] at hname9
        cases hnm.symm.trans hname9
        cases hkA.symm.trans hkA9
        rw [hkind] at hkind9
        cases hkind9
        refine ⟨?_, ?_⟩
        · simp only [Bool.or_eq_true, Bool.and_eq_true, Nat.beq_eq, Nat.blt_eq] at hok
          rcases hok with (⟨q1, -⟩ | ⟨q1, q2⟩) | ⟨q1, q2⟩
          · have hcs := va_Nw.use (A := args) rfl (jw_C F.tbl F.warm (gd_con _ v5.1))
            obtain ⟨c0, t0, f1, f2, f3⟩ := Cond.castable_spec hcs
            cases v6.symm.trans f1
            have e9 : arrC t = "java/lang/Object" := by rw [q1]; rfl
            rw [e9] at hcomp9
            cases hcomp9.symm.trans f2
            exact f3
          · have e9 : arrC t = jtCls (t2 % 100) := by rw [q1, q2]; rfl
            rw [e9] at hcomp9
            cases v6.symm.trans hcomp9
            exact va_asg _ _
          · have e9 : arrC t = jtCls (t2 % 100) := by rw [q1, q2]; rfl
            rw [e9] at hcomp9
            cases v6.symm.trans hcomp9
            exact va_asg _ _
        · obtain ⟨kc, hkc, -⟩ := Vm.findClass_spec hcomp9
          exact ⟨kc, hkc⟩
      obtain ⟨hasg, kc, hkc⟩ := hasg
      exact W.aast F.exec F.code g1 hobj g3 hkA hkind rfl hkc ⟨fun z => hin2 (Or.inl z), Nat.lt_of_not_le fun z => hin2 (Or.inr z)⟩ v1 (fun z hz => by rw [hz] at v2; cases v2) hkv hasg rfl rfl hdg fun H2 k1 k2 k3 => kk _ _ _ (C.set hm hc ⟨_, k1, g2, g3, fun _ => g4 hm, fun z => absurd z (by show ¬ t < 200; omega), fun _ => ⟨by show 1000 ≤ t; omega, ckA_set g5 (Kp_set g1 k1 k3) ⟨by rw [ha]; rfl, fun _ b9 hb9 => by
        cases hb9
        obtain ⟨cx, u1, u2, u3⟩ := Kp_set g1 k1 k3 b cv v1
        obtain ⟨c0, t0, f1, f2, f3⟩ := Cond.castable_spec (F.tbl _ (gd_con _ v5.1))
        cases v5.2.1.symm.trans f1
        obtain ⟨kx, hkx, -⟩ := Vm.findClass_spec f1
        exact ⟨cx, t0, u1, by rw [u3]; exact v2, by rw [u2]; exact ⟨kx, hkx⟩, f2, by rw [u2]; exact f3⟩⟩⟩⟩ k2 k3 (Kp_set g1 k1 k3) (okt (okt (okt C.ok))))
theorem sm_arraylength (F : JF s0 args0 E p l R s m meth c y)  (hs : exi call y pc L st h len (.arraylength) = some (.inl (pc2, L2, st2, h2))) (hdg : decode (jtCode y) pc = .ok (.arraylength, len)) (C : CF s0 E n0 m0 y h H L st ls locs) (hr : h2.1 - n0 ≤ R.cells ∧ h2.2.1 - m0 ≤ R.slots) (kk : ∀ ls2 H2 locs2, CF s0 E n0 m0 y h2 H2 L2 st2 ls2 locs2 → W p l e R s m args below meth c H2 locs2 (h2.1 - n0) (h2.2.1 - m0) Q (F0 m pc2 ls2 st2)) : W p l e R s m args below meth c H locs (h.1 - n0) (h.2.1 - m0) Q (F0 m pc ls st) := by
  obtain ⟨hl, q⟩ := gd_inl hs
  have hl := Nat.eq_of_beq_eq_true hl
  subst hl
  replace q := sA_inl q; obtain ⟨o, r, e0, q⟩ := q
  subst e0
  replace q := aL_inl q; obtain ⟨a, t, n, f, rfl, hc, ht, q⟩ := q
  obtain ⟨rfl, rfl, rfl, rfl⟩ := nx_inl q
  obtain ⟨ce, g1, g2, g3, -, g5, g6, -⟩ := arr_at F C.rp hc (by omega)
  exact W.alen F.exec F.code g1 g6 (by rw [g5.2.2.1]) rfl rfl hdg (kk _ _ _ (C.stk (okc rfl (okt C.ok))))
theorem blank_at (F : JF s0 args0 E p l R s m meth c y) {t n : Nat} {vs : List Value} {k : Nat} (hN : GdN k (t, n, vs)) (h0 : t ≠ 0) {cC : ClassId} {kC : Class} (hcl : s.vm.findClass (jtCls t) = some cC) (hkC : s.vm.classes[cC]? = some kC) : ckO s0 t (jL vs) { cls := cC, slots := kC.instanceTypes.map defaultValue, vm := .none } := by
  rcases hN with z | ⟨-, -, -, ⟨h1, h2⟩, h3⟩
  · exact absurd z h0
  have e1 : t % 100 = t := Nat.mod_eq_of_lt h1
  refine ⟨by rw [e1]; exact h2, by rw [e1, ← F.warm.alike.findClass]; exact hcl, fun i r hr => ?_⟩
  rw [e1] at hr
  have hw := (conLay h2 hr).1
  have hlw : (layW (jtCls t) r).before #[] s = true := jw F.tbl F.warm hw
  obtain ⟨j, hj⟩ := u_found (layW_or (args := args0) (s := s0) (F.tbl _ (lw_all_tbl hw)))
  refine ⟨j, hj, ?_⟩
  obtain ⟨cf, kf, fi, fd, q1, q2⟩ := slotIs_moved F.warm.alike hj
  have h9 := (u_facts hcl hkC (layW_or hlw) q1).2.2
  rw [q2] at h9
  have hv : jL vs i = tyDef r.2.2.1 := by
    show vs.getD i .null = _
    have h3' : vs = (jtT t).map fun f => tyDef f.2.2.1 := h3
    rw [h3', List.getD_eq_getElem?_getD, List.getElem?_map, hr]
    rfl
  have hp : ∃ ty, parseFieldDescriptor r.2.2.1 = some ty := by
    cases hp : parseFieldDescriptor r.2.2.1 with
    | none => simp [State.fieldFound?, hp] at q1
    | some ty => exact ⟨ty, rfl⟩
  obtain ⟨ty, hp⟩ := hp
  have hty := (State.fieldFound?_type q1 hp).2
  show (kC.instanceTypes.map defaultValue)[j]? = some (jL vs i)
  rw [hv, Array.getElem?_map, h9, hty]
  simp [tyDef, hp]
theorem sm_new (F : JF s0 args0 E p l R s m meth c y) {idx : Nat} (hne : (jtN (jkey y idx)).1 ≠ jNSEE) (hs : exi call y pc L st h len (.new idx) = some (.inl (pc2, L2, st2, h2))) (hdg : decode (jtCode y) pc = .ok (.new idx, len)) (C : CF s0 E n0 m0 y h H L st ls locs) (hr : h2.1 - n0 ≤ R.cells ∧ h2.2.1 - m0 ≤ R.slots) (kk : ∀ ls2 H2 locs2, CF s0 E n0 m0 y h2 H2 L2 st2 ls2 locs2 → W p l e R s m args below meth c H2 locs2 (h2.1 - n0) (h2.2.1 - m0) Q (F0 m pc2 ls2 st2)) : W p l e R s m args below meth c H locs (h.1 - n0) (h.2.1 - m0) Q (F0 m pc ls st) := by
  obtain ⟨hl, q⟩ := gd_inl hs
  obtain ⟨hl, -⟩ := and_inv hl
  have hl := Nat.eq_of_beq_eq_true hl
  subst hl
  unfold jnew at q
  rw [if_neg hne] at q
  by_cases h0 : (jtN (jkey y idx)).1 = 0
  · rw [if_pos h0] at q; cases q
  rw [if_neg h0] at q
  obtain ⟨rfl, rfl, rfl, rfl⟩ := nx_inl q
  have hk : jkey y idx ≠ 0 := fun z => by rw [z] at h0; exact h0 rfl
  obtain ⟨e1, e2⟩ := (jkey_or y idx).resolve_left hk
  have hN := gd_jtN (jkey y idx)
  rcases id hN with z | ⟨w1, w2, w3, ⟨w4, w5⟩, w6⟩
  · exact absurd z h0
  rw [e1, e2] at w1
  have gn := C.gn
  have gm := C.gm
  have hh : h.1 = H.size := C.rp.1
  have r1 : h.1 + 1 - n0 ≤ R.cells := hr.1
  have r2 : h.2.1 + (jtN (jkey y idx)).2.1 - m0 ≤ R.slots := hr.2
  refine W.newc F.exec F.code F.own (jw F.tbl F.warm w1) (jw F.tbl F.warm w2) (jw F.tbl F.warm w3) rfl hdg (by omega) (by omega) fun cC kC k1 k2 k3 k4 => ?_
  have hO := blank_at F hN h0 k1 k2
  have hck : ck s0 s0.heap.size H.size ((jtN (jkey y idx)).1, (jtN (jkey y idx)).2.1, jL (jtN (jkey y idx)).2.2) (H.push { cls := cC, slots := kC.instanceTypes.map defaultValue, vm := .none }) :=
    ⟨_, by simp, rfl, by simp, fun _ => ⟨rfl, C.rp.2.1⟩, fun _ => hO, fun z => absurd z (by show ¬ 200 ≤ (jtN (jkey y idx)).1; omega)⟩
  have e3 : h.1 - n0 + 1 = (jpush h ((jtN (jkey y idx)).1, (jtN (jkey y idx)).2.1, jL (jtN (jkey y idx)).2.2)).1 - n0 := by show _ = h.1 + 1 - n0; omega
  have e4 : h.2.1 - m0 + (jtN (jkey y idx)).2.1 = (jpush h ((jtN (jkey y idx)).1, (jtN (jkey y idx)).2.1, jL (jtN (jkey y idx)).2.2)).2.1 - m0 := by show _ = h.2.1 + (jtN (jkey y idx)).2.1 - m0; omega
  rw [e3, e4]
  have := kk ls _ locs (C.push hck (okc (v := .ref h.1) rfl C.ok))
  rw [hh] at this
  exact this
theorem sm_newarray (F : JF s0 args0 E p l R s m meth c y) {ty : ArrayType} (hs : exi call y pc L st h len (.newarray ty) = some (.inl (pc2, L2, st2, h2))) (hdg : decode (jtCode y) pc = .ok (.newarray ty, len)) (C : CF s0 E n0 m0 y h H L st ls locs) (hr : h2.1 - n0 ≤ R.cells ∧ h2.2.1 - m0 ≤ R.slots) (kk : ∀ ls2 H2 locs2, CF s0 E n0 m0 y h2 H2 L2 st2 ls2 locs2 → W p l e R s m args below meth c H2 locs2 (h2.1 - n0) (h2.2.1 - m0) Q (F0 m pc2 ls2 st2)) : W p l e R s m args below meth c H locs (h.1 - n0) (h.2.1 - m0) Q (F0 m pc ls st) := by
  obtain ⟨hl, q⟩ := gd_inl hs
  have hl := Nat.eq_of_beq_eq_true hl
  subst hl
  replace q := sI_inl q; obtain ⟨n, r, e0, q⟩ := q
  subst e0
  by_cases hb : n < 0 ∨ 60000000 ≤ n.toNatClampNeg
  · rw [if_pos hb] at q; cases q
  rw [if_neg hb] at q
  have hb1 : ¬ n < 0 := fun z => hb (Or.inl z)
  have hb2 : n.toNatClampNeg < 60000000 := by omega
  have hh : h.1 = H.size := C.rp.1
  have gn := C.gn
  have gm := C.gm
  cases ty with
  | int =>
    obtain ⟨rfl, rfl, rfl, rfl⟩ := nx_inl q
    have r1 : h.1 + 1 - n0 ≤ R.cells := hr.1
    have r2 : h.2.1 + n.toNatClampNeg - m0 ≤ R.slots := hr.2
    refine W.newa (atype := .int) F.exec F.code (jw F.tbl F.warm gw_ac_int) rfl hdg rfl hb1 (by show n.toNatClampNeg * 4 ≤ _; omega) (by omega) (by omega) fun cA kA comp k1 k2 k3 => ?_
    have e3 : h.1 - n0 + 1 = (jpush h (1000, n.toNatClampNeg, fun _ => .int 0)).1 - n0 := by show _ = h.1 + 1 - n0; omega
    have e4 : h.2.1 - m0 + n.toNatClampNeg = (jpush h (1000, n.toNatClampNeg, fun _ => .int 0)).2.1 - m0 := by show _ = h.2.1 + n.toNatClampNeg - m0; omega
    rw [e3, e4]
    have := kk ls _ locs (C.push (arr_born F C.rp (t := 1000) (ty := .int) rfl rfl (by decide) (by decide) k1 k2 k3 rfl (Or.inl ⟨rfl, rfl⟩)) (okc (v := .ref h.1) rfl (okt C.ok)))
    rw [hh] at this
    exact this
  | byte =>
    obtain ⟨rfl, rfl, rfl, rfl⟩ := nx_inl q
    have r1 : h.1 + 1 - n0 ≤ R.cells := hr.1
    have r2 : h.2.1 + n.toNatClampNeg - m0 ≤ R.slots := hr.2
    refine W.newa (atype := .byte) F.exec F.code (jw F.tbl F.warm gw_ac_byte) rfl hdg rfl hb1 (by show n.toNatClampNeg * 1 ≤ _; omega) (by omega) (by omega) fun cA kA comp k1 k2 k3 => ?_
    have e3 : h.1 - n0 + 1 = (jpush h (1010, n.toNatClampNeg, fun _ => .int 0)).1 - n0 := by show _ = h.1 + 1 - n0; omega
    have e4 : h.2.1 - m0 + n.toNatClampNeg = (jpush h (1010, n.toNatClampNeg, fun _ => .int 0)).2.1 - m0 := by show _ = h.2.1 + n.toNatClampNeg - m0; omega
    rw [e3, e4]
    have := kk ls _ locs (C.push (arr_born F C.rp (t := 1010) (ty := .byte) rfl rfl (by decide) (by decide) k1 k2 k3 rfl (Or.inl ⟨rfl, rfl⟩)) (okc (v := .ref h.1) rfl (okt C.ok)))
    rw [hh] at this
    exact this
  | boolean =>
    obtain ⟨rfl, rfl, rfl, rfl⟩ := nx_inl q
    have r1 : h.1 + 1 - n0 ≤ R.cells := hr.1
    have r2 : h.2.1 + n.toNatClampNeg - m0 ≤ R.slots := hr.2
    refine W.newa (atype := .boolean) F.exec F.code (jw F.tbl F.warm gw_ac_boolean) rfl hdg rfl hb1 (by show n.toNatClampNeg * 1 ≤ _; omega) (by omega) (by omega) fun cA kA comp k1 k2 k3 => ?_
    have e3 : h.1 - n0 + 1 = (jpush h (1020, n.toNatClampNeg, fun _ => .int 0)).1 - n0 := by show _ = h.1 + 1 - n0; omega
    have e4 : h.2.1 - m0 + n.toNatClampNeg = (jpush h (1020, n.toNatClampNeg, fun _ => .int 0)).2.1 - m0 := by show _ = h.2.1 + n.toNatClampNeg - m0; omega
    rw [e3, e4]
    have := kk ls _ locs (C.push (arr_born F C.rp (t := 1020) (ty := .boolean) rfl rfl (by decide) (by decide) k1 k2 k3 rfl (Or.inl ⟨rfl, rfl⟩)) (okc (v := .ref h.1) rfl (okt C.ok)))
    rw [hh] at this
    exact this
  | long =>
    obtain ⟨rfl, rfl, rfl, rfl⟩ := nx_inl q
    have r1 : h.1 + 1 - n0 ≤ R.cells := hr.1
    have r2 : h.2.1 + n.toNatClampNeg - m0 ≤ R.slots := hr.2
    refine W.newa (atype := .long) F.exec F.code (jw F.tbl F.warm gw_ac_long) rfl hdg rfl hb1 (by show n.toNatClampNeg * 8 ≤ _; omega) (by omega) (by omega) fun cA kA comp k1 k2 k3 => ?_
    have e3 : h.1 - n0 + 1 = (jpush h (1030, n.toNatClampNeg, fun _ => .long 0)).1 - n0 := by show _ = h.1 + 1 - n0; omega
    have e4 : h.2.1 - m0 + n.toNatClampNeg = (jpush h (1030, n.toNatClampNeg, fun _ => .long 0)).2.1 - m0 := by show _ = h.2.1 + n.toNatClampNeg - m0; omega
    rw [e3, e4]
    have := kk ls _ locs (C.push (arr_born F C.rp (t := 1030) (ty := .long) rfl rfl (by decide) (by decide) k1 k2 k3 rfl (Or.inl ⟨rfl, rfl⟩)) (okc (v := .ref h.1) rfl (okt C.ok)))
    rw [hh] at this
    exact this
  | _ => cases q
theorem sm_anewarray (F : JF s0 args0 E p l R s m meth c y) {idx : Nat} (hs : exi call y pc L st h len (.anewarray idx) = some (.inl (pc2, L2, st2, h2))) (hdg : decode (jtCode y) pc = .ok (.anewarray idx, len)) (C : CF s0 E n0 m0 y h H L st ls locs) (hr : h2.1 - n0 ≤ R.cells ∧ h2.2.1 - m0 ≤ R.slots) (kk : ∀ ls2 H2 locs2, CF s0 E n0 m0 y h2 H2 L2 st2 ls2 locs2 → W p l e R s m args below meth c H2 locs2 (h2.1 - n0) (h2.2.1 - m0) Q (F0 m pc2 ls2 st2)) : W p l e R s m args below meth c H locs (h.1 - n0) (h.2.1 - m0) Q (F0 m pc ls st) := by
  obtain ⟨hl, q⟩ := gd_inl hs
  have hl := Nat.eq_of_beq_eq_true hl
  subst hl
  replace q := sI_inl q; obtain ⟨n, r, e0, q⟩ := q
  subst e0
  by_cases hb : n < 0 ∨ 60000000 ≤ n.toNatClampNeg ∨ jtA (jkey y idx) = 0
  · rw [if_pos hb] at q; cases q
  rw [if_neg hb] at q
  obtain ⟨rfl, rfl, rfl, rfl⟩ := nx_inl q
  have hb1 : ¬ n < 0 := fun z => hb (Or.inl z)
  have hb2 : n.toNatClampNeg < 60000000 := by omega
  have hb3 : jtA (jkey y idx) ≠ 0 := fun z => hb (Or.inr (Or.inr z))
  have hk : jkey y idx ≠ 0 := fun z => by rw [z] at hb3; exact hb3 rfl
  obtain ⟨e1, e2⟩ := (jkey_or y idx).resolve_left hk
  rcases gd_jtA (jkey y idx) with z | ⟨C0, hcl, ht', rfl⟩
  · exact absurd z hb3
  rw [e1, e2] at hcl
  have hh : h.1 = H.size := C.rp.1
  have gn := C.gn
  have gm := C.gm
  have r1 : h.1 + 1 - n0 ≤ R.cells := hr.1
  have r2 : h.2.1 + n.toNatClampNeg - m0 ≤ R.slots := hr.2
  have hao : Cond.arrayOver (.object (arrC (jtA (jkey y idx)))) ∈ lw_tbl := by rcases ht' with z | z | z <;> rw [z] <;> first | exact gw_ao_o | exact gw_ao_s | exact gw_ao_k
  have hA := va_AO.use (A := args) (va_AO.moved F.warm.alike (va_AO.of (F.tbl _ hao)))
  refine W.anew F.exec F.code F.own (jw F.tbl F.warm hcl) hA rfl hdg rfl hb1 (by omega) (by omega) (by omega) fun cA kA comp k1 k2 k3 k4 => ?_
  have hnn : "[" ++ (FieldType.object (arrC (jtA (jkey y idx)))).toString = arrN (jtA (jkey y idx)) := by rcases ht' with z | z | z <;> rw [z] <;> decide
  rw [hnn] at k1
  have e3 : h.1 - n0 + 1 = (jpush h (jtA (jkey y idx), n.toNatClampNeg, fun _ => .null)).1 - n0 := by show _ = h.1 + 1 - n0; omega
  have e4 : h.2.1 - m0 + n.toNatClampNeg = (jpush h (jtA (jkey y idx), n.toNatClampNeg, fun _ => .null)).2.1 - m0 := by show _ = h.2.1 + n.toNatClampNeg - m0; omega
  rw [e3, e4]
  have := kk ls _ locs (C.push (arr_born F C.rp (t := jtA (jkey y idx)) (ty := .object (arrC (jtA (jkey y idx)))) (by rcases ht' with z | z | z <;> rw [z] <;> rfl) rfl (by omega) (by rcases ht' with z | z | z <;> rw [z] <;> rfl) k1 k2 k3 rfl (Or.inr ⟨rfl, rfl⟩)) (okc (v := .ref h.1) rfl (okt C.ok)))
  rw [hh] at this
  exact this
theorem jx_cast {cells slots : Nat} {cc : ByteArray} {rest : List Value} {a : Nat} (hexec : p.tables.exec = Jvm.exec) (hb : c.code = cc) {own nm : String} {index : Nat} (hown : s.vm.findClass own = some m.cls) (hlink : (Cond.classLink own index nm).before args s = true)
    (hr : ∃ cell : Cell, H[a]? = some cell ∧ cell.vm.isStatics = false ∧ s.vm.findClass nm = some cell.cls) (hdg : decode cc pc = .ok (.checkcast index, 3))
    (k : W p l e R s m args below meth c H locs cells slots Q (F0 m (pc + 3) ls (.ref a :: rest))) : W p l e R s m args below meth c H locs cells slots Q (F0 m pc ls (.ref a :: rest)) := by
  obtain ⟨cell, h1, h2, h3⟩ := hr
  intro T hT X
  obtain ⟨vm', X', st⟩ := X.checkcastYes hexec hown hlink (by rw [hT]; exact h1) h2 h3 (va_asg _ _) (g := F0 m pc ls (.ref a :: rest)) rfl rfl (by rw [hb]; exact hdg)
  obtain ⟨t, a1, b1⟩ := k (T.setVm vm') hT X'
  exact ⟨t, st t a1, b1⟩
theorem jx_inst {cells slots : Nat} {cc : ByteArray} {rest : List Value} {a : Nat} (hexec : p.tables.exec = Jvm.exec) (hb : c.code = cc) {own nm : String} {index : Nat} (hown : s.vm.findClass own = some m.cls) (hlink : (Cond.classLink own index nm).before args s = true)
    (hr : ∃ cell : Cell, H[a]? = some cell ∧ cell.vm.isStatics = false ∧ s.vm.findClass nm = some cell.cls) (hdg : decode cc pc = .ok (.instanceof index, 3))
    (k : W p l e R s m args below meth c H locs cells slots Q (F0 m (pc + 3) ls (.int 1 :: rest))) : W p l e R s m args below meth c H locs cells slots Q (F0 m pc ls (.ref a :: rest)) := by
  exact va_instE hexec hb hown hlink hr hdg k
theorem sm_checkcast (F : JF s0 args0 E p l R s m meth c y) {idx : Nat} (hs : exi call y pc L st h len (.checkcast idx) = some (.inl (pc2, L2, st2, h2))) (hdg : decode (jtCode y) pc = .ok (.checkcast idx, len)) (C : CF s0 E n0 m0 y h H L st ls locs) (hr : h2.1 - n0 ≤ R.cells ∧ h2.2.1 - m0 ≤ R.slots) (kk : ∀ ls2 H2 locs2, CF s0 E n0 m0 y h2 H2 L2 st2 ls2 locs2 → W p l e R s m args below meth c H2 locs2 (h2.1 - n0) (h2.2.1 - m0) Q (F0 m pc2 ls2 st2)) : W p l e R s m args below meth c H locs (h.1 - n0) (h.2.1 - m0) Q (F0 m pc ls st) := by
  obtain ⟨hl, q⟩ := gd_inl hs
  have hl := Nat.eq_of_beq_eq_true hl
  subst hl
  replace q := sA_inl q; obtain ⟨v, r, e0, q⟩ := q
  subst e0
  cases v with
  | null =>
    obtain ⟨rfl, rfl, rfl, rfl⟩ := nx_inl q
    exact lv_castN F.exec F.code hdg (kk _ _ _ (C.stk C.ok))
  | ref a =>
    cases hc : jm h a with
    | none => simp only [cK, hc] at q; cases q
    | some c9 =>
      obtain ⟨t, n, f⟩ := c9
      simp only [cK, hc] at q
      by_cases ht : t ∈ (jtK (jkey y idx)).1
      · rw [if_pos ht] at q
        obtain ⟨rfl, rfl, rfl, rfl⟩ := nx_inl q
        have hk : jkey y idx ≠ 0 := fun z => by rw [z] at ht; exact absurd ht List.not_mem_nil
        obtain ⟨e1, e2⟩ := (jkey_or y idx).resolve_left hk
        rcases gd_jtK (jkey y idx) with ⟨z, -⟩ | ⟨nm, hcl, hall, -⟩
        · rw [z] at ht; exact absurd ht List.not_mem_nil
        rw [e1, e2] at hcl
        have hcl' := jw (args := args) F.tbl F.warm hcl
        rcases hall t ht with ⟨h2, hh⟩ | ⟨h2, h107, hh⟩
        · obtain ⟨ce, g1, g2, g3, -, g5, g6⟩ := obj_at F C.rp hc h2
          rcases hh with rfl | hcs
          · exact jx_cast F.exec F.code F.own hcl' ⟨ce, g1, g2, g6⟩ hdg (kk _ _ _ (C.stk C.ok))
          · exact va_castY F.exec F.code F.own hcl' (jw_C F.tbl F.warm hcs) ⟨ce, g1, g2, g6⟩ hdg (kk _ _ _ (C.stk C.ok))
        · obtain ⟨ce, g1, g2, g3, -, g5, g6, g7⟩ := arr_at F C.rp hc (by omega)
          exact jx_cast F.exec F.code F.own hcl' ⟨ce, g1, g2, by rw [← hh]; exact g7 h107⟩ hdg (kk _ _ _ (C.stk C.ok))
      · rw [if_neg ht] at q; cases q
  | _ => cases q
theorem sm_instanceof (F : JF s0 args0 E p l R s m meth c y) {idx : Nat} (hs : exi call y pc L st h len (.instanceof idx) = some (.inl (pc2, L2, st2, h2))) (hdg : decode (jtCode y) pc = .ok (.instanceof idx, len)) (C : CF s0 E n0 m0 y h H L st ls locs) (hr : h2.1 - n0 ≤ R.cells ∧ h2.2.1 - m0 ≤ R.slots) (kk : ∀ ls2 H2 locs2, CF s0 E n0 m0 y h2 H2 L2 st2 ls2 locs2 → W p l e R s m args below meth c H2 locs2 (h2.1 - n0) (h2.2.1 - m0) Q (F0 m pc2 ls2 st2)) : W p l e R s m args below meth c H locs (h.1 - n0) (h.2.1 - m0) Q (F0 m pc ls st) := by
  obtain ⟨hl, q⟩ := gd_inl hs
  have hl := Nat.eq_of_beq_eq_true hl
  subst hl
  replace q := sA_inl q; obtain ⟨v, r, e0, q⟩ := q
  subst e0
  cases v with
  | null =>
    obtain ⟨rfl, rfl, rfl, rfl⟩ := nx_inl q
    exact lv_instN F.exec F.code hdg (kk _ _ _ (C.stk (okc rfl (okt C.ok))))
  | ref a =>
    cases hc : jm h a with
    | none => simp only [iK, hc] at q; cases q
    | some c9 =>
      obtain ⟨t, n, f⟩ := c9
      simp only [iK, hc] at q
      by_cases ht : t ∈ (jtK (jkey y idx)).1
      · rw [if_pos ht] at q
        obtain ⟨rfl, rfl, rfl, rfl⟩ := nx_inl q
        have hk : jkey y idx ≠ 0 := fun z => by rw [z] at ht; exact absurd ht List.not_mem_nil
        obtain ⟨e1, e2⟩ := (jkey_or y idx).resolve_left hk
        rcases gd_jtK (jkey y idx) with ⟨z, -⟩ | ⟨nm, hcl, hall, -⟩
        · rw [z] at ht; exact absurd ht List.not_mem_nil
        rw [e1, e2] at hcl
        have hcl' := jw (args := args) F.tbl F.warm hcl
        rcases hall t ht with ⟨h2, hh⟩ | ⟨h2, h107, hh⟩
        · obtain ⟨ce, g1, g2, g3, -, g5, g6⟩ := obj_at F C.rp hc h2
          rcases hh with rfl | hcs
          · exact jx_inst F.exec F.code F.own hcl' ⟨ce, g1, g2, g6⟩ hdg (kk _ _ _ (C.stk (okc rfl (okt C.ok))))
          · exact va_instY F.exec F.code F.own hcl' (jw_C F.tbl F.warm hcs) ⟨ce, g1, g2, g6⟩ hdg (kk _ _ _ (C.stk (okc rfl (okt C.ok))))
        · obtain ⟨ce, g1, g2, g3, -, g5, g6, g7⟩ := arr_at F C.rp hc (by omega)
          exact jx_inst F.exec F.code F.own hcl' ⟨ce, g1, g2, by rw [← hh]; exact g7 h107⟩ hdg (kk _ _ _ (C.stk (okc rfl (okt C.ok))))
      · rw [if_neg ht] at q
        rcases gd_jtK (jkey y idx) with ⟨-, z⟩ | ⟨nm, hcl, hall, z⟩
        · rw [z, if_neg List.not_mem_nil] at q; cases q
        · rw [z, if_neg List.not_mem_nil] at q; cases q
  | _ => cases q
end SimX
