/-! THE SIMULATION, XII: what was owed: Unsafe.getLong at an int array's first two ints -/
theorem find_uniq {α : Type _} {q : α → Bool} {x : α} : ∀ {L : List α}, x ∈ L → q x = true → L.countP q = 1 → L.find? q = some x
  | [], hx, _, _ => absurd hx List.not_mem_nil
  | a :: L, hx, hp, hc => by
    by_cases ha : q a = true
    · rw [List.countP_cons_of_pos ha] at hc
      have h0 : L.countP q = 0 := by omega
      have hn := List.countP_eq_zero.mp h0
      rcases List.mem_cons.mp hx with e | e
      · subst e; exact List.find?_cons_of_pos hp
      · exact absurd hp (hn x e)
    · rw [List.countP_cons_of_neg ha] at hc
      rw [List.find?_cons_of_neg ha]
      rcases List.mem_cons.mp hx with e | e
      · subst e; exact absurd hp ha
      · exact find_uniq e hp hc
theorem gl_in : (Native.jdk_internal_misc_Unsafe.memory.getRow "Long" "J" .long "" .plain) ∈ Native.jdk_internal_misc_Unsafe.memory.rows :=
  List.mem_append_left _ (List.mem_append_left _ (List.mem_flatMap.mpr ⟨("Long", "J", .long), List.mem_of_getElem? (i := 1) rfl, List.mem_cons_self⟩))
theorem gl_nat : (Native.jdk_internal_misc_Unsafe.memory.getRow "Long" "J" .long "" .plain) ∈ Jvm.natives := by
  have h := gl_in
  unfold Jvm.natives
  simp only [List.mem_append]
  repeat (first | exact Or.inr h | exact h | apply Or.inl)
set_option maxRecDepth 1000000 in
set_option maxHeartbeats 4000000 in
theorem gl_cnt : Jvm.natives.countP (fun r => r.name == "getLong" && r.cls == "jdk/internal/misc/Unsafe" && r.desc == "(Ljava/lang/Object;J)J") = 1 := by decide +kernel
set_option maxRecDepth 1000000 in
theorem gl_rowq : (fun r : NativeRow => r.name == "getLong" && r.cls == "jdk/internal/misc/Unsafe" && r.desc == "(Ljava/lang/Object;J)J") (Native.jdk_internal_misc_Unsafe.memory.getRow "Long" "J" .long "" .plain) = true := by decide +kernel
set_option maxRecDepth 1000000 in
theorem gl_find : Jvm.natives.find? (fun r => r.name == "getLong" && r.cls == "jdk/internal/misc/Unsafe" && r.desc == "(Ljava/lang/Object;J)J") = some (Native.jdk_internal_misc_Unsafe.memory.getRow "Long" "J" .long "" .plain) := find_uniq (q := fun r : NativeRow => r.name == "getLong" && r.cls == "jdk/internal/misc/Unsafe" && r.desc == "(Ljava/lang/Object;J)J") (x := Native.jdk_internal_misc_Unsafe.memory.getRow "Long" "J" .long "" .plain) (L := Jvm.natives) gl_nat gl_rowq gl_cnt
set_option maxRecDepth 1000000 in
theorem gl_find2 : NativeRow.find? Jvm.natives "jdk/internal/misc/Unsafe" "getLong" "(Ljava/lang/Object;J)J" = some (Native.jdk_internal_misc_Unsafe.memory.getRow "Long" "J" .long "" .plain) := by
  unfold NativeRow.find?
  exact gl_find
theorem gl_row (p : Program) : NativeRow.find? p.tables.natives "jdk/internal/misc/Unsafe" "getLong" "(Ljava/lang/Object;J)J" = some (Native.jdk_internal_misc_Unsafe.memory.getRow "Long" "J" .long "" .plain) := by
  cases p <;> exact gl_find2
abbrev glN : MethodName := ⟨"jdk/internal/misc/Unsafe", "getLong", "(Ljava/lang/Object;J)J"⟩
theorem gl_desc : parseMethodDescriptor glN.desc = some { parameters := [.object "java/lang/Object", .long], returnType := some .long } := by decide +kernel
theorem q194' : (Cond.initialized "jdk/internal/misc/Unsafe") ∈ lw_all := lw_g (lw_at lw_m1 31 rfl) rfl
theorem gl_b4 (n : Nat) (hn : n < 4294967296) : n / 1 % 256 + (n / 256 % 256) * 256 + (n / 65536 % 256) * 65536 + (n / 16777216 % 256) * 16777216 = n := by omega
theorem gl_lin (a b c d e f g i : Nat) : a * 1 + (b * 256 + (c * 65536 + (d * 16777216 + (e * 4294967296 + (f * 1099511627776 + (g * 281474976710656 + (i * 72057594037927936 + 0))))))) = (a + b * 256 + c * 65536 + d * 16777216) + 4294967296 * (e + f * 256 + g * 65536 + i * 16777216) := by omega
theorem gl_w (w : Nat → Nat) (a b c d e f g i : Nat) : (([a, b, c, d, e, f, g, i] : List Nat).zipIdx.map fun (b, k) => b * w k).sum = a * w 0 + (b * w 1 + (c * w 2 + (d * w 3 + (e * w 4 + (f * w 5 + (g * w 6 + (i * w 7 + 0))))))) := rfl
theorem gl_sum {n m : Nat} (hn : n < 4294967296) (hm : m < 4294967296) : (([n % 4294967296 / 1 % 256, n % 4294967296 / 256 % 256, n % 4294967296 / 65536 % 256, n % 4294967296 / 16777216 % 256, m % 4294967296 / 1 % 256, m % 4294967296 / 256 % 256, m % 4294967296 / 65536 % 256, m % 4294967296 / 16777216 % 256] : List Nat).zipIdx.map fun (b, k) => b * 2 ^ (8 * k)).sum = n + 4294967296 * m := by
  rw [Nat.mod_eq_of_lt hn, Nat.mod_eq_of_lt hm]
  have h1 := gl_b4 n hn
  have h2 := gl_b4 m hm
  generalize n / 1 % 256 = b0 at h1 ⊢
  generalize n / 256 % 256 = b1 at h1 ⊢
  generalize n / 65536 % 256 = b2 at h1 ⊢
  generalize n / 16777216 % 256 = b3 at h1 ⊢
  generalize m / 1 % 256 = c0 at h2 ⊢
  generalize m / 256 % 256 = c1 at h2 ⊢
  generalize m / 65536 % 256 = c2 at h2 ⊢
  generalize m / 16777216 % 256 = c3 at h2 ⊢
  rw [← h1, ← h2]
  refine (gl_w (fun k => 2 ^ (8 * k)) b0 b1 b2 b3 c0 c1 c2 c3).trans ?_
  have e0 : (2 : Nat) ^ (8 * 0) = 1 := by decide
  have e1 : (2 : Nat) ^ (8 * 1) = 256 := by decide
  have e2 : (2 : Nat) ^ (8 * 2) = 65536 := by decide
  have e3 : (2 : Nat) ^ (8 * 3) = 16777216 := by decide
  have e4 : (2 : Nat) ^ (8 * 4) = 4294967296 := by decide +kernel
  have e5 : (2 : Nat) ^ (8 * 5) = 1099511627776 := by decide +kernel
  have e6 : (2 : Nat) ^ (8 * 6) = 281474976710656 := by decide +kernel
  have e7 : (2 : Nat) ^ (8 * 7) = 72057594037927936 := by decide +kernel
  rw [e0, e1, e2, e3, e4, e5, e6, e7]
  exact gl_lin b0 b1 b2 b3 c0 c1 c2 c3
theorem gl_wp {E9 : CtlPost} {e : Env} {d9 : Bool} {acts : List Action} {U : State} {a : Addr} {A : Cell} {k : Class} {comp : ClassId} {x0 x1 : Int32} {Q : Value → Jvm.Pre}
    (hA : U.heap[a]? = some A) (hvm : A.vm = .none) (hk : U.vm.classes[A.cls]? = some k) (hkind : k.kind = .array comp .int) (h0 : A.slots[0]? = some (.int x0)) (h1 : A.slots[1]? = some (.int x1))
    (hQ : ∀ d' acts', Q (.long (x0.toUInt32.toNat + 4294967296 * x1.toUInt32.toNat).toUInt64.toInt64) d' acts' U) : wp (UnsafeMem.get .long (.ref a) 16 .plain) Q E9 e d9 acts U := by
  have hloc : ∀ {Q : UnsafeMem.Target → Jvm.Pre} {d9 : Bool} {acts : List Action}, wp (UnsafeMem.locate (.ref a) 16 .long) Q E9 e d9 acts U ↔ Q (UnsafeMem.Target.bytes a .int 0) d9 acts U := by
    intro Q d9 acts
    have hneg : ¬ (16 : Int64) < 0 := by decide
    have hoff : (16 : Int64).toNatClampNeg = 16 := by decide
    simp [UnsafeMem.locate, hneg, hoff, hA, Cell.info, hvm, hk, hkind, UnsafeMem.arrayBase, UnsafeMem.scaleOf, UnsafeMem.isRefType]
  have hrd : ∀ {i j : Nat} {x : Int32} {Q : Nat → Jvm.Pre} {d9 : Bool} {acts : List Action}, i / 4 = j → A.slots[j]? = some (.int x) → (wp (UnsafeMem.readByte a .int i .plain) Q E9 e d9 acts U ↔ Q (x.toUInt32.toNat % 4294967296 / 2 ^ (8 * (i % 4)) % 256) d9 (readActs ⟨a, j⟩ .plain (.int x) acts) U) := by
    intro i j x Q d9 acts hj h
    subst hj
    simp [UnsafeMem.readByte, UnsafeMem.scaleOf, UnsafeMem.bitsOf, hA, hvm, h]
  have hr : List.range (UnsafeMem.scaleOf .long) = [0, 1, 2, 3, 4, 5, 6, 7] := rfl
  simp only [UnsafeMem.get, wp_bind', hloc, hr, List.mapM, List.mapM.loop, hrd (i := 0 + 0) (j := 0) rfl h0, hrd (i := 0 + 1) (j := 0) rfl h0, hrd (i := 0 + 2) (j := 0) rfl h0, hrd (i := 0 + 3) (j := 0) rfl h0,
    hrd (i := 0 + 4) (j := 1) rfl h1, hrd (i := 0 + 5) (j := 1) rfl h1, hrd (i := 0 + 6) (j := 1) rfl h1, hrd (i := 0 + 7) (j := 1) rfl h1, wp_pure']
  have hs := gl_sum (n := x0.toUInt32.toNat) (m := x1.toUInt32.toNat) x0.toUInt32.toNat_lt x1.toUInt32.toNat_lt
  have hq := hQ
  rw [← hs] at hq
  exact hq _ _
theorem jprim_gl {as : List Value} {o : Out} {h h3 : AH} (e : jprim 90003 as h = some (o, h3)) : ∃ u a nu fu n f, as = [.ref u, .ref a, .long 16] ∧ jm h u = some (159, nu, fu) ∧ jm h a = some (1000, n, f) ∧ 2 ≤ n ∧ o = .inl (some (jL2 (f 0) (f 1))) ∧ h3 = h := by
  rcases as with _ | ⟨v1, as⟩
  · cases e
  cases v1 with
  | ref u =>
    rcases as with _ | ⟨v2, as⟩
    · cases e
    cases v2 with
    | ref a =>
      rcases as with _ | ⟨v3, as⟩
      · cases e
      cases v3 with
      | long x =>
        rcases as with _ | ⟨v4, as⟩
        · cases h1 : jm h u with
          | none => simp only [jprim, h1] at e; cases e
          | some c1 =>
            obtain ⟨tu, nu, fu⟩ := c1
            cases h2 : jm h a with
            | none => simp only [jprim, h1, h2] at e; cases e
            | some c2 =>
              obtain ⟨t, n, f⟩ := c2
              simp only [jprim, h1, h2] at e
              by_cases hg : tu = 159 ∧ t = 1000 ∧ x = 16 ∧ 2 ≤ n
              · rw [if_pos hg] at e
                obtain ⟨rfl, rfl, rfl, h4⟩ := hg
                simp only [Option.some.injEq, Prod.mk.injEq] at e
                exact ⟨u, a, nu, fu, n, f, rfl, h1, h2, h4, e.1.symm, e.2.symm⟩
              · rw [if_neg hg] at e; cases e
        · cases e
      | _ => cases e
    | _ => cases e
  | _ => cases e
def glP (u a : Nat) (ca : Cell) (comp : ClassId) : Unit → Array Value → State → Prop := fun _ a9 U => a9 = #[.ref u, .ref a, .long 16] ∧ U.heap[a]? = some ca ∧ ∃ k', U.vm.classes[ca.cls]? = some k' ∧ k'.kind = .array comp .int
def glV (x0 x1 : Int32) : Unit → Option Value := fun _ => some (.long (x0.toUInt32.toNat + 4294967296 * x1.toUInt32.toNat).toUInt64.toInt64)
theorem ow_G {s0 : State} {args0 : Array Value} {E : Nat → Value} : OwG s0 args0 E := by
  intro p l e R s m args below meth c Q y n0 m0 d pc idx r3 r4 L st h H ls locs z F hRf hRl hC hs hdg C kI
  obtain ⟨y2, as, rest, o, h3, hok, hst, hlen, hrl, htg, hM, hz⟩ := jcall_inl hs
  have hk : jkey y idx ≠ 0 := fun z => by rw [z] at hC; cases hC
  have hG := gd_jtC (jkey y idx)
  rw [hC] at hG hlen htg hz
  have w1 : Cond.methodLink (jown (jkey y idx)) (jidx (jkey y idx)) glN ∈ lw_all := by
    rcases hG with e9 | ⟨e9, -⟩ | ⟨e9, -⟩ | ⟨e9, -⟩ | ⟨e9, -⟩ | ⟨e9, -⟩ | ⟨e9, -⟩ | ⟨-, e2, -⟩ | ⟨-, -, w1⟩
    · cases e9
    · cases e9
    · cases e9
    · cases e9
    · cases e9
    · cases e9
    · cases e9
    · cases e2
    · exact w1
  have hy2 : y2 = 90003 := (Option.some.inj htg).symm
  subst hy2
  cases d with
  | zero => cases hM
  | succ d =>
    have hM' : jprim 90003 as h = some (o, h3) := by rw [M, if_pos (by decide)] at hM; exact hM
    obtain ⟨u, a, nu, fu, n, f, rfl, hu, ha, hn, rfl, rfl⟩ := jprim_gl hM'
    obtain ⟨cu, g1, g2, -, -, -, g6⟩ := obj_at F C.rp hu (by decide)
    obtain ⟨ca, a1, -, -, a4, ⟨-, -, b3, b4, b5⟩, ⟨-, k, k1, comp, k2⟩, -⟩ := arr_at F C.rp ha (by decide)
    have hfi : ∀ i, i < n → ∃ x : Int32, f i = .int x := by
      intro i hi
      have hf := (b5 i hi).1
      cases hv : f i <;> rw [hv] at hf <;> first | exact ⟨_, rfl⟩ | (exact absurd hf (by decide)) | (revert hf; simp [fits, arrTy])
    obtain ⟨x0, e0⟩ := hfi 0 (by omega)
    obtain ⟨x1, e1⟩ := hfi 1 (by omega)
    have s0' : ca.slots[0]? = some (.int x0) := by rw [b4 0 (by omega), e0]
    have s1' : ca.slots[1]? = some (.int x1) := by rw [b4 1 (by omega), e1]
    have hvmA : ca.vm = .none := (a4 rfl).1
    have hval : jL2 (f 0) (f 1) = .long (x0.toUInt32.toNat + 4294967296 * x1.toUInt32.toNat).toUInt64.toInt64 := by rw [e0, e1]; rfl
    rcases hz with ⟨v, hv, -, rfl⟩ | ⟨ex, hv, -⟩
    · have hv' : v = some (.long (x0.toUInt32.toNat + 4294967296 * x1.toUInt32.toNat).toUInt64.toInt64) := by rw [hval] at hv; exact (Sum.inl.inj hv).symm
      subst hv'
      have hrest : ∀ w ∈ rest, okV w = true := fun w hw => C.ok w (by rw [hst]; exact List.mem_append_right _ hw)
      have hB : Back l R p e below s args glN 3 20 (fun A a9 => ∃ g : Unit, glP u a ca comp g a9 A.U)
          (fun A a9 v B => B = A ∧ ∀ g : Unit, glP u a ca comp g a9 A.U → v = glV x0 x1 g) := by
        have hRf1 : 1 ≤ R.frames := by omega
        have hLo1 : 20 + (nativeFrameWords glN.cls glN.name 4 + 11) ≤ R.locals := by rw [show nativeFrameWords glN.cls glN.name 4 = 6 from by decide +kernel]; omega
        refine Back.of_nativeQ (y := glN) (P := glP u a ca comp) (val := glV x0 x1) (words := 4) (gl_row p) (nativeInstance (sargs := args) (y := glN) (jw (args := args) F.tbl F.warm gw_glN) (jw (args := args) F.tbl F.warm gw_glI) gl_desc) hRf1 hLo1 ?_
        intro g U a9 m9 _ hst9 hps9 hP
        obtain ⟨rfl, hA9, k9, hk9, hk9'⟩ := hP
        refine ⟨rfl, by simp [seenByNative, hst9, hps9, narrow], fun fs Q hq => ?_⟩
        show wp (do let v ← UnsafeMem.get .long (.ref a) 16 .plain; mark "nat.jdk_internal_misc_Unsafe.get"; Pure.pure (some v)) Q _ e false [] (U.setFrames fs)
        simp only [wp_bind']
        refine gl_wp (U := U.setFrames fs) (A := ca) (k := k9) (comp := comp) hA9 hvmA hk9 hk9' s0' s1' fun d' acts' => ?_
        have hq : ∀ d' acts', Q (some (.long (x0.toUInt32.toNat + 4294967296 * x1.toUInt32.toNat).toUInt64.toInt64)) d' acts' (U.setFrames fs) := hq
        generalize (x0.toUInt32.toNat + 4294967296 * x1.toUInt32.toNat).toUInt64.toInt64 = X9 at hq ⊢
        simp
        exact hq _ _
      intro T hT X
      obtain ⟨m1, meth1, hn1, hm1, -, -, -, hsig1⟩ := Cond.native_spec (jw (args := args) F.tbl F.warm gw_glN)
      have hPre : ∀ vm₁, s.WarmedH vm₁ → ∃ g : Unit, glP u a ca comp g #[.ref u, .ref a, .long 16] (T.setVm vm₁) := by
        intro vm₁ hW₁
        obtain ⟨k', q1, q2⟩ := hW₁.alike.2.2 _ _ k1
        exact ⟨(), rfl, by show T.heap[a]? = _; rw [hT]; exact a1, k', q1, by rw [q2]; exact k2⟩
      have hCall := jc_V (rest := rest) (W9 := 20) X F.exec F.own (MLk_of F hk (Or.inl w1)) (jw F.tbl F.warm gw_glI) (jw F.tbl F.warm q194') ⟨m1, meth1, hn1, hm1, hsig1⟩ (by decide) (hK := fun m meth c A g ig mk a h1 h2 h3 h4 h5 h6 h7 => Or.inl (hB m meth c A g ig mk a h1 h2 h3 h4 h5 h6 h7)) (PostX := fun _ _ _ _ => False)
        (b := u) (cellB := cu) (by rw [hT]; exact g1) g2 (Or.inl ⟨_, jw F.tbl F.warm gw_glS, g6⟩) (g := F0 m pc ls st) rfl (C.lv.1.1.trans F.maxL.symm) (argsL := [.ref a, .long 16]) (by intro sig hsig; rw [gl_desc] at hsig; cases hsig; rfl) (by rw [hst]; rfl) (room20 hrl) (by rw [F.code]; exact hdg) hPre
      rcases hCall with ⟨v, vm₁, B, hW₁, X', ⟨hB9, hv9⟩, st1⟩ | ⟨q9, vm₁, B, -, -, hX, -⟩
      · subst hB9
        obtain ⟨g9, hg9⟩ := hPre vm₁ hW₁
        have hv := hv9 g9 hg9
        subst hv
        obtain ⟨t2, b1, b2⟩ := kI _ ls H locs rfl (C.stk (okc (v := .long (x0.toUInt32.toNat + 4294967296 * x1.toUInt32.toNat).toUInt64.toInt64) rfl hrest)) (T.setVm vm₁) hT X'
        exact ⟨t2, st1 _ b1, b2⟩
      · exact hX.elim
    · cases hv
