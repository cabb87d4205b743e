/-! THE SIMULATION, IV: ends of a method, catches, calls -/
theorem find_split {α : Type} {p : α → Bool} {l : List α} {x : α} (h : l.find? p = some x) : ∃ as bs, l = as ++ x :: bs ∧ p x = true ∧ ∀ a ∈ as, p a = false := by
  obtain ⟨h1, as, bs, h2, h3⟩ := List.find?_eq_some_iff_append.mp h
  exact ⟨as, bs, h2, h1, fun a ha => by have := h3 a ha; simpa using this⟩
abbrev hcov (a b pc : Nat) : Bool := Nat.ble a pc && Nat.blt pc b
theorem hcov_covers {a b c d pc : Nat} : covers ⟨a, b, c, d⟩ pc = hcov a b pc := by
  show (decide (a ≤ pc) && decide (pc < b)) = (Nat.ble a pc && Nat.blt pc b)
  congr 1
  · rw [Bool.eq_iff_iff]; simp [Nat.ble_eq]
  · rw [Bool.eq_iff_iff]; simp [Nat.blt_eq]
theorem GdH_split {y pc : Nat} {x : Nat × Nat × Nat × List Nat} {bs : List (Nat × Nat × Nat × List Nat)} : ∀ (as : List (Nat × Nat × Nat × List Nat)) (Lz : List (Nat × Nat × Nat × Nat)), GdH y (as ++ x :: bs) Lz → (∀ a ∈ as, hcov a.1 a.2.1 pc = false) →
    ∃ az z bz, Lz = az ++ z :: bz ∧ (∀ w ∈ az, hcov w.1 w.2.1 pc = false) ∧ (x.1 = z.1 ∧ x.2.1 = z.2.1 ∧ x.2.2.1 = z.2.2.1) ∧
      (x.2.2.2 = [] ∨ (z.2.2.2 ≠ 0 ∧ ∃ nm, Cond.classLink (jtCls (y / 1000)) z.2.2.2 nm ∈ lw_all ∧ ∀ t ∈ x.2.2.2, t < 100 ∧ (jtCls t = nm ∨ Cond.castable (jtCls t) nm ∈ lw_tbl)))
  | [], [], h, _ => h.elim
  | [], z :: L, h, _ => ⟨[], z, L, rfl, fun _ q => absurd q List.not_mem_nil, h.1, h.2.1⟩
  | a :: r, [], h, _ => h.elim
  | a :: r, z :: L, h, ha => by
    obtain ⟨az, z', bz, e1, e2, e3, e4⟩ := GdH_split r L h.2.2 (fun w hw => ha w (List.mem_cons_of_mem _ hw))
    refine ⟨z :: az, z', bz, by rw [e1]; rfl, fun w hw => ?_, e3, e4⟩
    rcases List.mem_cons.mp hw with rfl | hw
    · have := ha a List.mem_cons_self
      obtain ⟨q1, q2, -⟩ := h.1
      rw [← q1, ← q2]; exact this
    · exact e2 w hw
theorem GdH_none {y pc : Nat} : ∀ (as : List (Nat × Nat × Nat × List Nat)) (Lz : List (Nat × Nat × Nat × Nat)), GdH y as Lz → (∀ a ∈ as, hcov a.1 a.2.1 pc = false) → ∀ w ∈ Lz, hcov w.1 w.2.1 pc = false
  | [], [], _, _ => fun _ q => absurd q List.not_mem_nil
  | [], z :: L, h, _ => h.elim
  | a :: r, [], h, _ => h.elim
  | a :: r, z :: L, h, ha => fun w hw => by
    rcases List.mem_cons.mp hw with rfl | hw
    · have := ha a List.mem_cons_self
      obtain ⟨q1, q2, -⟩ := h.1
      rw [← q1, ← q2]; exact this
    · exact GdH_none r L h.2.2 (fun w hw => ha w (List.mem_cons_of_mem _ hw)) w hw
/-- what a body that may throw owes at its end -/
def jx_MQ (below : List Frame) (Qc : Array Value → State → Outcome → State → Prop) (XC : Addr → State → State → Prop) (a : Array Value) (s : State) (mc ms : Nat) (free : Addr → Prop) : State → Prop := fun t =>
  ∃ o, t.status = .running ∧ Ended t below o ∧ jx_Q Qc XC mc ms free a s o t
section SimD
variable {s0 : State} {args0 : Array Value} {E : Nat → Value} {p : Program} {l : Launch} {e : Env} {R : Room} {s : State} {m : MethodId} {args : Array Value} {below : List Frame} {meth : Method} {c : Code} {Q : State → Prop}
variable {call : Cll} {y pc pc2 len n0 m0 : Nat} {L L2 st st2 : List Value} {h h2 : AH} {H : Heap} {ls : Array Slot} {locs : List Loc}
theorem jx_ret {cells slots mc ms : Nat} {Qc : Array Value → State → Outcome → State → Prop} {XC : Addr → State → State → Prop} {free : Addr → Prop} {g : JFrame} (k : W p l e R s m args below meth c H locs cells slots (MQ below Qc args s mc ms free) g) : W p l e R s m args below meth c H locs cells slots (jx_MQ below Qc XC args s mc ms free) g := by
  intro T hT X
  obtain ⟨t, a1, o, b1, b2, b3, b4⟩ := k T hT X
  exact ⟨t, a1, o, b1, b2, Or.inl ⟨b3, b4⟩⟩
theorem jx_out {cells slots mc ms : Nat} {Qc : Array Value → State → Outcome → State → Prop} {XC : Addr → State → State → Prop} {free : Addr → Prop} {rest : List Value} {q : Addr} (hout : ∀ x ∈ c.exceptionTable.toList, covers x pc = false) (hlocks : meth.locks = false)
    (hx : ∀ t : State, t.heap = H → s.WarmedH t.vm → XC q s t) (hf : ∀ z ∈ locs, free z.base) (hc : cells ≤ mc) (hs : slots ≤ ms) :
    vx_W p l e R s m args below meth c H locs cells slots (jx_MQ below Qc XC args s mc ms free) (F0 m pc ls rest) q := by
  intro T hT X
  obtain ⟨st1, hrun, hend, hW, hsm⟩ := X.leaveThrown q (g := F0 m pc ls rest) rfl rfl rfl hout hlocks
  exact ⟨_, st1, .threw q, hrun, hend, Or.inr ⟨q, rfl, locs, hx _ hT hW, hW, hsm.mono hc hs, hf⟩⟩
/-- no handler's range holds pc -/
theorem tab_none (F : JF s0 args0 E p l R s m meth c y) (hn : (jtH y).find? (fun x => Nat.ble x.1 pc && Nat.blt pc x.2.1) = none) : ∀ x ∈ c.exceptionTable.toList, covers x pc = false := by
  intro x hx
  rw [F.tab] at hx
  obtain ⟨w, hw, rfl⟩ := List.mem_map.mp hx
  rw [hcov_covers]
  refine GdH_none (jtH y) (jtHR y) (gd_H y) (fun a ha => ?_) w hw
  have := List.find?_eq_none.mp hn a ha
  exact Bool.eq_false_iff.mpr this
/-- a thrown exception that a handler takes -/
theorem sim_catch (F : JF s0 args0 E p l R s m meth c y) {q : Nat} {rest : List Value} (hj : jthrow y pc L h q = some (.inl (pc2, L2, st2, h2))) (C : CF s0 E n0 m0 y h H L [] ls locs)
    (kk : CF s0 E n0 m0 y h2 H L2 st2 ls locs → W p l e R s m args below meth c H locs (h2.1 - n0) (h2.2.1 - m0) Q (F0 m pc2 ls st2)) :
    vx_W p l e R s m args below meth c H locs (h.1 - n0) (h.2.1 - m0) Q (F0 m pc ls rest) q := by
  unfold jthrow at hj
  cases hf : (jtH y).find? (fun x => Nat.ble x.1 pc && Nat.blt pc x.2.1) with
  | none => rw [hf] at hj; cases hj
  | some x =>
    rw [hf] at hj
    cases hm : jm h q with
    | none => simp only [hm] at hj; cases hj
    | some c9 =>
      obtain ⟨t, n, f⟩ := c9
      simp only [hm] at hj
      by_cases ht : t ∈ x.2.2.2
      · rw [if_pos ht] at hj
        obtain ⟨rfl, rfl, rfl, rfl⟩ := nx_inl hj
        obtain ⟨as, bs, e1, e2, e3⟩ := find_split hf
        have hG := gd_H y
        rw [e1] at hG
        obtain ⟨az, z, bz, g1, g2, ⟨g3, g4, g5⟩, g6⟩ := GdH_split (pc := pc) as _ hG e3
        rcases g6 with g6 | ⟨g6, nm, g7, g8⟩
        · rw [g6] at ht; exact absurd ht List.not_mem_nil
        obtain ⟨g9, g10⟩ := g8 t ht
        obtain ⟨ce, w1, w2, w3, -, w5, w6⟩ := obj_at F C.rp hm (by omega)
        have hmod : t % 100 = t := Nat.mod_eq_of_lt g9
        rw [hmod] at w6
        intro T hT X
        have hpl : e.platform.magicAccessors = ({} : Platform).magicAccessors := by rw [X.admits.platform]
        obtain ⟨c5, hc5, hcl5⟩ := Cond.classLink_spec F.own (jw (args := args) F.tbl F.warm g7) e.platform hpl
        have hasg : s.vm.assignable ce.cls c5 = true := by
          rcases g10 with rfl | hcs
          · cases w6.symm.trans hc5
            exact va_asg _ _
          · obtain ⟨c3, c4, hc3, hc4, hasg⟩ := Cond.castable_spec (va_Nw.use (A := args) rfl (jw_C F.tbl F.warm hcs))
            cases w6.symm.trans hc3
            cases hc4.symm.trans hc5
            exact hasg
        have hsplit : c.exceptionTable.toList = tableOf az ++ (⟨z.1, z.2.1, z.2.2.1, z.2.2.2⟩ : ExceptionTableEntry) :: tableOf bz := by
          rw [F.tab, g1]
          simp [tableOf]
        obtain ⟨vm', X', st1⟩ := X.thenCaughtThrough q (g := F0 m pc ls rest) rfl (Steps.refl _) (by rw [hT]; exact w1) w2 (by obtain ⟨k9, h9, -⟩ := Vm.findClass_spec w6; exact ⟨k9, h9⟩) (tableOf az) ⟨z.1, z.2.1, z.2.2.1, z.2.2.2⟩ (tableOf bz) hsplit
          (fun w hw => by
            obtain ⟨w', hw', rfl⟩ := List.mem_map.mp hw
            exact Or.inl (by rw [hcov_covers]; exact g2 w' hw'))
          (by rw [hcov_covers, ← g3, ← g4]; exact e2) (Or.inr ⟨g6, c5, hcl5, hasg⟩)
        obtain ⟨t9, a1, b1⟩ := kk (C.stk (okc rfl (fun _ hv => absurd hv List.not_mem_nil))) (T.setVm vm') hT X'
        refine ⟨t9, st1.trans ?_, b1⟩
        have e9 : z.2.2.1 = x.2.2.1 := g5.symm
        show Steps p.tables e below ((T.setVm vm').setTop { F0 m pc ls rest with pc := z.2.2.1, stack := [.ref q] }) t9
        rw [e9]
        exact a1
      · rw [if_neg ht] at hj; cases hj
/-- a thrown exception that no handler takes -/
theorem jthrow_inr {q : Nat} {o : Out} (hj : jthrow y pc L h q = some (.inr (o, h2))) : o = .inr q ∧ h2 = h ∧ (jtH y).find? (fun x => Nat.ble x.1 pc && Nat.blt pc x.2.1) = none := by
  unfold jthrow at hj
  cases hf : (jtH y).find? (fun x => Nat.ble x.1 pc && Nat.blt pc x.2.1) with
  | none =>
    rw [hf] at hj
    simp only [Option.some.injEq, Sum.inr.injEq, Prod.mk.injEq] at hj
    exact ⟨hj.1.symm, hj.2.symm, rfl⟩
  | some x =>
    rw [hf] at hj
    cases hm : jm h q with
    | none => simp only [hm] at hj; cases hj
    | some c9 =>
      obtain ⟨t, n, f⟩ := c9
      simp only [hm] at hj
      by_cases ht : t ∈ x.2.2.2
      · rw [if_pos ht] at hj; cases hj
      · rw [if_neg ht] at hj; cases hj
/-- the ways on from a place z that a call or a throw comes to: kI inside, kX out of the method -/
theorem sim_thrown (F : JF s0 args0 E p l R s m meth c y) {q : Nat} {rest : List Value} {z : Cf ⊕ (Out × AH)} (hj : jthrow y pc L h q = some z) (C : CF s0 E n0 m0 y h H L [] ls locs)
    (kI : ∀ (cf : Cf) (ls2 : Array Slot) (H2 : Heap) (locs2 : List Loc), z = .inl cf → CF s0 E n0 m0 y cf.2.2.2 H2 cf.2.1 cf.2.2.1 ls2 locs2 → W p l e R s m args below meth c H2 locs2 (cf.2.2.2.1 - n0) (cf.2.2.2.2.1 - m0) Q (F0 m cf.1 ls2 cf.2.2.1))
    (kX : ∀ (q : Nat) (h2 : AH) (pc : Nat) (ls : Array Slot) (rest : List Value) (H2 : Heap) (locs2 : List Loc), z = .inr (.inr q, h2) → (∀ x ∈ c.exceptionTable.toList, covers x pc = false) → RpH s0 E h2 H2 → (∀ z ∈ locs2, s0.heap.size ≤ z.base) → vx_W p l e R s m args below meth c H2 locs2 (h2.1 - n0) (h2.2.1 - m0) Q (F0 m pc ls rest) q) :
    vx_W p l e R s m args below meth c H locs (h.1 - n0) (h.2.1 - m0) Q (F0 m pc ls rest) q := by
  cases z with
  | inl cf =>
    obtain ⟨pc2, L2, st2, h2⟩ := cf
    exact sim_catch F hj C fun C2 => kI _ ls H locs rfl C2
  | inr r =>
    obtain ⟨o, h2⟩ := r
    obtain ⟨rfl, rfl, hn⟩ := jthrow_inr hj
    exact kX q _ pc ls rest H locs rfl (tab_none F hn) C.rp C.fr
theorem sim_athrow (F : JF s0 args0 E p l R s m meth c y) {z : Cf ⊕ (Out × AH)} (hs : exi call y pc L st h len .athrow = some z) (hdg : decode (jtCode y) pc = .ok (.athrow, len)) (C : CF s0 E n0 m0 y h H L st ls locs)
    (kI : ∀ (cf : Cf) (ls2 : Array Slot) (H2 : Heap) (locs2 : List Loc), z = .inl cf → CF s0 E n0 m0 y cf.2.2.2 H2 cf.2.1 cf.2.2.1 ls2 locs2 → W p l e R s m args below meth c H2 locs2 (cf.2.2.2.1 - n0) (cf.2.2.2.2.1 - m0) Q (F0 m cf.1 ls2 cf.2.2.1))
    (kX : ∀ (q : Nat) (h2 : AH) (pc : Nat) (ls : Array Slot) (rest : List Value) (H2 : Heap) (locs2 : List Loc), z = .inr (.inr q, h2) → (∀ x ∈ c.exceptionTable.toList, covers x pc = false) → RpH s0 E h2 H2 → (∀ z ∈ locs2, s0.heap.size ≤ z.base) → vx_W p l e R s m args below meth c H2 locs2 (h2.1 - n0) (h2.2.1 - m0) Q (F0 m pc ls rest) q) :
    W p l e R s m args below meth c H locs (h.1 - n0) (h.2.1 - m0) Q (F0 m pc ls st) := by
  obtain ⟨hl, q⟩ := gd_inl hs
  have hl := Nat.eq_of_beq_eq_true hl
  subst hl
  cases st with
  | nil => cases q
  | cons v r =>
    cases v with
    | ref a =>
      simp only [] at q
      cases hm : jm h a with
      | none => simp only [aT, hm] at q; cases q
      | some c9 =>
        obtain ⟨t, n, f⟩ := c9
        simp only [aT, hm] at q
        by_cases ht : t < 100
        · rw [if_pos ht] at q
          exact vx_athrow F.exec F.code hdg (sim_thrown F q (C.stk fun _ hv => absurd hv List.not_mem_nil) kI kX)
        · rw [if_neg ht] at q; cases q
    | _ => cases q
/-! calls -/
theorem jcall_inl {d q : Nat} {r : Nat × Nat × Nat × Nat} {ok : Bool} {z : Cf ⊕ (Out × AH)} (hs : jcall (M d) y pc q L st h r ok = some z) : ∃ (y2 : Nat) (as rest : List Value) (o : Out) (h2 : AH), ok = true ∧ st = as.reverse ++ rest ∧ as.length = jargs r ∧ rest.length ≤ 10 ∧ jtgt h r as = some y2 ∧ M d y2 as h = some (o, h2) ∧
    ((∃ v, o = .inl v ∧ okRet r.2.2.2 v = true ∧ z = .inl (q, L, v.toList ++ rest, h2)) ∨ ∃ ex, o = .inr ex ∧ jthrow y pc L h2 ex = some z) := by
  unfold jcall at hs
  obtain ⟨g, hs⟩ := gd_inl hs
  obtain ⟨g, g3⟩ := and_inv g
  obtain ⟨g1, g2⟩ := and_inv g
  have g2 := Nat.le_of_ble_eq_true g2
  have g3 := Nat.le_of_ble_eq_true g3
  cases ht : jtgt h r ((st.take (jargs r)).reverse) with
  | none => rw [ht] at hs; cases hs
  | some y2 =>
    rw [ht] at hs
    simp only [] at hs
    cases hM : M d y2 ((st.take (jargs r)).reverse) h with
    | none => rw [hM] at hs; cases hs
    | some z9 =>
      obtain ⟨o, h2⟩ := z9
      rw [hM] at hs
      refine ⟨y2, (st.take (jargs r)).reverse, st.drop (jargs r), o, h2, g1, by rw [List.reverse_reverse, List.take_append_drop], by rw [List.length_reverse, List.length_take]; omega, by rw [List.length_drop]; omega, ht, hM, ?_⟩
      cases o with
      | inl v =>
        obtain ⟨q1, q2⟩ := gd_inl hs
        have q3 : (some (.inl (q, L, v.toList ++ st.drop (jargs r), h2)) : Rs) = some z := q2
        exact Or.inl ⟨v, rfl, q1, (Option.some.inj q3).symm⟩
      | inr ex => exact Or.inr ⟨ex, rfl, hs⟩
theorem okRet_ok {rc : Nat} {v : Option Value} (h : okRet rc v = true) : ∀ w ∈ v.toList, okV w = true := by
  intro w hw
  cases v with
  | none => cases hw
  | some v =>
    have : w = v := by simpa using hw
    subst this
    cases w <;> first | rfl | (cases h; done) | (simp [okRet] at h)
theorem cat_le (v : Value) : v.category ≤ 2 := by cases v <;> simp [Value.category]
theorem cats_le : ∀ (r : List Value), (r.map fun v => v.category).sum ≤ 2 * r.length
  | [] => Nat.le_refl _
  | v :: r => by
    have h1 := cat_le v
    have h2 := cats_le r
    simp only [List.map_cons, List.sum_cons, List.length_cons]
    omega
/-- a call whose row is met -/
theorem sim_row (F : JF s0 args0 E p l R s m meth c y) (C : CF s0 E n0 m0 y h H L st ls locs) {d y2 : Nat} {as rest : List Value} {o : Out} {rc : Nat} {z : Cf ⊕ (Out × AH)} (hM : M d y2 as h = some (o, h2)) (hst : st = as.reverse ++ rest)
    (hz : (∃ v, o = .inl v ∧ okRet rc v = true ∧ z = .inl (pc + len, L, v.toList ++ rest, h2)) ∨ ∃ ex, o = .inr ex ∧ jthrow y pc L h2 ex = some z)
    (row : ∀ T : State, T.heap = H → Stand p l e R s m args below meth c T locs (h.1 - n0) (h.2.1 - m0) → CallE p l e R s m args below meth c T locs (h.1 - n0) (h.2.1 - m0) (F0 m pc ls st) len rest as.toArray (PostOf (QcO s0 E o h2) (h2.1 - h.1) (h2.2.1 - h.2.1) (frO s0)) (jx_Post (XCO s0 E o h2) (h2.1 - h.1) (h2.2.1 - h.2.1) (frO s0)))
    (kI : ∀ (cf : Cf) (ls2 : Array Slot) (H2 : Heap) (locs2 : List Loc), z = .inl cf → CF s0 E n0 m0 y cf.2.2.2 H2 cf.2.1 cf.2.2.1 ls2 locs2 → W p l e R s m args below meth c H2 locs2 (cf.2.2.2.1 - n0) (cf.2.2.2.2.1 - m0) Q (F0 m cf.1 ls2 cf.2.2.1))
    (kX : ∀ (q : Nat) (h2 : AH) (pc : Nat) (ls : Array Slot) (rest : List Value) (H2 : Heap) (locs2 : List Loc), z = .inr (.inr q, h2) → (∀ x ∈ c.exceptionTable.toList, covers x pc = false) → RpH s0 E h2 H2 → (∀ z ∈ locs2, s0.heap.size ≤ z.base) → vx_W p l e R s m args below meth c H2 locs2 (h2.1 - n0) (h2.2.1 - m0) Q (F0 m pc ls rest) q) : W p l e R s m args below meth c H locs (h.1 - n0) (h.2.1 - m0) Q (F0 m pc ls st) := by
  have hg : Grw h h2 := M_gr d y2 as h (o, h2) hM
  obtain ⟨hg1, hg2⟩ := hg
  have gn := C.gn
  have gm := C.gm
  have e1 : h.1 - n0 + (h2.1 - h.1) = h2.1 - n0 := by omega
  have e2 : h.2.1 - m0 + (h2.2.1 - h.2.1) = h2.2.1 - m0 := by omega
  have hrest : ∀ w ∈ rest, okV w = true := fun w hw => C.ok w (by rw [hst]; exact List.mem_append_right _ hw)
  intro T hT X
  refine callE_fin (row T hT X) (fun v H2 L2 ho hR hL => ?_) (fun q H2 L2 ho hR hL => ?_)
  · have hfr : ∀ z ∈ locs ++ L2, s0.heap.size ≤ z.base := fun z hz => (List.mem_append.mp hz).elim (C.fr z) (hL z)
    rcases hz with ⟨v', q1, q2, q3⟩ | ⟨ex, q1, -⟩
    · cases ho.symm.trans q1
      have := kI _ ls H2 (locs ++ L2) q3 ⟨hR, C.lv, hfr, fun w hw => (List.mem_append.mp hw).elim (okRet_ok q2 w) (hrest w), by show n0 ≤ h2.1; omega, by show m0 ≤ h2.2.1; omega⟩
      rw [e1, e2]
      exact this
    · cases ho.symm.trans q1
  · have hfr : ∀ z ∈ locs ++ L2, s0.heap.size ≤ z.base := fun z hz => (List.mem_append.mp hz).elim (C.fr z) (hL z)
    rcases hz with ⟨v', q1, -⟩ | ⟨ex, q1, q2⟩
    · cases ho.symm.trans q1
    · cases ho.symm.trans q1
      rw [e1, e2]
      exact sim_thrown F q2 ⟨hR, C.lv, hfr, fun _ hv => absurd hv List.not_mem_nil, by omega, by omega⟩ kI kX
theorem sim_pre (F : JF s0 args0 E p l R s m meth c y) (C : CF s0 E n0 m0 y h H L st ls locs) {d y2 : Nat} {as : List Value} {o : Out} (hM : M d y2 as h = some (o, h2)) (hr : h2.1 - n0 ≤ R.cells ∧ h2.2.1 - m0 ≤ R.slots) {T : State} (hT : T.heap = H) :
    ∀ vm₁, s.WarmedH vm₁ → PreOf R (h2.1 - h.1) (h2.2.1 - h.2.1) (PcO s0 E as h) ⟨T.setVm vm₁, locs, h.1 - n0, h.2.1 - m0⟩ as.toArray := by
  intro vm₁ hW
  obtain ⟨hg1, hg2⟩ : Grw h h2 := M_gr d y2 as h (o, h2) hM
  have gn := C.gn
  have gm := C.gm
  refine ⟨by show h.1 - n0 + (h2.1 - h.1) ≤ R.cells; omega, by show h.2.1 - m0 + (h2.2.1 - h.2.1) ≤ R.slots; omega, rfl, ?_, State.WarmedH.trans F.warm hW⟩
  show RpH s0 E h T.heap
  rw [hT]; exact C.rp
def zh (z : Cf ⊕ (Out × AH)) : AH := match z with
  | .inl cf => cf.2.2.2
  | .inr r => r.2
theorem jthrow_zh {q : Nat} {z : Cf ⊕ (Out × AH)} (hj : jthrow y pc L h q = some z) : zh z = h := by
  cases z with
  | inl cf =>
    obtain ⟨pc2, L2, st2, h2⟩ := cf
    unfold jthrow at hj
    cases hf : (jtH y).find? (fun x => Nat.ble x.1 pc && Nat.blt pc x.2.1) with
    | none => rw [hf] at hj; cases hj
    | some x =>
      rw [hf] at hj
      cases hm : jm h q with
      | none => simp only [hm] at hj; cases hj
      | some c9 =>
        obtain ⟨t, n, f⟩ := c9
        simp only [hm] at hj
        by_cases ht : t ∈ x.2.2.2
        · rw [if_pos ht] at hj
          obtain ⟨-, -, -, rfl⟩ := nx_inl hj
          rfl
        · rw [if_neg ht] at hj; cases hj
  | inr r =>
    obtain ⟨o, h2⟩ := r
    exact (jthrow_inr hj).2.1
theorem zh_of {rc q : Nat} {o : Out} {rest : List Value} {z : Cf ⊕ (Out × AH)} (hz : (∃ v, o = .inl v ∧ okRet rc v = true ∧ z = .inl (q, L, v.toList ++ rest, h2)) ∨ ∃ ex, o = .inr ex ∧ jthrow y pc L h2 ex = some z) : zh z = h2 := by
  rcases hz with ⟨v, -, -, rfl⟩ | ⟨ex, -, hj⟩
  · rfl
  · exact jthrow_zh hj
theorem MF_of (F : JF s0 args0 E p l R s m meth c y) {y2 : Nat} (hG : GdW y2) : ∃ (mk : MethodId) (methM : Method), s.methodNamed? (jtY y2) = some mk ∧ s.vm.method? mk = some methM ∧ parseMethodDescriptor (jtY y2).desc = some methM.sig := by
  rcases hG with ⟨-, -, ⟨-, h2⟩ | h2⟩
  · exact MF_code (jw (args := #[]) F.tbl F.warm h2)
  · exact MF_codeW (jw (args := #[]) F.tbl F.warm h2)
theorem MLk_of (F : JF s0 args0 E p l R s m meth c y) {idx : Nat} {x : MethodName} (hk : jkey y idx ≠ 0) (hM : MLk (jkey y idx) x) : (Cond.methodLink (jtCls (y / 1000)) idx x).before args s = true ∨ ∃ host, (Cond.methodLinkNest (jtCls (y / 1000)) idx x host).before args s = true := by
  obtain ⟨e1, e2⟩ := (jkey_or y idx).resolve_left hk
  unfold MLk at hM
  rw [e1, e2] at hM
  rcases hM with h | ⟨host, h⟩
  · exact Or.inl (jw F.tbl F.warm h)
  · exact Or.inr ⟨host, jw_M F.tbl F.warm h⟩
theorem lk_of (F : JF s0 args0 E p l R s m meth c y) {idx : Nat} {x : MethodName} (hk : jkey y idx ≠ 0) (hM : Cond.methodLink (jown (jkey y idx)) (jidx (jkey y idx)) x ∈ lw_all) : (Cond.methodLink (jtCls (y / 1000)) idx x).before args s = true := by
  obtain ⟨e1, e2⟩ := (jkey_or y idx).resolve_left hk
  rw [e1, e2] at hM
  exact jw F.tbl F.warm hM
theorem len_of {x : String} {n k : Nat} (hA : argN x n) (hk : k = n) : ∀ sig, parseMethodDescriptor x = some sig → k = sig.parameters.length := by
  intro sig hs
  have h2 : (parseMethodDescriptor x).map (fun d => d.parameters.length) = some n := hA
  rw [hs] at h2
  rw [hk]
  exact (Option.some.inj h2).symm
theorem recv_of_M {d y2 : Nat} {as : List Value} {o : Out} (hM : M d y2 as h = some (o, h2)) (hy : y2 < 90000) (hst : jtStat y2 = false) : ∃ a t n f r, as = .ref a :: r ∧ jm h a = some (t, n, f) ∧ t ∈ jtRecv y2 := by
  cases d with
  | zero => cases hM
  | succ d =>
    rw [M, if_neg (by omega)] at hM
    by_cases hg : jrecv y2 as h = true ∧ (jent y2 as).length = jtML y2
    · have hrv := hg.1
      unfold jrecv at hrv
      rw [hst, Bool.false_or] at hrv
      cases as with
      | nil => cases hrv
      | cons v r =>
        cases v with
        | ref a =>
          simp only [] at hrv
          cases hm : jm h a with
          | none => rw [hm] at hrv; cases hrv
          | some c9 =>
            obtain ⟨t, n, f⟩ := c9
            rw [hm] at hrv
            exact ⟨a, t, n, f, r, rfl, hm, of_decide_eq_true hrv⟩
        | _ => cases hrv
    · rw [if_neg hg] at hM; cases hM
theorem as_ok {as rest : List Value} (C : CF s0 E n0 m0 y h H L st ls locs) (hst : st = as.reverse ++ rest) : ∀ v ∈ as, okV v = true := fun v hv => C.ok v (by rw [hst]; exact List.mem_append_left _ (List.mem_reverse.mpr hv))
theorem room20 {rest : List Value} (h : rest.length ≤ 10) : 2 * 0 + (rest.map fun v => v.category).sum ≤ 20 := by
  have := cats_le rest
  omega
theorem jtC0z : jtC 0 = (9, 0, 0, 0) := rfl
theorem storePairs_at (at_ : Nat) : ∀ (xs : List Value) (i : Nat) (cd : Cell), at_ + i + xs.length ≤ cd.slots.size → ∀ k : Nat, (cd.storePairs at_ (xs.zipIdx i)).slots[k]? = if at_ + i ≤ k ∧ k < at_ + i + xs.length then some (xs.getD (k - (at_ + i)) .null) else cd.slots[k]?
  | [], i, cd, _, k => by
    rw [if_neg (by simp only [List.length_nil]; omega)]
    rfl
  | x :: xs, i, cd, hs, k => by
    rw [List.zipIdx_cons]
    show ((cd.setSlot (at_ + i) x).storePairs at_ (xs.zipIdx (i + 1))).slots[k]? = _
    have hlen : (x :: xs).length = xs.length + 1 := rfl
    rw [storePairs_at at_ xs (i + 1) (cd.setSlot (at_ + i) x) (by rw [k2_slotsz]; omega)]
    by_cases hk : k = at_ + i
    · subst hk
      rw [if_neg (by omega), if_pos (by omega), Nat.sub_self]
      show (cd.slots.setIfInBounds (at_ + i) x)[at_ + i]? = _
      have : at_ + i < cd.slots.size := by omega
      simp [this]
    · have hne : (cd.setSlot (at_ + i) x).slots[k]? = cd.slots[k]? := by
        show (cd.slots.setIfInBounds (at_ + i) x)[k]? = _
        rw [Array.getElem?_setIfInBounds_ne (fun q => hk q.symm)]
      by_cases h : at_ + (i + 1) ≤ k ∧ k < at_ + (i + 1) + xs.length
      · rw [if_pos h, if_pos (by omega)]
        have e : k - (at_ + i) = (k - (at_ + (i + 1))) + 1 := by omega
        rw [e, List.getD_cons_succ]
      · rw [if_neg h, if_neg (by omega), hne]
theorem jprim_copy {as : List Value} {o : Out} {h3 : AH} (e : jprim 90001 as h = some (o, h3)) : ∃ a sp b dp n t n1 f t2 n2 g, as = [.ref a, .int sp, .ref b, .int dp, .int n] ∧ jm h a = some (t, n1, f) ∧ jm h b = some (t2, n2, g) ∧ cpOk t t2 = true ∧ ¬ sp < 0 ∧ ¬ dp < 0 ∧ ¬ n < 0 ∧ sp.toNatClampNeg + n.toNatClampNeg ≤ n1 ∧ dp.toNatClampNeg + n.toNatClampNeg ≤ n2 ∧ o = .inl none ∧ h3 = jset h b (t2, n2, jcpy f g sp.toNatClampNeg dp.toNatClampNeg n.toNatClampNeg) := by
  rcases as with _ | ⟨v1, as⟩
  · cases e
  cases v1 with
  | ref a =>
    rcases as with _ | ⟨v2, as⟩
    · cases e
    cases v2 with
    | int sp =>
      rcases as with _ | ⟨v3, as⟩
      · cases e
      cases v3 with
      | ref b =>
        rcases as with _ | ⟨v4, as⟩
        · cases e
        cases v4 with
        | int dp =>
          rcases as with _ | ⟨v5, as⟩
          · cases e
          cases v5 with
          | int n =>
            rcases as with _ | ⟨v6, as⟩
            · cases h1 : jm h a with
              | none => simp only [jprim, h1] at e; cases e
              | some c1 =>
                obtain ⟨t, n1, f⟩ := c1
                cases h2 : jm h b with
                | none => simp only [jprim, h1, h2] at e; cases e
                | some c2 =>
                  obtain ⟨t2, n2, g⟩ := c2
                  simp only [jprim, h1, h2] at e
                  by_cases hg : cpOk t t2 = true ∧ ¬ sp < 0 ∧ ¬ dp < 0 ∧ ¬ n < 0 ∧ sp.toNatClampNeg + n.toNatClampNeg ≤ n1 ∧ dp.toNatClampNeg + n.toNatClampNeg ≤ n2
                  · rw [if_pos hg] at e
                    simp only [Option.some.injEq, Prod.mk.injEq] at e
                    exact ⟨a, sp, b, dp, n, t, n1, f, t2, n2, g, rfl, h1, h2, hg.1, hg.2.1, hg.2.2.1, hg.2.2.2.1, hg.2.2.2.2.1, hg.2.2.2.2.2, e.1.symm, e.2.symm⟩
                  · rw [if_neg hg] at e; cases e
            · cases e
          | _ => cases e
        | _ => cases e
      | _ => cases e
    | _ => cases e
  | _ => cases e
theorem i32_nn {z : Int32} (hz : ¬ z < 0) : z.toInt = (z.toNatClampNeg : Int) := by
  have hz0 : (0 : Int) ≤ z.toInt := by
    have := Int32.not_lt.mp hz
    simpa using Int32.le_iff_toInt_le.mp this
  show z.toInt = ((z.toInt.toNat : Nat) : Int)
  omega
theorem prim_copy (F : JF s0 args0 E p l R s m meth c y) (hRf : 1 ≤ R.frames) (hRl : 120 ≤ R.locals) {d idx y2 r2 r3 r4 : Nat} {as rest : List Value} {o : Out} {h3 : AH} {z : Cf ⊕ (Out × AH)} (hdg : decode (jtCode y) pc = .ok (.invokestatic idx, 3)) (C : CF s0 E n0 m0 y h H L st ls locs) (hk : jkey y idx ≠ 0) (hst : st = as.reverse ++ rest) (hrl : rest.length ≤ 10)
    (htg : jtgt h (3, r2, r3, r4) as = some y2) (hM : M d y2 as h = some (o, h3)) (hz : (∃ v, o = .inl v ∧ okRet r4 v = true ∧ z = .inl (pc + 3, L, v.toList ++ rest, h3)) ∨ ∃ ex, o = .inr ex ∧ jthrow y pc L h3 ex = some z) (hok : (Nat.beq 3 0 || (Nat.beq 3 3 && Nat.beq r2 90001)) = true)
    (w1 : (r2 = 90001 ∨ r2 = 90002 ∨ r2 = 90003) ∧ Cond.methodLink (jown (jkey y idx)) (jidx (jkey y idx)) (primN r2) ∈ lw_all)
    (kI : ∀ (cf : Cf) (ls2 : Array Slot) (H2 : Heap) (locs2 : List Loc), z = .inl cf → CF s0 E n0 m0 y cf.2.2.2 H2 cf.2.1 cf.2.2.1 ls2 locs2 → W p l e R s m args below meth c H2 locs2 (cf.2.2.2.1 - n0) (cf.2.2.2.2.1 - m0) Q (F0 m cf.1 ls2 cf.2.2.1)) : W p l e R s m args below meth c H locs (h.1 - n0) (h.2.1 - m0) Q (F0 m pc ls st) := by
  have e2 : r2 = 90001 := by simpa using hok
  subst e2
  have hy2 : y2 = 90001 := (Option.some.inj htg).symm
  subst hy2
  cases d with
  | zero => cases hM
  | succ d =>
    have hM' : jprim 90001 as h = some (o, h3) := by rw [M, if_pos (by decide)] at hM; exact hM
    obtain ⟨a, sp, b, dp, n, t, n1, f, t2, n2, g, rfl, hm1, hm2, hcp, q1, q2, q3, q4, q5, rfl, rfl⟩ := jprim_copy hM'
    have htt : arrTy t = arrTy t2 ∧ (t2 = 1040 ∨ t2 = 1010 ∨ t2 = 1030 ∨ t2 = 1000) ∧ (t / 10 = 104 ↔ t2 = 1040) ∧ 1000 ≤ t ∧ 1000 ≤ t2 ∧ mutT t2 = true ∧ t2 / 10 ≠ 107 ∧ (t2 / 10 = 104 → t2 = 1040) := by
      simp only [cpOk, Bool.or_eq_true, Bool.and_eq_true, Nat.beq_eq] at hcp
      rcases hcp with ((⟨rfl, rfl | rfl⟩ | ⟨rfl, rfl | rfl⟩) | ⟨rfl, rfl⟩) | ⟨rfl, rfl⟩ <;> exact ⟨rfl, by decide, by decide, by decide, by decide, rfl, by decide, by decide⟩
    obtain ⟨htt, ht2, ht4, ht1, ht3, hmu, h107, h104⟩ := htt
    obtain ⟨ce1, g1, g2, g3, -, g5, ⟨go1, k1, hk1, comp1, hkd1⟩, -⟩ := arr_at F C.rp hm1 (by omega)
    obtain ⟨ce2, u1, u2, u3, u4, u5, ⟨go2, k2, hk2, comp2, hkd2⟩, u7⟩ := arr_at F C.rp hm2 (by omega)
    have u7 := u7 h107
    have hs1 : ce1.slots.size = n1 := g5.2.2.1
    have hs2 : ce2.slots.size = n2 := u5.2.2.1
    have hv1 : ∀ i, sp.toNatClampNeg + i < n1 → ce1.slots.getD (sp.toNatClampNeg + i) .null = f (sp.toNatClampNeg + i) := fun i hi => by
      rw [Array.getD_eq_getD_getElem?, g5.2.2.2.1 _ hi]; rfl
    have hcomp : t2 = 1040 → s.vm.findClass "java/lang/Object" = some comp2 := by
      intro e
      subst e
      have hA := va_AO.use (A := args) (va_AO.moved F.warm.alike (va_AO.of (F.tbl _ gw_ao_o)))
      obtain ⟨comp9, cA9, kA9, hcomp9, -, hkA9, hkind9, hname9⟩ := jo_spec hA
      have hnn : "[" ++ (FieldType.object "java/lang/Object").toString = arrN 1040 := by decide
      rw [hnn] at hname9
      cases u7.symm.trans hname9
      cases hk2.symm.trans hkA9
      rw [hkd2] at hkind9
      cases hkind9
      exact hcomp9
    intro T hT X
    obtain ⟨vm', X', step⟩ := X.arraycopy F.exec F.own (lk_of F hk w1.2) (jw F.tbl F.warm gw_cpN) (jw F.tbl F.warm gw_cpS) (jw F.tbl F.warm gw_cpI) (src := a) (dst := b) (cs := ce1) (cd := ce2) (srcPos := sp) (destPos := dp) (n := n) (by rw [hT]; exact g1) (by rw [hT]; exact u1)
      go1 go2 g3 u3 hk1 hk2 hkd1 hkd2 (by rw [htt]; rcases ht2 with rfl | rfl | rfl | rfl <;> decide) q1 q2 q3
      (by rw [i32_nn q1, i32_nn q3, hs1]; omega) (by rw [i32_nn q2, i32_nn q3, hs2]; omega)
      (fun vm₁ hal i hi => by
        have hlt : sp.toNatClampNeg + i < n1 := by omega
        rw [hv1 i hlt]
        have hvo := g5.2.2.2.2 _ hlt
        refine ⟨by rw [← htt]; exact hvo.1, ?_⟩
        cases hfv : f (sp.toNatClampNeg + i) with
        | ref x =>
          have e4 : t2 = 1040 := by
            have hf1 := hvo.1
            rw [hfv, htt] at hf1
            rcases ht2 with rfl | rfl | rfl | rfl
            · rfl
            · cases hf1
            · cases hf1
            · cases hf1
          obtain ⟨cx, c0, z1, z2, ⟨kx, z3⟩, z4, z5⟩ := hvo.2 (ht4.mpr e4) x hfv
          have hc0 := hcomp e4
          rw [F.warm.alike.findClass] at hc0
          cases z4.symm.trans hc0
          have hal0 : s0.vm.Alike vm₁ := F.warm.alike.trans hal
          obtain ⟨kx', z3', -⟩ := hal0.2.2 _ _ z3
          obtain ⟨kc, hkc, -⟩ := Vm.findClass_spec (hcomp e4)
          obtain ⟨kc', hkc', -⟩ := hal.2.2 _ _ hkc
          exact ⟨cx, (by show T.heap[x]? = _; rw [hT]; exact z1), (fun k hk9 => by rw [hk9] at z2; cases z2), ⟨kx', z3'⟩, ⟨kc', hkc'⟩, by show vm₁.assignable _ _ = true; rw [hal0.assignable]; exact z5⟩
        | _ => trivial)
      (g := F0 m pc ls st) rfl (C.lv.1.1.trans F.maxL.symm) (rest := rest) (by rw [hst]; rfl) (by rw [F.code]; exact hdg) hRf (by
        have := room20 hrl
        have hw : nativeFrameWords "java/lang/System" "arraycopy" 5 ≤ 30 := by decide +kernel
        show 2 * 0 + _ + _ ≤ _
        omega)
    have hb : b < H.size := (Array.getElem?_eq_some_iff.mp u1).1
    obtain ⟨f1, f2, f3, -, -⟩ := Cell.storePairs_facts ce2 dp.toNatClampNeg ((ce1.stretch sp.toNatClampNeg n.toNatClampNeg).zipIdx)
    generalize hcc : copied ce1 ce2 sp dp n = cc at X' step
    have hcc' : ce2.storePairs dp.toNatClampNeg ((ce1.stretch sp.toNatClampNeg n.toNatClampNeg).zipIdx) = cc := hcc
    rw [hcc'] at f1 f2 f3
    have hself : (H.setIfInBounds b cc)[b]? = some cc := by simp [hb]
    have hoth : ∀ q : Nat, q ≠ b → (H.setIfInBounds b cc)[q]? = H[q]? := fun q hq => by simp [Array.getElem?_setIfInBounds, Ne.symm hq]
    have hKp : Kp H (H.setIfInBounds b cc) := by
      intro x cx hx
      by_cases ex : x = b
      · subst ex
        cases u1.symm.trans hx
        exact ⟨cc, hself, f1, f2⟩
      · exact ⟨cx, (hoth x ex).trans hx, rfl, rfl⟩
    have hstl : (ce1.stretch sp.toNatClampNeg n.toNatClampNeg).length = n.toNatClampNeg := by simp [Cell.stretch]
    have hck : ck s0 s0.heap.size b (t2, n2, jcpy f g sp.toNatClampNeg dp.toNatClampNeg n.toNatClampNeg) (H.setIfInBounds b cc) := by
      refine ⟨cc, hself, by rw [f2]; exact u2, by rw [f2]; exact u3, fun z => by rw [f2]; exact u4 z, fun z => absurd z (by show ¬ t2 < 200; omega), fun _ => ⟨ht3, ⟨⟨fun k => by rw [f2]; exact u5.1.1 k, by rw [f1]; exact u5.1.2⟩, fun z => by rw [f1]; exact u5.2.1 z, by rw [f3]; exact hs2, fun i hi => ?_, fun i hi => ?_⟩⟩⟩
      · have hi' : i < n2 := hi
        rw [← hcc']
        show (ce2.storePairs dp.toNatClampNeg ((ce1.stretch sp.toNatClampNeg n.toNatClampNeg).zipIdx 0)).slots[i]? = _
        rw [storePairs_at dp.toNatClampNeg _ 0 ce2 (by rw [hstl, hs2]; omega) i, hstl]
        show _ = some (jcpy f g sp.toNatClampNeg dp.toNatClampNeg n.toNatClampNeg i)
        unfold jcpy
        by_cases hin : dp.toNatClampNeg ≤ i ∧ i < dp.toNatClampNeg + n.toNatClampNeg
        · rw [if_pos (by omega), if_pos hin]
          refine congrArg some ?_
          have hj : i - (dp.toNatClampNeg + 0) < n.toNatClampNeg := by omega
          rw [List.getD_eq_getElem?_getD]
          unfold Cell.stretch
          rw [List.getElem?_map, List.getElem?_range hj]
          exact hv1 _ (by omega)
        · rw [if_neg (by omega), if_neg hin]
          exact u5.2.2.2.1 i hi'
      · have hi' : i < n2 := hi
        show vOk s0 _ t2 (jcpy f g sp.toNatClampNeg dp.toNatClampNeg n.toNatClampNeg i)
        unfold jcpy
        by_cases hin : dp.toNatClampNeg ≤ i ∧ i < dp.toNatClampNeg + n.toNatClampNeg
        · rw [if_pos hin]
          have hvo := g5.2.2.2.2 (sp.toNatClampNeg + (i - dp.toNatClampNeg)) (by omega)
          exact vOk_kept hKp ⟨by rw [← htt]; exact hvo.1, fun z => hvo.2 (ht4.mpr (h104 z))⟩
        · rw [if_neg hin]
          exact vOk_kept hKp (u5.2.2.2.2 i hi')
    rcases hz with ⟨v, hv, -, rfl⟩ | ⟨ex, hv, -⟩
    · cases hv
      have hheap : ((T.setVm vm').setCell b cc).heap = H.setIfInBounds b cc := by rw [← hT]; rfl
      have hrest : ∀ w ∈ rest, okV w = true := fun w hw => C.ok w (by rw [hst]; exact List.mem_append_right _ hw)
      obtain ⟨t9, a1, b1⟩ := kI _ ls (H.setIfInBounds b cc) _ rfl ⟨RpH_set C.rp hmu hm2 hck (by simp) hoth hKp, C.lv, fun z hz => by
          rcases List.mem_append.mp hz with h9 | h9
          · exact C.fr z h9
          · obtain ⟨w, -, hw⟩ := List.mem_map.mp h9
            rw [← hw]
            exact (u4 hmu).2, hrest, C.gn, C.gm⟩ _ hheap X'
      exact ⟨t9, step t9 a1, b1⟩
    · cases hv
theorem sm_invokestatic (F : JF s0 args0 E p l R s m meth c y) {d : Nat} (IH : SimOK s0 E l d) (hRf : d + 11 ≤ R.frames) (hRl : 120 * (d + 11) ≤ R.locals) {idx : Nat} {z : Cf ⊕ (Out × AH)} (hs : exi (M d) y pc L st h len (.invokestatic idx) = some z) (hdg : decode (jtCode y) pc = .ok (.invokestatic idx, len)) (C : CF s0 E n0 m0 y h H L st ls locs) (hr : (zh z).1 - n0 ≤ R.cells ∧ (zh z).2.1 - m0 ≤ R.slots)
    (kI : ∀ (cf : Cf) (ls2 : Array Slot) (H2 : Heap) (locs2 : List Loc), z = .inl cf → CF s0 E n0 m0 y cf.2.2.2 H2 cf.2.1 cf.2.2.1 ls2 locs2 → W p l e R s m args below meth c H2 locs2 (cf.2.2.2.1 - n0) (cf.2.2.2.2.1 - m0) Q (F0 m cf.1 ls2 cf.2.2.1))
    (kX : ∀ (q : Nat) (h2 : AH) (pc : Nat) (ls : Array Slot) (rest : List Value) (H2 : Heap) (locs2 : List Loc), z = .inr (.inr q, h2) → (∀ x ∈ c.exceptionTable.toList, covers x pc = false) → RpH s0 E h2 H2 → (∀ z ∈ locs2, s0.heap.size ≤ z.base) → vx_W p l e R s m args below meth c H2 locs2 (h2.1 - n0) (h2.2.1 - m0) Q (F0 m pc ls rest) q) : W p l e R s m args below meth c H locs (h.1 - n0) (h.2.1 - m0) Q (F0 m pc ls st) := by
  obtain ⟨y2, as, rest, o, h3, hok, hst, hlen, hrl, htg, hM, hz⟩ := jcall_inl hs
  obtain ⟨hl, hok⟩ := and_inv hok
  have hl := Nat.eq_of_beq_eq_true hl
  subst hl
  have hk : jkey y idx ≠ 0 := fun z => by rw [z, jtC0z] at hok; cases hok
  have hG := gd_jtC (jkey y idx)
  have hzh := zh_of hz
  rw [hzh] at hr
  generalize hrr : jtC (jkey y idx) = r at hok hlen htg hz hG
  obtain ⟨r1, r2, r3, r4⟩ := r
  rcases hG with e | ⟨e, w1, w2, w3, w4, w5, w6⟩ | ⟨e, -⟩ | ⟨e, -⟩ | ⟨e, -⟩ | ⟨e, -⟩ | ⟨e, -⟩ | ⟨e, e2, -⟩ | ⟨e, e2, w1⟩
  · cases e; cases hok
  · have e : r1 = 0 := e
    subst e
    have ht : y2 = r2 := (Option.some.inj htg).symm
    subst ht
    refine sim_row F C hM hst hz (fun T hT X => ?_) kI kX
    exact jc_S X F.exec F.own (MLk_of F hk w2) (jw F.tbl F.warm w3) (jw F.tbl F.warm w4) (MF_of F w1) w5 (sim_back F IH hRf hRl hM w1.1 (as_ok C hst) w1) rfl (C.lv.1.1.trans F.maxL.symm) (len_of w6 hlen) hst (room20 hrl) (by rw [F.code]; exact hdg) (sim_pre F C hM hr hT)
  · have e : r1 = 4 := e
    subst e; cases hok
  · have e : r1 = 5 := e
    subst e; cases hok
  · have e : r1 = 1 := e
    subst e; cases hok
  · have e : r1 = 2 := e
    subst e; cases hok
  · have e : r1 = 6 := e
    subst e; cases hok
  · have e : r1 = 3 := e
    have e2 : r2 = 90000 := e2
    subst e; subst e2; cases hok
  · have e : r1 = 3 := e
    subst e
    exact prim_copy F (by omega) (by omega) hdg C hk hst hrl htg hM hz hok ⟨e2, w1⟩ kI
theorem rev_ref {a : Nat} {r rest : List Value} (hst : st = (Value.ref a :: r).reverse ++ rest) : st = r.reverse ++ .ref a :: rest := by
  rw [hst, List.reverse_cons, List.append_assoc]; rfl
theorem jtgt_face {r1 r2 r3 r4 y2 : Nat} {as : List Value} (hk : (Nat.beq r1 2 || Nat.beq r1 6) = true) (e : jtgt h (r1, r2, r3, r4) as = some y2) : ∃ a t n f r, as = .ref a :: r ∧ jm h a = some (t, n, f) ∧ y2 = jtV r2 t := by
  unfold jtgt at e
  rw [show (Nat.beq (r1, r2, r3, r4).1 2 || Nat.beq (r1, r2, r3, r4).1 6) = true from hk] at e
  simp only [cond_true] at e
  cases as with
  | nil => cases e
  | cons v r =>
    cases v with
    | ref a =>
      simp only [] at e
      cases hm : jm h a with
      | none => rw [hm] at e; cases e
      | some c9 =>
        obtain ⟨t, n, f⟩ := c9
        rw [hm] at e
        exact ⟨a, t, n, f, r, rfl, hm, (Option.some.inj e).symm⟩
    | _ => cases e
theorem jtV_in {d v t : Nat} {as : List Value} {o : Out} (hM : M d (jtV v t) as h = some (o, h2)) : ∃ q ∈ jtVr v, q.1 = t ∧ jtV v t = q.2 := by
  cases hf : (jtVr v).find? (fun q => Nat.beq q.1 t) with
  | none =>
    exfalso
    have e : jtV v t = 0 := by unfold jtV; rw [hf]
    rw [e] at hM
    obtain ⟨a, t', n, f, r, -, -, hm⟩ := recv_of_M hM (by decide) rfl
    exact absurd hm List.not_mem_nil
  | some q =>
    refine ⟨q, List.mem_of_find?_eq_some hf, Nat.eq_of_beq_eq_true (List.find?_some (p := fun q : Nat × Nat => Nat.beq q.1 t) hf), ?_⟩
    unfold jtV; rw [hf]
theorem sim_virt (F : JF s0 args0 E p l R s m meth c y) {d : Nat} (IH : SimOK s0 E l d) (hRf : d + 11 ≤ R.frames) (hRl : 120 * (d + 11) ≤ R.locals) {idx y2 t n k r4 : Nat} {f : Nat → Value} {a : Nat} {r rest : List Value} {o : Out} {h3 : AH} {z : Cf ⊕ (Out × AH)} (hdg : decode (jtCode y) pc = .ok (.invokevirtual idx, 3)) (C : CF s0 E n0 m0 y h H L st ls locs) (hr : h3.1 - n0 ≤ R.cells ∧ h3.2.1 - m0 ≤ R.slots) (hk : jkey y idx ≠ 0) (hst : st = (Value.ref a :: r).reverse ++ rest) (hrl : rest.length ≤ 10) (hm : jm h a = some (t, n, f)) (ht : t < 200) (hlen : r.length = k)
    (hM : M d y2 (.ref a :: r) h = some (o, h3)) (hz : (∃ v, o = .inl v ∧ okRet r4 v = true ∧ z = .inl (pc + 3, L, v.toList ++ rest, h3)) ∨ ∃ ex, o = .inr ex ∧ jthrow y pc L h3 ex = some z) (w : GcV (jkey y idx) (jtCls (t % 100)) y2 k)
    (kI : ∀ (cf : Cf) (ls2 : Array Slot) (H2 : Heap) (locs2 : List Loc), z = .inl cf → CF s0 E n0 m0 y cf.2.2.2 H2 cf.2.1 cf.2.2.1 ls2 locs2 → W p l e R s m args below meth c H2 locs2 (cf.2.2.2.1 - n0) (cf.2.2.2.2.1 - m0) Q (F0 m cf.1 ls2 cf.2.2.1))
    (kX : ∀ (q : Nat) (h2 : AH) (pc : Nat) (ls : Array Slot) (rest : List Value) (H2 : Heap) (locs2 : List Loc), z = .inr (.inr q, h2) → (∀ x ∈ c.exceptionTable.toList, covers x pc = false) → RpH s0 E h2 H2 → (∀ z ∈ locs2, s0.heap.size ≤ z.base) → vx_W p l e R s m args below meth c H2 locs2 (h2.1 - n0) (h2.2.1 - m0) Q (F0 m pc ls rest) q) : W p l e R s m args below meth c H locs (h.1 - n0) (h.2.1 - m0) Q (F0 m pc ls st) := by
  obtain ⟨ce, g1, g2, -, -, -, g6⟩ := obj_at F C.rp hm ht
  obtain ⟨-, wG, w⟩ := w
  have hB := sim_back (e := e) (below := below) (args := args) (len := 3) F IH hRf hRl hM wG.1 (as_ok C hst) wG
  refine sim_row F C hM hst hz (fun T hT X => ?_) kI kX
  rcases w with ⟨w1, w2, w3, w4, w5, w6⟩ | ⟨x, ow, w1, w2, w3, w4, w5, w6, w7, w8⟩
  · refine jc_V X F.exec F.own (MLk_of F hk w1) (jw F.tbl F.warm w2) (jw F.tbl F.warm w4) (MF_of F wG) w5 hB (by rw [hT]; exact g1) g2 ?_ rfl (C.lv.1.1.trans F.maxL.symm) (len_of w6 hlen) (rev_ref hst) (room20 hrl) (by rw [F.code]; exact hdg) (sim_pre F C hM hr hT)
    rcases w3 with w3 | ⟨w3, ow, nm, ds, w3'⟩
    · exact Or.inl ⟨_, jw F.tbl F.warm w3, g6⟩
    · exact Or.inr ⟨jw_P F.tbl F.warm w3, ow, nm, ds, jw F.tbl F.warm w3'⟩
  · have hD : va_Decl s ⟨ow, x.name, x.desc⟩ := by
      rcases w3 with ⟨y3, e3, w9, b9, m9, r9, w10⟩ | w9
      · rw [e3]; exact va_Decl.of (args := #[]) (jw F.tbl F.warm w9) (jw F.tbl F.warm w10)
      · exact va_Decl.abs (jw_D F.tbl F.warm w9)
    exact jc_VU X F.exec F.own (lk_of F hk w1) (jw F.tbl F.warm w2) hD w7 (jw F.tbl F.warm w4) (jw F.tbl F.warm w5) hB (by rw [hT]; exact g1) g2 g6 rfl (C.lv.1.1.trans F.maxL.symm) (len_of w8 hlen) (rev_ref hst) (room20 hrl) (by rw [F.code]; exact hdg) (sim_pre F C hM hr hT)
theorem sm_invokespecial (F : JF s0 args0 E p l R s m meth c y) {d : Nat} (IH : SimOK s0 E l d) (hRf : d + 11 ≤ R.frames) (hRl : 120 * (d + 11) ≤ R.locals) {idx : Nat} {z : Cf ⊕ (Out × AH)} (hs : exi (M d) y pc L st h len (.invokespecial idx) = some z) (hdg : decode (jtCode y) pc = .ok (.invokespecial idx, len)) (C : CF s0 E n0 m0 y h H L st ls locs) (hr : (zh z).1 - n0 ≤ R.cells ∧ (zh z).2.1 - m0 ≤ R.slots)
    (kI : ∀ (cf : Cf) (ls2 : Array Slot) (H2 : Heap) (locs2 : List Loc), z = .inl cf → CF s0 E n0 m0 y cf.2.2.2 H2 cf.2.1 cf.2.2.1 ls2 locs2 → W p l e R s m args below meth c H2 locs2 (cf.2.2.2.1 - n0) (cf.2.2.2.2.1 - m0) Q (F0 m cf.1 ls2 cf.2.2.1))
    (kX : ∀ (q : Nat) (h2 : AH) (pc : Nat) (ls : Array Slot) (rest : List Value) (H2 : Heap) (locs2 : List Loc), z = .inr (.inr q, h2) → (∀ x ∈ c.exceptionTable.toList, covers x pc = false) → RpH s0 E h2 H2 → (∀ z ∈ locs2, s0.heap.size ≤ z.base) → vx_W p l e R s m args below meth c H2 locs2 (h2.1 - n0) (h2.2.1 - m0) Q (F0 m pc ls rest) q) : W p l e R s m args below meth c H locs (h.1 - n0) (h.2.1 - m0) Q (F0 m pc ls st) := by
  obtain ⟨y2, as, rest, o, h3, hok, hst, hlen, hrl, htg, hM, hz⟩ := jcall_inl hs
  obtain ⟨hl, hok⟩ := and_inv hok
  have hl := Nat.eq_of_beq_eq_true hl
  subst hl
  have hk : jkey y idx ≠ 0 := fun z => by rw [z, jtC0z] at hok; cases hok
  have hG := gd_jtC (jkey y idx)
  have hzh := zh_of hz
  rw [hzh] at hr
  generalize hrr : jtC (jkey y idx) = r at hok hlen htg hz hG
  obtain ⟨r1, r2, r3, r4⟩ := r
  rcases hG with e | ⟨e, -⟩ | ⟨e, w⟩ | ⟨e, w⟩ | ⟨e, -⟩ | ⟨e, -⟩ | ⟨e, -⟩ | ⟨e, e2, w1⟩ | ⟨e, e2, -⟩
  · cases e; cases hok
  · have e : r1 = 0 := e
    subst e; cases hok
  · have e : r1 = 4 := e
    subst e
    have ht : y2 = r2 := (Option.some.inj htg).symm
    subst ht
    obtain ⟨wS, wG, w1, w2, w3, w4, w5, w6, w7, w8⟩ := w
    obtain ⟨a, t, n, f, r, rfl, hm, hrv⟩ := recv_of_M hM wG.1 wS
    obtain ⟨ce, g1, g2, -, -, -, g6⟩ := obj_at F C.rp hm (gd_jtRecv y2 t hrv)
    obtain ⟨kB, hkB, -⟩ := Vm.findClass_spec g6
    have hlen' : r.length = r3 := Nat.succ.inj hlen
    refine sim_row F C hM hst hz (fun T hT X => ?_) kI kX
    have hsup : (Cond.superclass (jtCls (y / 1000)) (jtY y2).cls).before args s = true := by
      obtain ⟨e1, e2⟩ := (jkey_or y idx).resolve_left hk
      rw [e1] at w3
      exact jw F.tbl F.warm w3
    exact jc_SU X F.exec F.own (lk_of F hk w1) (jw F.tbl F.warm w2) hsup (jw F.tbl F.warm w4) (MF_of F wG) w6 (sim_back F IH hRf hRl hM wG.1 (as_ok C hst) wG) (by rw [hT]; exact g1) g2 hkB rfl (C.lv.1.1.trans F.maxL.symm) (len_of w8 hlen') (rev_ref hst) (room20 hrl) (by rw [F.code]; exact hdg) (sim_pre F C hM hr hT)
  · have e : r1 = 5 := e
    subst e
    have ht : y2 = r2 := (Option.some.inj htg).symm
    subst ht
    obtain ⟨wS, ⟨wG, -, wC⟩, w1, w2, w3, w4, w5, w6⟩ := w
    obtain ⟨a, t, n, f, r, rfl, hm, hrv⟩ := recv_of_M hM wG.1 wS
    have hlen' : r.length = r3 := Nat.succ.inj hlen
    refine sim_row F C hM hst hz (fun T hT X => ?_) kI kX
    exact jc_I X F.exec F.own w2 (MLk_of F hk w1) (jw F.tbl F.warm w3) (jw F.tbl F.warm wC) w5 (sim_back F IH hRf hRl hM wG.1 (as_ok C hst) wG) rfl (C.lv.1.1.trans F.maxL.symm) (len_of w6 hlen') (rev_ref hst) (room20 hrl) (by rw [F.code]; exact hdg) (sim_pre F C hM hr hT)
  · have e : r1 = 1 := e
    subst e; cases hok
  · have e : r1 = 2 := e
    subst e; cases hok
  · have e : r1 = 6 := e
    subst e; cases hok
  · have e : r1 = 3 := e
    have e2 : r2 = 90000 := e2
    subst e; subst e2
    have hy2 : y2 = 90000 := (Option.some.inj htg).symm
    subst hy2
    cases d with
    | zero => cases hM
    | succ d =>
      have hM' : jprim 90000 as h = some (o, h3) := by rw [M, if_pos (by decide)] at hM; exact hM
      rcases as with _ | ⟨v1, as⟩
      · cases hM'
      cases v1 with
      | ref a =>
        rcases as with _ | ⟨v2, as⟩
        · have e9 : (some ((.inl none, h) : Out × AH)) = some (o, h3) := hM'
          simp only [Option.some.injEq, Prod.mk.injEq] at e9
          obtain ⟨rfl, rfl⟩ := e9
          rcases hz with ⟨v, hv, -, rfl⟩ | ⟨ex, hv, -⟩
          · cases hv
            have hrest : ∀ w ∈ rest, okV w = true := fun w hw => C.ok w (by rw [hst]; exact List.mem_append_right _ hw)
            refine W.objInit F.exec F.code F.own (lk_of F hk w1) (jw F.tbl F.warm gw_oiI) (jw F.tbl F.warm gw_oiC) rfl (C.lv.1.1.trans F.maxL.symm) (a := a) (rest := rest) (by rw [hst]; rfl) hdg (by omega) (by have := room20 hrl; show 2 * 0 + _ + _ ≤ _; omega) ?_
            exact kI _ ls H locs rfl (C.stk hrest)
          · cases hv
        · cases hM'
      | _ => cases hM'
  · have e : r1 = 3 := e
    subst e
    have e2 : r2 = 90001 ∨ r2 = 90002 ∨ r2 = 90003 := e2
    rcases e2 with rfl | rfl | rfl <;> cases hok
end SimD
