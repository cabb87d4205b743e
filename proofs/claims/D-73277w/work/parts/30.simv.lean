/-! THE SIMULATION, V: virtual and interface calls -/
theorem tr_w {u U : State} {c : Cond} (hc : c.onTables = true) {A A' : Array Value} (h : c.before A (u.setVm U.vm) = true) : c.before A' U = true := by
  have e := Cond.onTables_vm (A := A) (A' := A') (U := u) (U' := U) U.vm c hc
  have hU : U.setVm U.vm = U := rfl
  rw [hU] at e
  rw [← e]
  exact h
theorem jw_IM {s0 s : State} {args0 args : Array Value} (hT : ∀ w ∈ lw_tbl, w.before args0 s0 = true) (hW : s0.WarmedH s.vm) {x : MethodName} (hx : x.cls ≠ "java/lang/invoke/MethodHandle" ∧ x.cls ≠ "java/lang/invoke/VarHandle") (h1 : Cond.declares x ∈ lw_tbl) (h2 : Cond.interfaceMethod x.cls x.cls x.name x.desc ∈ lw_tbl) : (Cond.interfaceMethod x.cls x.cls x.name x.desc).before args s = true := by
  obtain ⟨r, meth, hn, -⟩ := Cond.declares_spec (hT _ h1)
  exact tr_w rfl (by rw [Cond.interfaceMethod_setVm hW.alike (r := r) hn hx]; exact hT _ h2)
theorem jw_PM {s0 s : State} {args0 args : Array Value} (hT : ∀ w ∈ lw_tbl, w.before args0 s0 = true) (hW : s0.WarmedH s.vm) {x : MethodName} (h1 : Cond.publicMethod x ∈ lw_tbl) : (Cond.publicMethod x).before args s = true :=
  tr_w rfl (by rw [Cond.publicMethod_setVm hW.alike]; exact hT _ h1)
theorem jw_LD {s0 s : State} {args0 args : Array Value} (hW : s0.WarmedH s.vm) {C : String} {x y : MethodName} (hx : x.cls ≠ "java/lang/invoke/MethodHandle" ∧ x.cls ≠ "java/lang/invoke/VarHandle") (hd : (Cond.declares x).before args0 s0 = true) (h : (Cond.landsInDefault C x y).before args0 s0 = true) : (Cond.landsInDefault C x y).before args s = true := by
  obtain ⟨r, meth, hn, -⟩ := Cond.declares_spec hd
  have h1 : (Cond.landsInDefault C x y).before args (s0.setVm s.vm) = true := by
    rw [Cond.landsInDefault_setVm (args := args0) hW.alike (State.methodFound?_setVm_of_named hW.alike hn hx)]; exact h
  exact h1
section SimE
variable {s0 : State} {args0 : Array Value} {E : Nat → Value} {p : Program} {l : Launch} {e : Env} {R : Room} {s : State} {m : MethodId} {args : Array Value} {below : List Frame} {meth : Method} {c : Code} {Q : State → Prop}
variable {call : Cll} {y pc pc2 len n0 m0 : Nat} {L L2 st st2 : List Value} {h h2 : AH} {H : Heap} {ls : Array Slot} {locs : List Loc}
theorem sm_invokevirtual (F : JF s0 args0 E p l R s m meth c y) {d : Nat} (IH : SimOK s0 E l d) (hRf : d + 11 ≤ R.frames) (hRl : 120 * (d + 11) ≤ R.locals) {idx : Nat} {z : Cf ⊕ (Out × AH)} (kG : ∀ r3 r4, jtC (jkey y idx) = (3, 90003, r3, r4) → W p l e R s m args below meth c H locs (h.1 - n0) (h.2.1 - m0) Q (F0 m pc ls st)) (hs : exi (M d) y pc L st h len (.invokevirtual idx) = some z) (hdg : decode (jtCode y) pc = .ok (.invokevirtual idx, len)) (C : CF s0 E n0 m0 y h H L st ls locs) (hr : (zh z).1 - n0 ≤ R.cells ∧ (zh z).2.1 - m0 ≤ R.slots)
    (kI : ∀ (cf : Cf) (ls2 : Array Slot) (H2 : Heap) (locs2 : List Loc), z = .inl cf → CF s0 E n0 m0 y cf.2.2.2 H2 cf.2.1 cf.2.2.1 ls2 locs2 → W p l e R s m args below meth c H2 locs2 (cf.2.2.2.1 - n0) (cf.2.2.2.2.1 - m0) Q (F0 m cf.1 ls2 cf.2.2.1))
    (kX : ∀ (q : Nat) (h2 : AH) (pc : Nat) (ls : Array Slot) (rest : List Value) (H2 : Heap) (locs2 : List Loc), z = .inr (.inr q, h2) → (∀ x ∈ c.exceptionTable.toList, covers x pc = false) → RpH s0 E h2 H2 → (∀ z ∈ locs2, s0.heap.size ≤ z.base) → vx_W p l e R s m args below meth c H2 locs2 (h2.1 - n0) (h2.2.1 - m0) Q (F0 m pc ls rest) q) : W p l e R s m args below meth c H locs (h.1 - n0) (h.2.1 - m0) Q (F0 m pc ls st) := by
  obtain ⟨y2, as, rest, o, h3, hok, hst, hlen, hrl, htg, hM, hz⟩ := jcall_inl hs
  obtain ⟨hl, hok⟩ := and_inv hok
  have hl := Nat.eq_of_beq_eq_true hl
  subst hl
  have hk : jkey y idx ≠ 0 := fun z => by rw [z, jtC0z] at hok; cases hok
  have hG := gd_jtC (jkey y idx)
  have hS1 := gd_S1 (jkey y idx)
  have hzh := zh_of hz
  rw [hzh] at hr
  generalize hrr : jtC (jkey y idx) = r at hok hlen htg hz hG hS1
  obtain ⟨r1, r2, r3, r4⟩ := r
  rcases hG with e9 | ⟨e9, -⟩ | ⟨e9, -⟩ | ⟨e9, -⟩ | ⟨e9, w⟩ | ⟨e9, w⟩ | ⟨e9, -⟩ | ⟨e9, e2, -⟩ | ⟨e9, e2, w1⟩
  · cases e9; cases hok
  · have e9 : r1 = 0 := e9
    subst e9; cases hok
  · have e9 : r1 = 4 := e9
    subst e9; cases hok
  · have e9 : r1 = 5 := e9
    subst e9; cases hok
  · have e9 : r1 = 1 := e9
    subst e9
    have ht : y2 = r2 := (Option.some.inj htg).symm
    subst ht
    have hy2 : y2 < 90000 := (hS1 rfl).2
    obtain ⟨a, t, n, f, r, rfl, hm, hrv⟩ := recv_of_M hM hy2 (hS1 rfl).1
    exact sim_virt F IH hRf hRl hdg C hr hk hst hrl hm (gd_jtRecv y2 t hrv) (Nat.succ.inj hlen) hM hz (w t hrv) kI kX
  · have e9 : r1 = 2 := e9
    subst e9
    obtain ⟨a, t, n, f, r, rfl, hm, rfl⟩ := jtgt_face rfl htg
    obtain ⟨q, hq1, rfl, hq3⟩ := jtV_in hM
    rw [hq3] at hM
    exact sim_virt F IH hRf hRl hdg C hr hk hst hrl hm (gd_jtVr r2 q hq1) (Nat.succ.inj hlen) hM hz (w q hq1) kI kX
  · have e9 : r1 = 6 := e9
    subst e9; cases hok
  · have e9 : r1 = 3 := e9
    have e2 : r2 = 90000 := e2
    subst e9; subst e2; cases hok
  · have e9 : r1 = 3 := e9
    subst e9
    have e2 : r2 = 90001 ∨ r2 = 90002 ∨ r2 = 90003 := e2
    rcases e2 with rfl | rfl | rfl
    · cases hok
    · have hy2 : y2 = 90002 := (Option.some.inj htg).symm
      subst hy2
      cases d with
      | zero => cases hM
      | succ d =>
        have hM' : jprim 90002 as h = some (o, h3) := by rw [M, if_pos (by decide)] at hM; exact hM
        rcases as with _ | ⟨v1, as⟩
        · cases hM'
        cases v1 with
        | ref a =>
          rcases as with _ | ⟨v2, as⟩
          · cases hm : jm h a with
            | none => simp only [jprim, hm] at hM'; cases hM'
            | some c9 =>
              obtain ⟨t, n, f⟩ := c9
              simp only [jprim, hm] at hM'
              by_cases ht : t = 1040 ∨ t = 1041
              · rw [if_pos ht] at hM'
                simp only [Option.some.injEq, Prod.mk.injEq] at hM'
                obtain ⟨rfl, rfl⟩ := hM'
                obtain ⟨ce, g1, g2, -, -, -, -, g7⟩ := arr_at F C.rp hm (by rcases ht with rfl | rfl <;> decide)
                have g8 : s.vm.findClass "[Ljava/lang/Object;" = some ce.cls := by rcases ht with rfl | rfl <;> exact g7 (by decide)
                obtain ⟨mi, hE, hMi⟩ := F.env.2.2.2
                have hje : je h 47 = .ref mi := by rw [C.rp.2.2.2.1]; exact hE
                rcases hz with ⟨v, hv, -, rfl⟩ | ⟨ex, hv, -⟩
                · have hv' : v = some (.ref mi) := by rw [hje] at hv; exact (Sum.inl.inj hv).symm
                  subst hv'
                  have hrest : ∀ w ∈ rest, okV w = true := fun w hw => C.ok w (by rw [hst]; exact List.mem_append_right _ hw)
                  rw [show st = .ref a :: rest by rw [hst]; rfl]
                  exact va_getC F.exec F.code (F.maxL.trans C.lv.1.1.symm) F.own (lk_of F hk w1) (va_any rfl (jw_D F.tbl F.warm gw_gcD)) (jw F.tbl F.warm gw_gcS) (jw F.tbl F.warm gw_gcI) (jw F.tbl F.warm gw_gcN) (va_Mi.moved F.warm.alike hMi) ⟨ce, g1, g2, g8⟩ (by omega) (by have := room20 hrl; omega) hdg (kI _ ls H locs rfl (C.stk (okc rfl hrest)))
                · cases hv
              · rw [if_neg ht] at hM'; cases hM'
          · cases hM'
        | _ => cases hM'
    · exact kG r3 r4 hrr
theorem sm_invokeinterface (F : JF s0 args0 E p l R s m meth c y) {d : Nat} (IH : SimOK s0 E l d) (hRf : d + 11 ≤ R.frames) (hRl : 120 * (d + 11) ≤ R.locals) {idx cnt : Nat} {z : Cf ⊕ (Out × AH)} (kD : (Cond.landsInDefault "java/util/LinkedList" sortN sortN).before args s = true) (hs : exi (M d) y pc L st h len (.invokeinterface idx cnt) = some z) (hdg : decode (jtCode y) pc = .ok (.invokeinterface idx cnt, len)) (C : CF s0 E n0 m0 y h H L st ls locs) (hr : (zh z).1 - n0 ≤ R.cells ∧ (zh z).2.1 - m0 ≤ R.slots)
    (kI : ∀ (cf : Cf) (ls2 : Array Slot) (H2 : Heap) (locs2 : List Loc), z = .inl cf → CF s0 E n0 m0 y cf.2.2.2 H2 cf.2.1 cf.2.2.1 ls2 locs2 → W p l e R s m args below meth c H2 locs2 (cf.2.2.2.1 - n0) (cf.2.2.2.2.1 - m0) Q (F0 m cf.1 ls2 cf.2.2.1))
    (kX : ∀ (q : Nat) (h2 : AH) (pc : Nat) (ls : Array Slot) (rest : List Value) (H2 : Heap) (locs2 : List Loc), z = .inr (.inr q, h2) → (∀ x ∈ c.exceptionTable.toList, covers x pc = false) → RpH s0 E h2 H2 → (∀ z ∈ locs2, s0.heap.size ≤ z.base) → vx_W p l e R s m args below meth c H2 locs2 (h2.1 - n0) (h2.2.1 - m0) Q (F0 m pc ls rest) q) : W p l e R s m args below meth c H locs (h.1 - n0) (h.2.1 - m0) Q (F0 m pc ls st) := by
  obtain ⟨y2, as, rest, o, h3, hok, hst, hlen, hrl, htg, hM, hz⟩ := jcall_inl hs
  obtain ⟨hl, hok⟩ := and_inv hok
  have hl := Nat.eq_of_beq_eq_true hl
  subst hl
  have hk : jkey y idx ≠ 0 := fun z => by rw [z, jtC0z] at hok; cases hok
  have hG := gd_jtC (jkey y idx)
  have hS1 := gd_S1 (jkey y idx)
  have hzh := zh_of hz
  rw [hzh] at hr
  generalize hrr : jtC (jkey y idx) = r at hok hlen htg hz hG hS1
  obtain ⟨r1, r2, r3, r4⟩ := r
  have e6 : r1 = 6 := Nat.eq_of_beq_eq_true hok
  subst e6
  rcases hG with e9 | ⟨e9, -⟩ | ⟨e9, -⟩ | ⟨e9, -⟩ | ⟨e9, -⟩ | ⟨e9, -⟩ | ⟨-, hall⟩ | ⟨e9, -⟩ | ⟨e9, -⟩
  · cases e9
  · cases e9
  · cases e9
  · cases e9
  · cases e9
  · cases e9
  · obtain ⟨a, t, n, f, r, rfl, hm, rfl⟩ := jtgt_face rfl htg
    obtain ⟨q, hq1, rfl, hq3⟩ := jtV_in hM
    rw [hq3] at hM
    have ht : q.1 < 200 := gd_jtVr r2 q hq1
    obtain ⟨ce, g1, g2, -, -, -, g6⟩ := obj_at F C.rp hm ht
    obtain ⟨kB, hkB, -⟩ := Vm.findClass_spec g6
    have hlen' : r.length = r3 := Nat.succ.inj hlen
    refine sim_row F C hM hst hz (fun T hT X => ?_) kI kX
    rcases hall q hq1 with ⟨wG, x, w1, w2, w3, w4, w5, w6, w7, w8, w9, w10, w11⟩ | ⟨wG, ⟨w0, w0'⟩, w1, w2, w3, w5, w6, w8, w11⟩
    · have hI := jw_I F.tbl F.warm w10 w2 w3 w6 w7 w8
      exact jc_IF X F.exec F.own (lk_of F hk w1) (va_any rfl hI.1) (va_any rfl hI.2.1) (Or.inl ⟨jw F.tbl F.warm w4, va_any rfl hI.2.2.2.1⟩) (jw F.tbl F.warm w5) (va_any rfl hI.2.2.1) (va_any rfl hI.2.2.2.2) w10
        (sim_back F IH hRf hRl hM wG.1 (as_ok C hst) wG) (by rw [hT]; exact g1) g2 g6 hkB rfl (C.lv.1.1.trans F.maxL.symm) (len_of w11 hlen') (rev_ref hst) (room20 hrl) (by rw [F.code]; exact hdg) (sim_pre F C hM hr hT)
    · have hB := sim_back (e := e) (below := below) (args := args) (len := 5) F IH hRf hRl hM wG.1 (as_ok C hst) wG
      rw [w0] at hB w5 w6
      rw [w0'] at w8
      rw [w0'] at g6
      exact jc_IF X F.exec F.own (lk_of F hk w1) (va_any rfl (jw_D F.tbl F.warm w2)) (jw_IM F.tbl F.warm (by decide) w2 w3) (Or.inr kD) (jw F.tbl F.warm w5) (jw_PM F.tbl F.warm w6) (va_any rfl (jw_C F.tbl F.warm w8)) (by decide)
        hB (by rw [hT]; exact g1) g2 g6 hkB rfl (C.lv.1.1.trans F.maxL.symm) (len_of w11 hlen') (rev_ref hst) (room20 hrl) (by rw [F.code]; exact hdg) (sim_pre F C hM hr hT)
  · cases e9
  · cases e9
end SimE
