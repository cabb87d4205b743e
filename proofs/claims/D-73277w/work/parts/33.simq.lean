/-! THE SIMULATION, VIII: the whole run of a method -/
section SimH
variable {s0 : State} {args0 : Array Value} {E : Nat → Value} {p : Program} {l : Launch} {e : Env} {R : Room} {s : State} {m : MethodId} {args : Array Value} {below : List Frame} {meth : Method} {c : Code} {Q : State → Prop}
variable {y n0 m0 : Nat}
theorem sim_run (F : JF s0 args0 E p l R s m meth c y) {d : Nat} (IH : SimOK s0 E l d) (hRf : d + 11 ≤ R.frames) (hRl : 120 * (d + 11) ≤ R.locals) (kD : (Cond.landsInDefault "java/util/LinkedList" sortN sortN).before args s = true) {o : Out} {h' : AH} (hr : h'.1 - n0 ≤ R.cells ∧ h'.2.1 - m0 ≤ R.slots)
    (kG : ∀ {pc idx r3 r4 : Nat} {L st : List Value} {h : AH} {H : Heap} {ls : Array Slot} {locs : List Loc} {z : Cf ⊕ (Out × AH)}, jtC (jkey y idx) = (3, 90003, r3, r4) → exi (M d) y pc L st h 3 (.invokevirtual idx) = some z → decode (jtCode y) pc = .ok (.invokevirtual idx, 3) → CF s0 E n0 m0 y h H L st ls locs →
      (∀ (cf : Cf) (ls2 : Array Slot) (H2 : Heap) (locs2 : List Loc), z = .inl cf → CF s0 E n0 m0 y cf.2.2.2 H2 cf.2.1 cf.2.2.1 ls2 locs2 → W p l e R s m args below meth c H2 locs2 (cf.2.2.2.1 - n0) (cf.2.2.2.2.1 - m0) Q (F0 m cf.1 ls2 cf.2.2.1)) → W p l e R s m args below meth c H locs (h.1 - n0) (h.2.1 - m0) Q (F0 m pc ls st))
    (kN : ∀ {pc idx : Nat} {L : List Value} {h : AH} {H : Heap} {ls : Array Slot} {locs : List Loc}, (jtN (jkey y idx)).1 = 66 → chk66 y pc = true → decode (jtCode y) pc = .ok (.new idx, 3) → CF s0 E n0 m0 y h H L [] ls locs → o = .inr h.1 → h' = jpush h ((jtN (jkey y idx)).1, (jtN (jkey y idx)).2.1, jL (jtN (jkey y idx)).2.2) → W p l e R s m args below meth c H locs (h.1 - n0) (h.2.1 - m0) Q (F0 m pc ls []))
    (kR : ∀ {pc : Nat} {L st : List Value} {H : Heap} {ls : Array Slot} {locs : List Loc} (v : Option Value), o = .inl v → RetAt y pc st v → CF s0 E n0 m0 y h' H L st ls locs → W p l e R s m args below meth c H locs (h'.1 - n0) (h'.2.1 - m0) Q (F0 m pc ls st))
    (kX : ∀ {pc : Nat} {rest : List Value} {H : Heap} {ls : Array Slot} {locs : List Loc} (q : Nat), o = .inr q → (∀ x ∈ c.exceptionTable.toList, covers x pc = false) → RpH s0 E h' H → (∀ z ∈ locs, s0.heap.size ≤ z.base) → vx_W p l e R s m args below meth c H locs (h'.1 - n0) (h'.2.1 - m0) Q (F0 m pc ls rest) q) :
    ∀ (n pc : Nat) (L st : List Value) (h : AH) (H : Heap) (ls : Array Slot) (locs : List Loc), jrun (M d) y n (pc, L, st, h) = some (o, h') → CF s0 E n0 m0 y h H L st ls locs → W p l e R s m args below meth c H locs (h.1 - n0) (h.2.1 - m0) Q (F0 m pc ls st) := by
  intro n
  induction n with
  | zero => intro pc L st h H ls locs hj; cases hj
  | succ n ih =>
    intro pc L st h H ls locs hj C
    rw [jrun] at hj
    cases hs : stp (M d) y (pc, L, st, h) with
    | none => rw [hs] at hj; cases hj
    | some z =>
      rw [hs] at hj
      cases hd : decode (jtCode y) pc with
      | error x => simp only [stp, hd] at hs; cases hs
      | ok il =>
        obtain ⟨i, len⟩ := il
        simp only [stp, hd] at hs
        have kI : ∀ (cf : Cf) (ls2 : Array Slot) (H2 : Heap) (locs2 : List Loc), z = .inl cf → CF s0 E n0 m0 y cf.2.2.2 H2 cf.2.1 cf.2.2.1 ls2 locs2 → W p l e R s m args below meth c H2 locs2 (cf.2.2.2.1 - n0) (cf.2.2.2.2.1 - m0) Q (F0 m cf.1 ls2 cf.2.2.1) := by
          intro cf ls2 H2 locs2 hz C2
          subst hz
          obtain ⟨pc2, L2, st2, h2⟩ := cf
          exact ih pc2 L2 st2 h2 H2 ls2 locs2 hj C2
        have kX' : ∀ (q : Nat) (h2 : AH) (pc : Nat) (ls : Array Slot) (rest : List Value) (H2 : Heap) (locs2 : List Loc), z = .inr (.inr q, h2) → (∀ x ∈ c.exceptionTable.toList, covers x pc = false) → RpH s0 E h2 H2 → (∀ z ∈ locs2, s0.heap.size ≤ z.base) → vx_W p l e R s m args below meth c H2 locs2 (h2.1 - n0) (h2.2.1 - m0) Q (F0 m pc ls rest) q := by
          intro q h2 pc ls rest H2 locs2 hz hc hR hf
          subst hz
          have e9 : (some (Sum.inr q, h2) : Rz) = some (o, h') := hj
          simp only [Option.some.injEq, Prod.mk.injEq] at e9
          obtain ⟨rfl, rfl⟩ := e9
          exact kX q rfl hc hR hf
        have hzr : (zh z).1 - n0 ≤ R.cells ∧ (zh z).2.1 - m0 ≤ R.slots := by
          cases z with
          | inl cf =>
            obtain ⟨g1, g2⟩ : Grw cf.2.2.2 h' := jrun_gr (M_gr d) n cf (o, h') hj
            refine ⟨?_, ?_⟩
            · show cf.2.2.2.1 - n0 ≤ _; omega
            · show cf.2.2.2.2.1 - m0 ≤ _; omega
          | inr r =>
            obtain ⟨o2, h2⟩ := r
            have e9 : (some (o2, h2) : Rz) = some (o, h') := hj
            simp only [Option.some.injEq, Prod.mk.injEq] at e9
            obtain ⟨rfl, rfl⟩ := e9
            exact hr
        have kRet : (∃ v, z = .inr (.inl v, h) ∧ RetAt y pc st v) → W p l e R s m args below meth c H locs (h.1 - n0) (h.2.1 - m0) Q (F0 m pc ls st) := by
          rintro ⟨v, hz, hR⟩
          subst hz
          have e9 : (some (Sum.inl v, h) : Rz) = some (o, h') := hj
          simp only [Option.some.injEq, Prod.mk.injEq] at e9
          obtain ⟨rfl, rfl⟩ := e9
          exact kR v rfl hR C
        cases hsp : spc i with
        | false =>
          cases z with
          | inl cf =>
            obtain ⟨pc2, L2, st2, h2⟩ := cf
            exact sim_pure F hsp hs hd C hzr fun ls2 H2 locs2 C2 => kI _ ls2 H2 locs2 rfl C2
          | inr r => exact absurd hs (exi_noR hsp r)
        | true =>
          cases i with
          | ireturn => exact kRet (ret_i hs hd)
          | lreturn => exact kRet (ret_l hs hd)
          | areturn => exact kRet (ret_a hs hd)
          | return_ => exact kRet (ret_v hs hd)
          | athrow => exact sim_athrow F hs hd C kI kX'
          | new idx =>
            by_cases h66 : (jtN (jkey y idx)).1 = 66
            · obtain ⟨rfl, rfl, hc, rfl⟩ := new66 h66 hs
              have e9 : (some (Sum.inr h.1, jpush h ((jtN (jkey y idx)).1, (jtN (jkey y idx)).2.1, jL (jtN (jkey y idx)).2.2)) : Rz) = some (o, h') := hj
              simp only [Option.some.injEq, Prod.mk.injEq] at e9
              exact kN h66 hc hd C e9.1.symm e9.2.symm
            · cases z with
              | inl cf =>
                obtain ⟨pc2, L2, st2, h2⟩ := cf
                exact sm_new F h66 hs hd C hzr fun ls2 H2 locs2 C2 => kI _ ls2 H2 locs2 rfl C2
              | inr r =>
                exfalso
                obtain ⟨-, q⟩ := gd_inl hs
                unfold jnew at q
                rw [if_neg h66] at q
                by_cases h0 : (jtN (jkey y idx)).1 = 0
                · rw [if_pos h0] at q; cases q
                · rw [if_neg h0] at q
                  exact NoR_nx _ q
          | invokestatic idx => exact sm_invokestatic F IH hRf hRl hs hd C hzr kI kX'
          | invokespecial idx => exact sm_invokespecial F IH hRf hRl hs hd C hzr kI kX'
          | invokevirtual idx =>
            refine sm_invokevirtual F IH hRf hRl (fun r3 r4 hk => ?_) hs hd C hzr kI kX'
            have hl : len = 3 := by
              obtain ⟨hok, -⟩ := gd_inl hs
              obtain ⟨hok, -⟩ := and_inv hok
              obtain ⟨hok, -⟩ := and_inv hok
              obtain ⟨hok, -⟩ := and_inv hok
              exact Nat.eq_of_beq_eq_true hok
            subst hl
            exact kG hk hs hd C kI
          | invokeinterface idx cnt => exact sm_invokeinterface F IH hRf hRl kD hs hd C hzr kI kX'
          | _ => cases hsp
end SimH
