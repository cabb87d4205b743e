/-! THE SIMULATION, IX: every method, at every depth -/
/-- what is owed for Unsafe.getLong and for 'throw new NoSuchElementException()' -/
def OwG (s0 : State) (args0 : Array Value) (E : Nat → Value) : Prop :=
  ∀ {p : Program} {l : Launch} {e : Env} {R : Room} {s : State} {m : MethodId} {args : Array Value} {below : List Frame} {meth : Method} {c : Code} {Q : State → Prop} {y n0 m0 d pc idx r3 r4 : Nat} {L st : List Value} {h : AH} {H : Heap} {ls : Array Slot} {locs : List Loc} {z : Cf ⊕ (Out × AH)},
    JF s0 args0 E p l R s m meth c y → d + 11 ≤ R.frames → 120 * (d + 11) ≤ R.locals → jtC (jkey y idx) = (3, 90003, r3, r4) → exi (M d) y pc L st h 3 (.invokevirtual idx) = some z → decode (jtCode y) pc = .ok (.invokevirtual idx, 3) → CF s0 E n0 m0 y h H L st ls locs →
      (∀ (cf : Cf) (ls2 : Array Slot) (H2 : Heap) (locs2 : List Loc), z = .inl cf → CF s0 E n0 m0 y cf.2.2.2 H2 cf.2.1 cf.2.2.1 ls2 locs2 → W p l e R s m args below meth c H2 locs2 (cf.2.2.2.1 - n0) (cf.2.2.2.2.1 - m0) Q (F0 m cf.1 ls2 cf.2.2.1)) → W p l e R s m args below meth c H locs (h.1 - n0) (h.2.1 - m0) Q (F0 m pc ls st)
def OwN (s0 : State) (args0 : Array Value) (E : Nat → Value) : Prop :=
  ∀ {p : Program} {l : Launch} {e : Env} {R : Room} {s : State} {m : MethodId} {args : Array Value} {below : List Frame} {meth : Method} {c : Code} {y n0 m0 d pc idx mc ms : Nat} {L : List Value} {h : AH} {H : Heap} {ls : Array Slot} {locs : List Loc} {Qc : Array Value → State → Outcome → State → Prop},
    JF s0 args0 E p l R s m meth c y → d + 11 ≤ R.frames → 120 * (d + 11) ≤ R.locals → h.1 + 1 - n0 ≤ mc → h.2.1 + (jtN (jkey y idx)).2.1 - m0 ≤ ms → mc ≤ R.cells → ms ≤ R.slots → (jtN (jkey y idx)).1 = 66 → chk66 y pc = true → decode (jtCode y) pc = .ok (.new idx, 3) → CF s0 E n0 m0 y h H L [] ls locs →
      W p l e R s m args below meth c H locs (h.1 - n0) (h.2.1 - m0) (jx_MQ below Qc (XCO s0 E (.inr h.1) (jpush h ((jtN (jkey y idx)).1, (jtN (jkey y idx)).2.1, jL (jtN (jkey y idx)).2.2))) args s mc ms (frO s0)) (F0 m pc ls [])
theorem pure_JF {s0 : State} {args0 : Array Value} {E : Nat → Value} {p : Program} {l : Launch} {R : Room} {s : State} {m : MethodId} {args : Array Value} {meth : Method} {c : Code} {y : Nat} {w : Cond} (hT : ∀ w ∈ lw_tbl, w.before args0 s0 = true) (hE : EnvOk s0 E) (hl : l.stackTraces = false) (hW : s0.WarmedH s.vm) (hx : p.tables.exec = Jvm.exec) (hn : s.methodNamed? (jtY y) = some m) (hm : s.vm.method? m = some meth) (hc : meth.code = some c) (hb : c.code = jtCode y) (hr : meth.sig.returnType = jtRet y) (hk : meth.locks = false) (hL : c.maxLocals = jtML y) (hw : WordOf y w) (hp : w.before args s = true) : JF s0 args0 E p l R s m meth c y := by
  refine ⟨hT, hE, hW, hx, hb, hL, findClass_of_methodNamed hn, Or.inr (name_of_methodNamed hn hm).1, hr, hk, ?_, hl⟩
  rcases hw with ⟨hh, rfl⟩ | rfl
  · obtain ⟨meth9, c9, h1, h2, -, -, -, -, h7, -⟩ := Cond.code_spec hn hp
    cases Option.some.inj (h1.symm.trans hm)
    cases Option.some.inj (h2.symm.trans hc)
    rw [hh, Array.isEmpty_iff.mp h7]
    rfl
  · obtain ⟨m9, meth9, c9, hn9, h1, h2, -, -, h6, -⟩ := Cond.codeWith_spec hp
    cases Option.some.inj (hn9.symm.trans hn)
    cases Option.some.inj (h1.symm.trans hm)
    cases Option.some.inj (h2.symm.trans hc)
    rw [← h6, table_eq]
theorem sim_ok {s0 : State} {args0 : Array Value} {E : Nat → Value} {l : Launch} (hT : ∀ w ∈ lw_tbl, w.before args0 s0 = true) (hE : EnvOk s0 E) (hl : l.stackTraces = false) (hDc : (Cond.declares sortN).before args0 s0 = true) (hLD : (Cond.landsInDefault "java/util/LinkedList" sortN sortN).before args0 s0 = true) (gG : OwG s0 args0 E) (gN : OwN s0 args0 E) : ∀ d, SimOK s0 E l d := by
  intro d
  induction d with
  | zero => intro y as h o h2 w hM; cases hM
  | succ d ih =>
    intro y as h o h2 w hM hy hok hw hwl hp
    rw [M, if_neg (by omega)] at hM
    by_cases hg : jrecv y as h = true ∧ (jent y as).length = jtML y
    · rw [if_pos hg] at hM
      obtain ⟨n, hn⟩ := jlim_ex hM
      have hgr : Grw h h2 := jrun_gr (M_gr d) n (0, jent y as, [], h) (o, h2) hn
      refine jx_ofBody (code := jtCode y) (maxLocals := jtML y) (ret := jtRet y) hp ?_ ?_
      · intro args s m hpre hnm
        have hw1 := atoms_spec (ws := w :: lw_all) hpre w List.mem_cons_self
        rcases hw with ⟨-, rfl⟩ | rfl
        · obtain ⟨meth, c, h1, h2, h3, h4, h5, h6, -, -⟩ := Cond.code_spec hnm hw1
          exact ⟨meth, c, h1, h2, h3, h4, h5, h6⟩
        · obtain ⟨m9, meth, c, hn9, h1, h2, h3, h4, -, h5, h6, -⟩ := Cond.codeWith_spec hw1
          cases hnm.symm.trans hn9
          exact ⟨meth, c, h1, h2, h3, h4, h5, h6⟩
      · intro p e s m args below meth c s₁ hx hnm hpre hm hb hr hk hh hS hL hP
        obtain ⟨ha, hR, hW⟩ := hP
        subst ha
        have hw1 := atoms_spec (ws := w :: lw_all) hpre w List.mem_cons_self
        have F : JF s0 args0 E p l (rmO (d + 1) (h2.1 - h.1) (h2.2.1 - h.2.1)) s m meth c y := pure_JF hT hE hl hW hx hnm hm hS.code hb hr hk hL hw hw1
        have kD : (Cond.landsInDefault "java/util/LinkedList" sortN sortN).before as.toArray s = true := jw_LD hW (by decide) hDc hLD
        have C : CF s0 E h.1 h.2.1 y h s.heap (jent y as) [] ((lg_sl as ++ List.replicate (jtML y - (lg_sl as).length) Slot.unset).toArray) [] := ⟨hR, LVr_entry hok hg.2, fun _ q => absurd q List.not_mem_nil, fun _ q => absurd q List.not_mem_nil, Nat.le_refl _, Nat.le_refl _⟩
        have hRun := sim_run (e := e) (below := below) (args := as.toArray) (Q := jx_MQ below (QcO s0 E o h2) (XCO s0 E o h2) as.toArray s (h2.1 - h.1) (h2.2.1 - h.2.1) (frO s0)) F ih (Nat.le_refl _) (Nat.le_refl _) kD (o := o) (h' := h2) (n0 := h.1) (m0 := h.2.1) ⟨Nat.le_refl _, Nat.le_refl _⟩
          (fun hk9 hs9 hd9 C9 kI9 => gG F (Nat.le_refl _) (Nat.le_refl _) hk9 hs9 hd9 C9 kI9)
          (fun h66 hc9 hd9 C9 ho hh9 => by
            subst ho
            subst hh9
            exact gN F (Nat.le_refl _) (Nat.le_refl _) (Nat.le_refl _) (Nat.le_refl _) (Nat.le_refl _) (Nat.le_refl _) h66 hc9 hd9 C9)
          (fun v ho hR9 C9 => by
            subst ho
            exact sim_ret F hR9 C9)
          (fun q ho hc9 hR9 hf9 => by
            subst ho
            exact jx_out hc9 hk (fun t ht _ => ⟨rfl, by rw [ht]; exact hR9⟩) hf9 (Nat.le_refl _) (Nat.le_refl _))
          n 0 (jent y as) [] h s.heap _ [] hn C
        rw [Nat.sub_self, Nat.sub_self] at hRun
        obtain ⟨t, st, o9, b1, b2, b3⟩ := hRun s₁ hh hS
        refine ⟨t, o9, ?_, b1, b2, b3⟩
        rw [lg_entry_eq]
        exact st
    · rw [if_neg hg] at hM; cases hM
