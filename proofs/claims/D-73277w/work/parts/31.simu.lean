/-! THE SIMULATION, VI: any instruction -/
def NoR (r : Rs) : Prop := ∀ x, r ≠ some (.inr x)
theorem NoR_none : NoR none := fun x hx => nomatch hx
theorem NoR_nx {pc : Nat} {L st : List Value} {h : AH} : NoR (nx pc L st h) := fun x hx => by
  have hx' : (some (.inl (pc, L, st, h)) : Rs) = some (.inr x) := hx
  cases hx'
theorem NoR_gd {b : Bool} {r : Rs} (h : NoR r) : NoR (gd b r) := by cases b <;> first | exact NoR_none | exact h
theorem NoR_bif {b : Bool} {r r' : Rs} (h : NoR r) (h' : NoR r') : NoR (bif b then r else r') := by cases b <;> assumption
theorem NoR_sA {st : List Value} {κ : Value → List Value → Rs} (h : ∀ v r, NoR (κ v r)) : NoR (sA st κ) := by cases st <;> first | exact NoR_none | exact h _ _
theorem NoR_sI {st : List Value} {κ : Int32 → List Value → Rs} (h : ∀ v r, NoR (κ v r)) : NoR (sI st κ) := fun x hx => by
  obtain ⟨v, r, -, q⟩ := sI_inl hx
  exact h v r x q
theorem NoR_sJ {st : List Value} {κ : Int64 → List Value → Rs} (h : ∀ v r, NoR (κ v r)) : NoR (sJ st κ) := fun x hx => by
  obtain ⟨v, r, -, q⟩ := sJ_inl hx
  exact h v r x q
theorem NoR_sR {st : List Value} {κ : Value → List Value → Rs} (h : ∀ v r, NoR (κ v r)) : NoR (sR st κ) := fun x hx => by
  obtain ⟨v, r, -, -, q⟩ := sR_inl hx
  exact h v r x q
theorem NoR_rI {v : Value} {κ : Int32 → Rs} (h : ∀ v, NoR (κ v)) : NoR (rI v κ) := fun x hx => by
  obtain ⟨v, -, q⟩ := rI_inl hx
  exact h v x q
theorem NoR_rJ {v : Value} {κ : Int64 → Rs} (h : ∀ v, NoR (κ v)) : NoR (rJ v κ) := fun x hx => by
  obtain ⟨v, -, q⟩ := rJ_inl hx
  exact h v x q
theorem NoR_rR {v : Value} {κ : Value → Rs} (h : ∀ v, NoR (κ v)) : NoR (rR v κ) := fun x hx => by
  obtain ⟨-, q⟩ := rR_inl hx
  exact h v x q
theorem NoR_pF {h : AH} {o v : Value} {T : List Nat} {k tc : Nat} {κ : AH → Rs} (hh : ∀ v, NoR (κ v)) : NoR (pF h o T k tc v κ) := fun x hx => by
  obtain ⟨a, t, n, f, -, -, -, -, -, q⟩ := pF_inl hx
  exact hh _ x q
theorem NoR_aG {h : AH} {o : Value} {T : List Nat} {i : Int32} {κ : Value → Rs} (hh : ∀ v, NoR (κ v)) : NoR (aG h o T i κ) := fun x hx => by
  obtain ⟨a, t, n, f, -, -, -, -, q⟩ := aG_inl hx
  exact hh _ x q
theorem NoR_aS {h : AH} {o v : Value} {T : List Nat} {i : Int32} {κ : AH → Rs} (hh : ∀ v, NoR (κ v)) : NoR (aS h o T i v κ) := fun x hx => by
  obtain ⟨a, t, n, f, -, -, -, -, q⟩ := aS_inl hx
  exact hh _ x q
theorem NoR_aL {h : AH} {o : Value} {κ : Int32 → Rs} (hh : ∀ v, NoR (κ v)) : NoR (aL h o κ) := fun x hx => by
  obtain ⟨a, t, n, f, -, -, -, q⟩ := aL_inl hx
  exact hh _ x q
theorem NoR_jgo {pc : Nat} {off : Int} {L st : List Value} {h : AH} : NoR (jgo pc off L st h) := NoR_gd NoR_nx
theorem NoR_jbr {b : Bool} {pc : Nat} {off : Int} {L st : List Value} {h : AH} : NoR (jbr b pc off L st h) := by cases b <;> first | exact NoR_nx | exact NoR_jgo
theorem NoR_cK {h : AH} {v : Value} {T : List Nat} {κ : Rs} (hh : NoR κ) : NoR (cK h v T κ) := by
  cases v with
  | null => exact hh
  | ref a =>
    cases hm : jm h a with
    | none => simp only [cK, hm]; exact NoR_none
    | some c =>
      obtain ⟨t, n, f⟩ := c
      simp only [cK, hm]
      by_cases ht : t ∈ T
      · rw [if_pos ht]; exact hh
      · rw [if_neg ht]; exact NoR_none
  | _ => exact NoR_none
theorem NoR_iK {h : AH} {v : Value} {T T2 : List Nat} {κ : Int32 → Rs} (hh : ∀ x, NoR (κ x)) : NoR (iK h v T T2 κ) := by
  cases v with
  | null => exact hh 0
  | ref a =>
    cases hm : jm h a with
    | none => simp only [iK, hm]; exact NoR_none
    | some c =>
      obtain ⟨t, n, f⟩ := c
      simp only [iK, hm]
      by_cases ht : t ∈ T
      · rw [if_pos ht]; exact hh 1
      · rw [if_neg ht]
        by_cases ht2 : t ∈ T2
        · rw [if_pos ht2]; exact hh 0
        · rw [if_neg ht2]; exact NoR_none
  | _ => exact NoR_none
theorem NoR_ite {c : Prop} [Decidable c] {r r' : Rs} (h : NoR r) (h' : NoR r') : NoR (if c then r else r') := by
  by_cases hc : c
  · rw [if_pos hc]; exact h
  · rw [if_neg hc]; exact h'
def spc (i : Instr) : Bool := match i with
  | .ireturn => true
  | .lreturn => true
  | .areturn => true
  | .return_ => true
  | .athrow => true
  | .new _ => true
  | .invokestatic _ => true
  | .invokespecial _ => true
  | .invokevirtual _ => true
  | .invokeinterface _ _ => true
  | _ => false
section SimF
variable {s0 : State} {args0 : Array Value} {E : Nat → Value} {p : Program} {l : Launch} {e : Env} {R : Room} {s : State} {m : MethodId} {args : Array Value} {below : List Frame} {meth : Method} {c : Code} {Q : State → Prop}
variable {call : Cll} {y pc pc2 len n0 m0 : Nat} {L L2 st st2 : List Value} {h h2 : AH} {H : Heap} {ls : Array Slot} {locs : List Loc}
theorem exi_noR {i : Instr} (hi : spc i = false) : NoR (exi call y pc L st h len i) := by
  cases i
  all_goals first
    | (cases hi; done)
    | exact NoR_none
    | (repeat' first | exact NoR_none | exact NoR_nx | exact NoR_jbr | exact NoR_jgo | apply NoR_gd | (apply NoR_sI; intro _ _) | (apply NoR_sJ; intro _ _) | (apply NoR_sR; intro _ _) | (apply NoR_sA; intro _ _) | (apply NoR_rI; intro _) | (apply NoR_rJ; intro _) | (apply NoR_rR; intro _) | (apply NoR_pF; intro _) | (apply NoR_aG; intro _) | (apply NoR_aS; intro _) | (apply NoR_aL; intro _) | apply NoR_cK | (apply NoR_iK; intro _) | apply NoR_bif | apply NoR_ite | split)
theorem sim_pure {i : Instr} (F : JF s0 args0 E p l R s m meth c y) (hi : spc i = false) (hs : exi call y pc L st h len i = some (.inl (pc2, L2, st2, h2))) (hdg : decode (jtCode y) pc = .ok (i, len)) (C : CF s0 E n0 m0 y h H L st ls locs) (hr : h2.1 - n0 ≤ R.cells ∧ h2.2.1 - m0 ≤ R.slots)
    (kk : ∀ ls2 H2 locs2, CF s0 E n0 m0 y h2 H2 L2 st2 ls2 locs2 → W p l e R s m args below meth c H2 locs2 (h2.1 - n0) (h2.2.1 - m0) Q (F0 m pc2 ls2 st2)) : W p l e R s m args below meth c H locs (h.1 - n0) (h.2.1 - m0) Q (F0 m pc ls st) := by
  cases i with
  | iconst => exact sm_iconst F hs hdg C hr kk
  | bipush => exact sm_bipush F hs hdg C hr kk
  | sipush => exact sm_sipush F hs hdg C hr kk
  | lconst => exact sm_lconst F hs hdg C hr kk
  | aconst_null => exact sm_aconst_null F hs hdg C hr kk
  | iload_n => exact sm_iload_n F hs hdg C hr kk
  | iload => exact sm_iload F hs hdg C hr kk
  | lload_n => exact sm_lload_n F hs hdg C hr kk
  | lload => exact sm_lload F hs hdg C hr kk
  | aload_n => exact sm_aload_n F hs hdg C hr kk
  | aload => exact sm_aload F hs hdg C hr kk
  | istore_n => exact sm_istore_n F hs hdg C hr kk
  | istore => exact sm_istore F hs hdg C hr kk
  | astore_n => exact sm_astore_n F hs hdg C hr kk
  | astore => exact sm_astore F hs hdg C hr kk
  | lstore_n => exact sm_lstore_n F hs hdg C hr kk
  | lstore => exact sm_lstore F hs hdg C hr kk
  | iinc => exact sm_iinc F hs hdg C hr kk
  | iadd => exact sm_iadd F hs hdg C hr kk
  | isub => exact sm_isub F hs hdg C hr kk
  | imul => exact sm_imul F hs hdg C hr kk
  | iand => exact sm_iand F hs hdg C hr kk
  | ior => exact sm_ior F hs hdg C hr kk
  | ixor => exact sm_ixor F hs hdg C hr kk
  | idiv => exact sm_idiv F hs hdg C hr kk
  | irem => exact sm_irem F hs hdg C hr kk
  | ineg => exact sm_ineg F hs hdg C hr kk
  | ishl => exact sm_ishl F hs hdg C hr kk
  | ishr => exact sm_ishr F hs hdg C hr kk
  | iushr => exact sm_iushr F hs hdg C hr kk
  | ladd => exact sm_ladd F hs hdg C hr kk
  | lsub => exact sm_lsub F hs hdg C hr kk
  | land => exact sm_land F hs hdg C hr kk
  | lor => exact sm_lor F hs hdg C hr kk
  | lxor => exact sm_lxor F hs hdg C hr kk
  | lshl => exact sm_lshl F hs hdg C hr kk
  | lshr => exact sm_lshr F hs hdg C hr kk
  | lushr => exact sm_lushr F hs hdg C hr kk
  | lcmp => exact sm_lcmp F hs hdg C hr kk
  | i2l => exact sm_i2l F hs hdg C hr kk
  | l2i => exact sm_l2i F hs hdg C hr kk
  | i2b => exact sm_i2b F hs hdg C hr kk
  | i2c => exact sm_i2c F hs hdg C hr kk
  | dup => exact sm_dup F hs hdg C hr kk
  | pop => exact sm_pop F hs hdg C hr kk
  | dup_x1 => exact sm_dup_x1 F hs hdg C hr kk
  | dup2 => exact sm_dup2 F hs hdg C hr kk
  | goto => exact sm_goto F hs hdg C hr kk
  | ifnull => exact sm_ifnull F hs hdg C hr kk
  | ifnonnull => exact sm_ifnonnull F hs hdg C hr kk
  | getfield => exact sm_getfield F hs hdg C hr kk
  | putfield => exact sm_putfield F hs hdg C hr kk
  | getstatic => exact sm_getstatic F hs hdg C hr kk
  | ldc => exact sm_ldc F hs hdg C hr kk
  | ldc_w => exact sm_ldcw F hs hdg C hr kk
  | ldc2_w => exact sm_ldc2w F hs hdg C hr kk
  | iaload => exact sm_iaload F hs hdg C hr kk
  | baload => exact sm_baload F hs hdg C hr kk
  | laload => exact sm_laload F hs hdg C hr kk
  | aaload => exact sm_aaload F hs hdg C hr kk
  | iastore => exact sm_iastore F hs hdg C hr kk
  | bastore => exact sm_bastore F hs hdg C hr kk
  | lastore => exact sm_lastore F hs hdg C hr kk
  | aastore => exact sm_aastore F hs hdg C hr kk
  | arraylength => exact sm_arraylength F hs hdg C hr kk
  | newarray => exact sm_newarray F hs hdg C hr kk
  | anewarray => exact sm_anewarray F hs hdg C hr kk
  | checkcast => exact sm_checkcast F hs hdg C hr kk
  | instanceof => exact sm_instanceof F hs hdg C hr kk
  | tableswitch => exact sm_tableswitch F hs hdg C hr kk
  | lookupswitch => exact sm_lookupswitch F hs hdg C hr kk
  | ifCond cc off =>
    cases cc with
    | eq => exact sm_if_eq F hs hdg C hr kk
    | ne => exact sm_if_ne F hs hdg C hr kk
    | lt => exact sm_if_lt F hs hdg C hr kk
    | ge => exact sm_if_ge F hs hdg C hr kk
    | gt => exact sm_if_gt F hs hdg C hr kk
    | le => exact sm_if_le F hs hdg C hr kk
  | if_icmp cc off =>
    cases cc with
    | eq => exact sm_icmp_eq F hs hdg C hr kk
    | ne => exact sm_icmp_ne F hs hdg C hr kk
    | lt => exact sm_icmp_lt F hs hdg C hr kk
    | ge => exact sm_icmp_ge F hs hdg C hr kk
    | gt => exact sm_icmp_gt F hs hdg C hr kk
    | le => exact sm_icmp_le F hs hdg C hr kk
  | if_acmp cc off =>
    cases cc with
    | eq => exact sm_acmp_eq F hs hdg C hr kk
    | ne => exact sm_acmp_ne F hs hdg C hr kk
  | _ => first | (cases hi; done) | cases hs
end SimF
