/-! LinkedList at H-level: its code over its nodes -/
-- jc_ref, rI_int, rR_ref, rR_null, rJ_long, ckR_ref, ckR_null, ckr_ref, ckr_null, ckW_int, ckW_ref, ckW_null, cI_ok, cR_ok, cR_null, cV_ok, cJ_ok, qH_eq, qD_in, aG_ref, aS_ref, aL_ref, pF_ref, cK_ref, cK_null, zI_lit, zJ_lit, zI_add, zI_sub, zI_mul, zI_neg, zI_eq, zI_lt, zI_le, Int.reduceLT, Int.reduceLE, Int.reduceAdd, Int.reduceSub, Int.reduceMul, Int.reduceNeg, Int.reduceEq, Int.reduceNe, reduceIte, jf_in, pFc_in, aGi, aGb, aSi, aLc_in, cKc_in, nA_in, jm_s1, jm_s2, jm_p1, jm_p2, jm_b, jn_b, jn_s, jn_p, jset_jset, jset_jpush2, ckR_is, ckr_is, rR_is, ckW_is, cR_is, obi2, ckW_int, eq_self, if_true, ref_null, if_false, ne_eq, not_true_eq_false, not_false_eq_true, decide_true, decide_false, decide_not, Bool.true_and, Bool.false_and, Bool.and_true, Bool.and_false, Bool.true_or, Bool.false_or, Bool.or_true, Bool.or_false, Bool.not_true, Bool.not_false, Bool.false_eq_true, bI_t, bI_f, Int.natCast_one, Int.cast_ofNat_Int, Int.natCast_zero, o47_0, o47_1, o47_2, o47_3, n47, o47s_0, o47s_1, o47s_2, o47s_3, o70_0, o70_1, o70_2, n70, o70s_0, o70s_1, o70s_2 = jc_ref, rI_int, rR_ref, rR_null, rJ_long, ckR_ref, ckR_null, ckr_ref, ckr_null, ckW_int, ckW_ref, ckW_null, cI_ok, cR_ok, cR_null, cV_ok, cJ_ok, qH_eq, qD_in, aG_ref, aS_ref, aL_ref, pF_ref, cK_ref, cK_null, zI_lit, zJ_lit, zI_add, zI_sub, zI_mul, zI_neg, zI_eq, zI_lt, zI_le, Int.reduceLT, Int.reduceLE, Int.reduceAdd, Int.reduceSub, Int.reduceMul, Int.reduceNeg, Int.reduceEq, Int.reduceNe, reduceIte, jf_in, pFc_in, aGi, aGb, aSi, aLc_in, cKc_in, nA_in, jm_s1, jm_s2, jm_p1, jm_p2, jm_b, jn_b, jn_s, jn_p, jset_jset, jset_jpush2, ckR_is, ckr_is, rR_is, ckW_is, cR_is, obi2, ckW_int, eq_self, if_true, ref_null, if_false, ne_eq, not_true_eq_false, not_false_eq_true, decide_true, decide_false, decide_not, Bool.true_and, Bool.false_and, Bool.and_true, Bool.and_false, Bool.true_or, Bool.false_or, Bool.or_true, Bool.or_false, Bool.not_true, Bool.not_false, Bool.false_eq_true, bI_t, bI_f, Int.natCast_one, Int.cast_ofNat_Int, Int.natCast_zero, o47_0, o47_1, o47_2, o47_3, n47, o47s_0, o47s_1, o47s_2, o47s_3, o70_0, o70_1, o70_2, n70, o70s_0, o70s_1, o70s_2
def ndV (ns : List Nat) (i : Nat) : Value := match ns[i]? with
  | some q => .ref q
  | none => .null
def prvV (ns : List Nat) (i : Nat) : Value := if i = 0 then .null else ndV ns (i - 1)
def LLat (H : AH) (a : Nat) (ns : List Nat) (vs : List Value) : Prop := (∃ mc, jm H a = some (47, 4, o47 mc vs.length (ndV ns 0) (prvV ns ns.length))) ∧ ns.length = vs.length ∧ ns.length < 100000 ∧ ns.Nodup ∧ (∀ v ∈ vs, isR v = true) ∧ ∀ (i : Nat) (q : Nat), ns[i]? = some q → jm H q = some (70, 3, o70 (vs.getD i .null) (ndV ns (i + 1)) (prvV ns i)) ∧ q < H.1
theorem ndV_R {ns : List Nat} {i : Nat} : isR (ndV ns i) = true := by unfold ndV; split <;> rfl
theorem prvV_R {ns : List Nat} {i : Nat} : isR (prvV ns i) = true := by
  unfold prvV; split
  · rfl
  · exact ndV_R
theorem ndV_in {ns : List Nat} {i q : Nat} (h : ns[i]? = some q) : ndV ns i = .ref q := by unfold ndV; rw [h]
theorem ndV_out {ns : List Nat} {i : Nat} (h : ns.length ≤ i) : ndV ns i = .null := by unfold ndV; rw [List.getElem?_eq_none h]
theorem LLat.fr {H H2 : AH} {a : Nat} {ns : List Nat} {vs : List Value} (h : LLat H a ns vs) {P : Nat → Prop} (f : Fr H H2 P) (ha : a < H.1) (hp : ¬ P a) (hn : ∀ q ∈ ns, ¬ P q) : LLat H2 a ns vs := by
  obtain ⟨⟨mc, h1⟩, h2, h3, h4, h5, h6⟩ := h
  refine ⟨⟨mc, (f.2.2 a ha hp).trans h1⟩, h2, h3, h4, h5, fun i q hq => ?_⟩
  obtain ⟨x1, x2⟩ := h6 i q hq
  exact ⟨(f.2.2 q x2 (hn q (List.mem_of_getElem? hq))).trans x1, Nat.lt_of_lt_of_le x2 f.1⟩
section
variable {d : Nat} {H : AH} {a : Nat} {ns : List Nat} {vs : List Value} {v : Value}
theorem ll_new (m : jm H a = some (47, 4, o47 0 0 .null .null)) : ∃ H2, M2 (d + 5) 47900 [.ref a] H = some (.inl none, H2) ∧ LLat H2 a [] [] ∧ Fr H H2 (fun q => q = a) ∧ H2.1 = H.1 ∧ H2.2.1 = H.2.1 := by
  have r1 : ([43, 47] : List Nat).elem 47 = true := rfl
  have e1 : M2 (d + 2) 41900 [.ref a] H = some (.inl none, H) := by
    rw [Y41900 H (jrecv_in m rfl), F41900_0]
    simp (disch := first | assumption | omega | decide | exact okF_i | exact okF_r | exact okF_n | exact okF_j | rfl) only [jc_ref, rI_int, rR_ref, rR_null, rJ_long, ckR_ref, ckR_null, ckr_ref, ckr_null, ckW_int, ckW_ref, ckW_null, cI_ok, cR_ok, cR_null, cV_ok, cJ_ok, qH_eq, qD_in, aG_ref, aS_ref, aL_ref, pF_ref, cK_ref, cK_null, zI_lit, zJ_lit, zI_add, zI_sub, zI_mul, zI_neg, zI_eq, zI_lt, zI_le, Int.reduceLT, Int.reduceLE, Int.reduceAdd, Int.reduceSub, Int.reduceMul, Int.reduceNeg, Int.reduceEq, Int.reduceNe, reduceIte, jf_in, pFc_in, aGi, aGb, aSi, aLc_in, cKc_in, nA_in, jm_s1, jm_s2, jm_p1, jm_p2, jm_b, jn_b, jn_s, jn_p, jset_jset, jset_jpush2, ckR_is, ckr_is, rR_is, ckW_is, cR_is, obi2, ckW_int, eq_self, if_true, ref_null, if_false, ne_eq, not_true_eq_false, not_false_eq_true, decide_true, decide_false, decide_not, Bool.true_and, Bool.false_and, Bool.and_true, Bool.and_false, Bool.true_or, Bool.false_or, Bool.or_true, Bool.or_false, Bool.not_true, Bool.not_false, Bool.false_eq_true, bI_t, bI_f, Int.natCast_one, Int.cast_ofNat_Int, Int.natCast_zero, o47_0, o47_1, o47_2, o47_3, n47, o47s_0, o47s_1, o47s_2, o47s_3, o70_0, o70_1, o70_2, n70, o70s_0, o70s_1, o70s_2]
  have e2 : M2 (d + 3) 42900 [.ref a] H = some (.inl none, jset H a (47, 4, o47 0 0 .null .null)) := by
    rw [Y42900 H (jrecv_in m rfl), F42900_0]
    simp (disch := first | assumption | omega | decide | exact okF_i | exact okF_r | exact okF_n | exact okF_j | rfl) only [jc_ref, rI_int, rR_ref, rR_null, rJ_long, ckR_ref, ckR_null, ckr_ref, ckr_null, ckW_int, ckW_ref, ckW_null, cI_ok, cR_ok, cR_null, cV_ok, cJ_ok, qH_eq, qD_in, aG_ref, aS_ref, aL_ref, pF_ref, cK_ref, cK_null, zI_lit, zJ_lit, zI_add, zI_sub, zI_mul, zI_neg, zI_eq, zI_lt, zI_le, Int.reduceLT, Int.reduceLE, Int.reduceAdd, Int.reduceSub, Int.reduceMul, Int.reduceNeg, Int.reduceEq, Int.reduceNe, reduceIte, jf_in, pFc_in, aGi, aGb, aSi, aLc_in, cKc_in, nA_in, jm_s1, jm_s2, jm_p1, jm_p2, jm_b, jn_b, jn_s, jn_p, jset_jset, jset_jpush2, ckR_is, ckr_is, rR_is, ckW_is, cR_is, obi2, ckW_int, eq_self, if_true, ref_null, if_false, ne_eq, not_true_eq_false, not_false_eq_true, decide_true, decide_false, decide_not, Bool.true_and, Bool.false_and, Bool.and_true, Bool.and_false, Bool.true_or, Bool.false_or, Bool.or_true, Bool.or_false, Bool.not_true, Bool.not_false, Bool.false_eq_true, bI_t, bI_f, Int.natCast_one, Int.cast_ofNat_Int, Int.natCast_zero, o47_0, o47_1, o47_2, o47_3, n47, o47s_0, o47s_1, o47s_2, o47s_3, o70_0, o70_1, o70_2, n70, o70s_0, o70s_1, o70s_2, e1, m]
  have e3 : M2 (d + 4) 46900 [.ref a] H = some (.inl none, jset H a (47, 4, o47 0 0 .null .null)) := by
    rw [Y46900 H (jrecv_in m rfl), F46900_0]
    simp (disch := first | assumption | omega | decide | exact okF_i | exact okF_r | exact okF_n | exact okF_j | rfl) only [jc_ref, rI_int, rR_ref, rR_null, rJ_long, ckR_ref, ckR_null, ckr_ref, ckr_null, ckW_int, ckW_ref, ckW_null, cI_ok, cR_ok, cR_null, cV_ok, cJ_ok, qH_eq, qD_in, aG_ref, aS_ref, aL_ref, pF_ref, cK_ref, cK_null, zI_lit, zJ_lit, zI_add, zI_sub, zI_mul, zI_neg, zI_eq, zI_lt, zI_le, Int.reduceLT, Int.reduceLE, Int.reduceAdd, Int.reduceSub, Int.reduceMul, Int.reduceNeg, Int.reduceEq, Int.reduceNe, reduceIte, jf_in, pFc_in, aGi, aGb, aSi, aLc_in, cKc_in, nA_in, jm_s1, jm_s2, jm_p1, jm_p2, jm_b, jn_b, jn_s, jn_p, jset_jset, jset_jpush2, ckR_is, ckr_is, rR_is, ckW_is, cR_is, obi2, ckW_int, eq_self, if_true, ref_null, if_false, ne_eq, not_true_eq_false, not_false_eq_true, decide_true, decide_false, decide_not, Bool.true_and, Bool.false_and, Bool.and_true, Bool.and_false, Bool.true_or, Bool.false_or, Bool.or_true, Bool.or_false, Bool.not_true, Bool.not_false, Bool.false_eq_true, bI_t, bI_f, Int.natCast_one, Int.cast_ofNat_Int, Int.natCast_zero, o47_0, o47_1, o47_2, o47_3, n47, o47s_0, o47s_1, o47s_2, o47s_3, o70_0, o70_1, o70_2, n70, o70s_0, o70s_1, o70s_2, e2]
  refine ⟨jset H a (47, 4, o47 0 0 .null .null), ?_, ⟨⟨0, jm_s1⟩, rfl, by decide, List.nodup_nil, fun v hv => (by cases hv), fun i q hq => by simp at hq⟩, Fr.set rfl, rfl, rfl⟩
  rw [Y47900 H (jrecv_in m rfl), F47900_0]
  simp (disch := first | assumption | omega | decide | exact okF_i | exact okF_r | exact okF_n | exact okF_j | rfl) only [jc_ref, rI_int, rR_ref, rR_null, rJ_long, ckR_ref, ckR_null, ckr_ref, ckr_null, ckW_int, ckW_ref, ckW_null, cI_ok, cR_ok, cR_null, cV_ok, cJ_ok, qH_eq, qD_in, aG_ref, aS_ref, aL_ref, pF_ref, cK_ref, cK_null, zI_lit, zJ_lit, zI_add, zI_sub, zI_mul, zI_neg, zI_eq, zI_lt, zI_le, Int.reduceLT, Int.reduceLE, Int.reduceAdd, Int.reduceSub, Int.reduceMul, Int.reduceNeg, Int.reduceEq, Int.reduceNe, reduceIte, jf_in, pFc_in, aGi, aGb, aSi, aLc_in, cKc_in, nA_in, jm_s1, jm_s2, jm_p1, jm_p2, jm_b, jn_b, jn_s, jn_p, jset_jset, jset_jpush2, ckR_is, ckr_is, rR_is, ckW_is, cR_is, obi2, ckW_int, eq_self, if_true, ref_null, if_false, ne_eq, not_true_eq_false, not_false_eq_true, decide_true, decide_false, decide_not, Bool.true_and, Bool.false_and, Bool.and_true, Bool.and_false, Bool.true_or, Bool.false_or, Bool.or_true, Bool.or_false, Bool.not_true, Bool.not_false, Bool.false_eq_true, bI_t, bI_f, Int.natCast_one, Int.cast_ofNat_Int, Int.natCast_zero, o47_0, o47_1, o47_2, o47_3, n47, o47s_0, o47s_1, o47s_2, o47s_3, o70_0, o70_1, o70_2, n70, o70s_0, o70s_1, o70s_2, e3]
theorem ll_size (h : LLat H a ns vs) : M2 (d + 1) 47013 [.ref a] H = some (.inl (some (.int (zI vs.length))), H) := by
  obtain ⟨⟨mc, h1⟩, -⟩ := h
  rw [Y47013 H (jrecv_in h1 rfl), F47013_0]
  simp (disch := first | assumption | omega | decide | exact okF_i | exact okF_r | exact okF_n | exact okF_j | rfl) only [jc_ref, rI_int, rR_ref, rR_null, rJ_long, ckR_ref, ckR_null, ckr_ref, ckr_null, ckW_int, ckW_ref, ckW_null, cI_ok, cR_ok, cR_null, cV_ok, cJ_ok, qH_eq, qD_in, aG_ref, aS_ref, aL_ref, pF_ref, cK_ref, cK_null, zI_lit, zJ_lit, zI_add, zI_sub, zI_mul, zI_neg, zI_eq, zI_lt, zI_le, Int.reduceLT, Int.reduceLE, Int.reduceAdd, Int.reduceSub, Int.reduceMul, Int.reduceNeg, Int.reduceEq, Int.reduceNe, reduceIte, jf_in, pFc_in, aGi, aGb, aSi, aLc_in, cKc_in, nA_in, jm_s1, jm_s2, jm_p1, jm_p2, jm_b, jn_b, jn_s, jn_p, jset_jset, jset_jpush2, ckR_is, ckr_is, rR_is, ckW_is, cR_is, obi2, ckW_int, eq_self, if_true, ref_null, if_false, ne_eq, not_true_eq_false, not_false_eq_true, decide_true, decide_false, decide_not, Bool.true_and, Bool.false_and, Bool.and_true, Bool.and_false, Bool.true_or, Bool.false_or, Bool.or_true, Bool.or_false, Bool.not_true, Bool.not_false, Bool.false_eq_true, bI_t, bI_f, Int.natCast_one, Int.cast_ofNat_Int, Int.natCast_zero, o47_0, o47_1, o47_2, o47_3, n47, o47s_0, o47s_1, o47s_2, o47s_3, o70_0, o70_1, o70_2, n70, o70s_0, o70s_1, o70s_2, h1]
theorem ll_empty (h : LLat H a ns vs) : M2 (d + 2) 41000 [.ref a] H = some (.inl (some (bI vs.isEmpty)), H) := by
  have e1 := ll_size (d := d) h
  obtain ⟨⟨mc, h1⟩, h2, h3, -⟩ := h
  rw [Y41000 H (jrecv_in h1 rfl), F41000_0]
  have e2 : MvH (d + 1) 9139 [.ref a] H = M2 (d + 1) 47013 [.ref a] H := by simp only [MvH, h1]; rfl
  rw [e2, e1]
  simp (disch := first | assumption | omega | decide | exact okF_i | exact okF_r | exact okF_n | exact okF_j | rfl) only [jc_ref, rI_int, rR_ref, rR_null, rJ_long, ckR_ref, ckR_null, ckr_ref, ckr_null, ckW_int, ckW_ref, ckW_null, cI_ok, cR_ok, cR_null, cV_ok, cJ_ok, qH_eq, qD_in, aG_ref, aS_ref, aL_ref, pF_ref, cK_ref, cK_null, zI_lit, zJ_lit, zI_add, zI_sub, zI_mul, zI_neg, zI_eq, zI_lt, zI_le, Int.reduceLT, Int.reduceLE, Int.reduceAdd, Int.reduceSub, Int.reduceMul, Int.reduceNeg, Int.reduceEq, Int.reduceNe, reduceIte, jf_in, pFc_in, aGi, aGb, aSi, aLc_in, cKc_in, nA_in, jm_s1, jm_s2, jm_p1, jm_p2, jm_b, jn_b, jn_s, jn_p, jset_jset, jset_jpush2, ckR_is, ckr_is, rR_is, ckW_is, cR_is, obi2, ckW_int, eq_self, if_true, ref_null, if_false, ne_eq, not_true_eq_false, not_false_eq_true, decide_true, decide_false, decide_not, Bool.true_and, Bool.false_and, Bool.and_true, Bool.and_false, Bool.true_or, Bool.false_or, Bool.or_true, Bool.or_false, Bool.not_true, Bool.not_false, Bool.false_eq_true, bI_t, bI_f, Int.natCast_one, Int.cast_ofNat_Int, Int.natCast_zero, o47_0, o47_1, o47_2, o47_3, n47, o47s_0, o47s_1, o47s_2, o47s_3, o70_0, o70_1, o70_2, n70, o70s_0, o70s_1, o70s_2]
  cases vs with
  | nil => rfl
  | cons x r => rw [if_neg (by simp only [List.length_cons]; omega)]; rfl
theorem ll_first {w : Value} (h : LLat H a ns (w :: vs)) : M2 (d + 1) 47004 [.ref a] H = some (.inl (some w), H) := by
  obtain ⟨⟨mc, h1⟩, h2, h3, -, h5, h6⟩ := h
  cases ns with
  | nil => simp at h2
  | cons q r =>
    obtain ⟨x1, x2⟩ := h6 0 q rfl
    have hw := h5 w (List.mem_cons_self)
    have e : ndV (q :: r) 0 = .ref q := rfl
    rw [e] at h1
    have x1 : jm H q = some (70, 3, o70 w (ndV (q :: r) 1) (prvV (q :: r) 0)) := x1
    have hq : ¬ ((.ref q : Value) = .null) := fun z => by cases z
    rw [Y47004 H (jrecv_in h1 rfl), F47004_0]
    simp (disch := first | assumption | omega | decide | exact okF_i | exact okF_r | exact okF_n | exact okF_j | rfl) only [jc_ref, rI_int, rR_ref, rR_null, rJ_long, ckR_ref, ckR_null, ckr_ref, ckr_null, ckW_int, ckW_ref, ckW_null, cI_ok, cR_ok, cR_null, cV_ok, cJ_ok, qH_eq, qD_in, aG_ref, aS_ref, aL_ref, pF_ref, cK_ref, cK_null, zI_lit, zJ_lit, zI_add, zI_sub, zI_mul, zI_neg, zI_eq, zI_lt, zI_le, Int.reduceLT, Int.reduceLE, Int.reduceAdd, Int.reduceSub, Int.reduceMul, Int.reduceNeg, Int.reduceEq, Int.reduceNe, reduceIte, jf_in, pFc_in, aGi, aGb, aSi, aLc_in, cKc_in, nA_in, jm_s1, jm_s2, jm_p1, jm_p2, jm_b, jn_b, jn_s, jn_p, jset_jset, jset_jpush2, ckR_is, ckr_is, rR_is, ckW_is, cR_is, obi2, ckW_int, eq_self, if_true, ref_null, if_false, ne_eq, not_true_eq_false, not_false_eq_true, decide_true, decide_false, decide_not, Bool.true_and, Bool.false_and, Bool.and_true, Bool.and_false, Bool.true_or, Bool.false_or, Bool.or_true, Bool.or_false, Bool.not_true, Bool.not_false, Bool.false_eq_true, bI_t, bI_f, Int.natCast_one, Int.cast_ofNat_Int, Int.natCast_zero, o47_0, o47_1, o47_2, o47_3, n47, o47s_0, o47s_1, o47s_2, o47s_3, o70_0, o70_1, o70_2, n70, o70s_0, o70s_1, o70s_2, h1, x1]
theorem ll_add (h : LLat H a ns vs) (hv : isR v = true) (ha : a < H.1) (hna : a ∉ ns) (hlen : ns.length < 90000) : ∃ H2, M2 (d + 4) 47000 [.ref a, v] H = some (.inl none, H2) ∧ LLat H2 a (ns ++ [H.1]) (vs ++ [v]) ∧ Fr H H2 (fun q => q = a ∨ q ∈ ns) ∧ H2.1 = H.1 + 1 ∧ H2.2.1 = H.2.1 + 3 := by
  obtain ⟨⟨mc, h1⟩, h2, h3, h4, h5, h6⟩ := h
  have nh : a ≠ H.1 := Nat.ne_of_lt ha
  have e0 : ∀ pv : Value, isR pv = true → M2 (d + 2) 70900 [.ref H.1, pv, v, .null] (jpush H (70, 3, o70 .null .null .null)) = some (.inl none, jpush H (70, 3, o70 v .null pv)) := fun pv hpv => by
    have m0 : jm (jpush H (70, 3, o70 .null .null .null)) H.1 = some (70, 3, o70 .null .null .null) := jm_p1
    have k1 : okF 2 v = true := by cases v <;> first | rfl | cases hv
    have k2 : okF 2 pv = true := by cases pv <;> first | rfl | cases hpv
    rw [Y70900 _ hpv hv rfl (jrecv_in m0 rfl), F70900_0]
    simp (disch := first | assumption | omega | decide | exact okF_i | exact okF_r | exact okF_n | exact okF_j | rfl) only [jc_ref, rI_int, rR_ref, rR_null, rJ_long, ckR_ref, ckR_null, ckr_ref, ckr_null, ckW_int, ckW_ref, ckW_null, cI_ok, cR_ok, cR_null, cV_ok, cJ_ok, qH_eq, qD_in, aG_ref, aS_ref, aL_ref, pF_ref, cK_ref, cK_null, zI_lit, zJ_lit, zI_add, zI_sub, zI_mul, zI_neg, zI_eq, zI_lt, zI_le, Int.reduceLT, Int.reduceLE, Int.reduceAdd, Int.reduceSub, Int.reduceMul, Int.reduceNeg, Int.reduceEq, Int.reduceNe, reduceIte, jf_in, pFc_in, aGi, aGb, aSi, aLc_in, cKc_in, nA_in, jm_s1, jm_s2, jm_p1, jm_p2, jm_b, jn_b, jn_s, jn_p, jset_jset, jset_jpush2, ckR_is, ckr_is, rR_is, ckW_is, cR_is, obi2, ckW_int, eq_self, if_true, ref_null, if_false, ne_eq, not_true_eq_false, not_false_eq_true, decide_true, decide_false, decide_not, Bool.true_and, Bool.false_and, Bool.and_true, Bool.and_false, Bool.true_or, Bool.false_or, Bool.or_true, Bool.or_false, Bool.not_true, Bool.not_false, Bool.false_eq_true, bI_t, bI_f, Int.natCast_one, Int.cast_ofNat_Int, Int.natCast_zero, o47_0, o47_1, o47_2, o47_3, n47, o47s_0, o47s_1, o47s_2, o47s_3, o70_0, o70_1, o70_2, n70, o70s_0, o70s_1, o70s_2]
  have nil3 : jL [.null, .null, .null] = o70 .null .null .null := rfl
  cases hl : ns.reverse with
  | nil =>
    have n0 : ns = [] := by simpa using hl
    subst n0
    have v0 : vs = [] := List.eq_nil_of_length_eq_zero h2.symm
    subst v0
    have h1 : jm H a = some (47, 4, o47 mc 0 .null .null) := h1
    refine ⟨jset (jpush H (70, 3, o70 v .null .null)) a (47, 4, o47 (mc + 1) 1 (.ref H.1) (.ref H.1)), ?_, ⟨⟨mc + 1, jm_s1⟩, rfl, (by decide : 1 < 100000), by simp, fun w hw => by rw [List.mem_singleton.mp hw]; exact hv, fun i q hq => ?_⟩, ⟨Nat.le_succ _, rfl, fun q hq hp => ?_⟩, rfl, rfl⟩
    · have e1 := e0 .null rfl
      rw [Y47000 H hv (jrecv_in h1 rfl), F47000_0, Y47007 H hv (jrecv_in h1 rfl), F47007_0]
      simp (disch := first | assumption | omega | decide | exact okF_i | exact okF_r | exact okF_n | exact okF_j | rfl) only [jc_ref, rI_int, rR_ref, rR_null, rJ_long, ckR_ref, ckR_null, ckr_ref, ckr_null, ckW_int, ckW_ref, ckW_null, cI_ok, cR_ok, cR_null, cV_ok, cJ_ok, qH_eq, qD_in, aG_ref, aS_ref, aL_ref, pF_ref, cK_ref, cK_null, zI_lit, zJ_lit, zI_add, zI_sub, zI_mul, zI_neg, zI_eq, zI_lt, zI_le, Int.reduceLT, Int.reduceLE, Int.reduceAdd, Int.reduceSub, Int.reduceMul, Int.reduceNeg, Int.reduceEq, Int.reduceNe, reduceIte, jf_in, pFc_in, aGi, aGb, aSi, aLc_in, cKc_in, nA_in, jm_s1, jm_s2, jm_p1, jm_p2, jm_b, jn_b, jn_s, jn_p, jset_jset, jset_jpush2, ckR_is, ckr_is, rR_is, ckW_is, cR_is, obi2, ckW_int, eq_self, if_true, ref_null, if_false, ne_eq, not_true_eq_false, not_false_eq_true, decide_true, decide_false, decide_not, Bool.true_and, Bool.false_and, Bool.and_true, Bool.and_false, Bool.true_or, Bool.false_or, Bool.or_true, Bool.or_false, Bool.not_true, Bool.not_false, Bool.false_eq_true, bI_t, bI_f, Int.natCast_one, Int.cast_ofNat_Int, Int.natCast_zero, o47_0, o47_1, o47_2, o47_3, n47, o47s_0, o47s_1, o47s_2, o47s_3, o70_0, o70_1, o70_2, n70, o70s_0, o70s_1, o70s_2, h1, nil3, e1]
    · match i, hq with
      | 0, hq =>
        have hq : some H.1 = some q := hq
        cases hq
        exact ⟨(jm_s2 (Ne.symm nh)).trans jm_p1, Nat.lt_succ_self _⟩
      | i + 1, hq => simp at hq
    · rw [jm_s2 (fun z => hp (Or.inl z)), jm_p2 (Nat.ne_of_lt hq)]
  | cons z r =>
    have hns : ns = r.reverse ++ [z] := by rw [← List.reverse_reverse ns, hl]; simp
    have hlz : ns.length = r.length + 1 := by rw [hns]; simp
    have hz : ns[r.length]? = some z := by rw [hns, List.getElem?_append_right (by simp)]; simp
    obtain ⟨x1, x2⟩ := h6 _ _ hz
    have ep : prvV ns ns.length = .ref z := by
      unfold prvV; rw [if_neg (by omega), hlz, Nat.add_sub_cancel]; exact ndV_in hz
    have en : ndV ns (r.length + 1) = .null := ndV_out (by omega)
    rw [ep] at h1
    rw [en] at x1
    have zne : z ≠ a := fun y => hna (y ▸ List.mem_of_getElem? hz)
    have zh : z ≠ H.1 := Nat.ne_of_lt x2
    have azn := Ne.symm zne
    have vr : isR (vs.getD r.length .null) = true := h5 _ (getD_in (by omega))
    obtain ⟨q0, hq0⟩ : ∃ q0, ns[0]? = some q0 := ⟨ns[0]'(by omega), List.getElem?_eq_getElem (by omega)⟩
    have e00 : ndV ns 0 = .ref q0 := ndV_in hq0
    rw [e00] at h1
    refine ⟨jset (jset (jset (jpush H (70, 3, o70 v .null (.ref z))) a (47, 4, o47 mc vs.length (.ref q0) (.ref H.1))) z (70, 3, o70 (vs.getD r.length .null) (.ref H.1) (prvV ns r.length))) a (47, 4, o47 (mc + 1) (vs.length + 1) (.ref q0) (.ref H.1)), ?_, ⟨⟨mc + 1, ?_⟩, by simp [h2], by simp; omega, ?_, ?_, fun i q hq => ?_⟩, ⟨Nat.le_succ _, rfl, fun q hq hp => ?_⟩, rfl, rfl⟩
    · have e1 := e0 (.ref z) rfl
      have hzn : ¬ ((.ref z : Value) = .null) := fun y => by cases y
      have k1 : okF 2 (vs.getD r.length .null) = true := by
        cases hc : vs.getD r.length .null <;> first | rfl | (rw [hc] at vr; cases vr)
      rw [Y47000 H hv (jrecv_in h1 rfl), F47000_0, Y47007 H hv (jrecv_in h1 rfl), F47007_0]
      simp (disch := first | assumption | omega | decide | exact okF_i | exact okF_r | exact okF_n | exact okF_j | rfl) only [jc_ref, rI_int, rR_ref, rR_null, rJ_long, ckR_ref, ckR_null, ckr_ref, ckr_null, ckW_int, ckW_ref, ckW_null, cI_ok, cR_ok, cR_null, cV_ok, cJ_ok, qH_eq, qD_in, aG_ref, aS_ref, aL_ref, pF_ref, cK_ref, cK_null, zI_lit, zJ_lit, zI_add, zI_sub, zI_mul, zI_neg, zI_eq, zI_lt, zI_le, Int.reduceLT, Int.reduceLE, Int.reduceAdd, Int.reduceSub, Int.reduceMul, Int.reduceNeg, Int.reduceEq, Int.reduceNe, reduceIte, jf_in, pFc_in, aGi, aGb, aSi, aLc_in, cKc_in, nA_in, jm_s1, jm_s2, jm_p1, jm_p2, jm_b, jn_b, jn_s, jn_p, jset_jset, jset_jpush2, ckR_is, ckr_is, rR_is, ckW_is, cR_is, obi2, ckW_int, eq_self, if_true, ref_null, if_false, ne_eq, not_true_eq_false, not_false_eq_true, decide_true, decide_false, decide_not, Bool.true_and, Bool.false_and, Bool.and_true, Bool.and_false, Bool.true_or, Bool.false_or, Bool.or_true, Bool.or_false, Bool.not_true, Bool.not_false, Bool.false_eq_true, bI_t, bI_f, Int.natCast_one, Int.cast_ofNat_Int, Int.natCast_zero, o47_0, o47_1, o47_2, o47_3, n47, o47s_0, o47s_1, o47s_2, o47s_3, o70_0, o70_1, o70_2, n70, o70s_0, o70s_1, o70s_2, h1, nil3, e1, x1]
    · rw [jm_s1]
      have e1 : ndV (ns ++ [H.1]) 0 = .ref q0 := ndV_in (by rw [List.getElem?_append_left (by omega)]; exact hq0)
      have e2 : prvV (ns ++ [H.1]) (ns ++ [H.1]).length = .ref H.1 := by
        unfold prvV
        rw [if_neg (by simp), List.length_append]
        exact ndV_in (by rw [List.getElem?_append_right (by simp)]; simp)
      rw [e1, e2]
      simp
    · rw [List.nodup_append]
      refine ⟨h4, by simp, fun x hx y hy => ?_⟩
      rw [List.mem_singleton.mp hy]
      obtain ⟨i, hi⟩ := List.getElem?_of_mem hx
      exact Nat.ne_of_lt (h6 i x hi).2
    · intro w hw
      rcases List.mem_append.mp hw with hw | hw
      · exact h5 w hw
      · rw [List.mem_singleton.mp hw]; exact hv
    · by_cases hi : i < ns.length
      · rw [List.getElem?_append_left hi] at hq
        obtain ⟨y1, y2⟩ := h6 i q hq
        have qa : q ≠ a := fun y => hna (y ▸ List.mem_of_getElem? hq)
        have pv : prvV (ns ++ [H.1]) i = prvV ns i := by
          unfold prvV
          by_cases hi0 : i = 0
          · rw [if_pos hi0, if_pos hi0]
          · rw [if_neg hi0, if_neg hi0]
            unfold ndV
            rw [List.getElem?_append_left (by omega)]
        have vv : (vs ++ [v]).getD i .null = vs.getD i .null := by rw [getD_app, if_neg (by omega)]
        refine ⟨?_, Nat.lt_succ_of_lt y2⟩
        rw [pv, vv, jm_s2 qa]
        by_cases hil : i = r.length
        · have hqz : q = z := by rw [hil, hz] at hq; exact (Option.some.inj hq).symm
          rw [hqz, jm_s1, hil]
          have : ndV (ns ++ [H.1]) (r.length + 1) = .ref H.1 := ndV_in (by rw [List.getElem?_append_right (by omega), hlz]; simp)
          rw [this]
        · have hqz : q ≠ z := fun y => by
            rw [y] at hq
            have := (List.getElem?_inj (by omega) h4).mp (hq.trans hz.symm)
            exact hil this
          have nx : ndV (ns ++ [H.1]) (i + 1) = ndV ns (i + 1) := by
            unfold ndV
            rw [List.getElem?_append_left (by omega)]
          rw [nx, jm_s2 hqz, jm_s2 qa, jm_p2 (Nat.ne_of_lt y2)]
          exact y1
      · have hi2 : i = ns.length := by
          by_cases hi3 : i = ns.length
          · exact hi3
          · rw [List.getElem?_append_right (by omega), List.getElem?_eq_none (by simp; omega)] at hq; cases hq
        subst hi2
        rw [List.getElem?_append_right (Nat.le_refl _), Nat.sub_self] at hq
        have hq : some H.1 = some q := hq
        cases hq
        refine ⟨?_, Nat.lt_succ_self _⟩
        have e1 : (vs ++ [v]).getD ns.length .null = v := by rw [getD_app, if_pos h2]
        have e2 : ndV (ns ++ [H.1]) (ns.length + 1) = .null := ndV_out (by simp)
        have e3 : prvV (ns ++ [H.1]) ns.length = .ref z := by
          unfold prvV
          rw [if_neg (by omega)]
          exact ndV_in (by rw [List.getElem?_append_left (by omega), hlz, Nat.add_sub_cancel]; exact hz)
        rw [e1, e2, e3, jm_s2 (Ne.symm nh), jm_s2 (Ne.symm zh), jm_s2 (Ne.symm nh)]
        exact jm_p1
    · have qa : q ≠ a := fun y => hp (Or.inl y)
      have qz : q ≠ z := fun y => hp (Or.inr (y ▸ List.mem_of_getElem? hz))
      rw [jm_s2 qa, jm_s2 qz, jm_s2 qa, jm_p2 (Nat.ne_of_lt hq)]
end
