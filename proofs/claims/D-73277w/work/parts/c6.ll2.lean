/-! LinkedList at H-level: removal of the first, an element, its array, its iterator -/
-- jc_ref, rI_int, rR_ref, rR_null, rJ_long, ckR_ref, ckR_null, ckr_ref, ckr_null, ckW_int, ckW_ref, ckW_null, cI_ok, cR_ok, cR_null, cV_ok, cJ_ok, qH_eq, qD_in, aG_ref, aS_ref, aL_ref, pF_ref, cK_ref, cK_null, zI_lit, zJ_lit, zI_add, zI_sub, zI_mul, zI_neg, zI_eq, zI_lt, zI_le, Int.reduceLT, Int.reduceLE, Int.reduceAdd, Int.reduceSub, Int.reduceMul, Int.reduceNeg, Int.reduceEq, Int.reduceNe, reduceIte, jf_in, pFc_in, aGi, aGb, aSi, aLc_in, cKc_in, nA_in, jm_s1, jm_s2, jm_p1, jm_p2, jm_b, jn_b, jn_s, jn_p, jset_jset, jset_jpush2, ckR_is, ckr_is, rR_is, ckW_is, cR_is, obi2, ckW_int, eq_self, if_true, ref_null, if_false, ne_eq, not_true_eq_false, not_false_eq_true, decide_true, decide_false, decide_not, Bool.true_and, Bool.false_and, Bool.and_true, Bool.and_false, Bool.true_or, Bool.false_or, Bool.or_true, Bool.or_false, Bool.not_true, Bool.not_false, Bool.false_eq_true, bI_t, bI_f, Int.natCast_one, Int.cast_ofNat_Int, Int.natCast_zero, o47_0, o47_1, o47_2, o47_3, n47, o47s_0, o47s_1, o47s_2, o47s_3, o70_0, o70_1, o70_2, n70, o70s_0, o70s_1, o70s_2, o77_0, o77_1, o77_2, o77_3, o77_4, n77, o77s_0, o77s_1, o77s_2, o77s_3, o77s_4 = jc_ref, rI_int, rR_ref, rR_null, rJ_long, ckR_ref, ckR_null, ckr_ref, ckr_null, ckW_int, ckW_ref, ckW_null, cI_ok, cR_ok, cR_null, cV_ok, cJ_ok, qH_eq, qD_in, aG_ref, aS_ref, aL_ref, pF_ref, cK_ref, cK_null, zI_lit, zJ_lit, zI_add, zI_sub, zI_mul, zI_neg, zI_eq, zI_lt, zI_le, Int.reduceLT, Int.reduceLE, Int.reduceAdd, Int.reduceSub, Int.reduceMul, Int.reduceNeg, Int.reduceEq, Int.reduceNe, reduceIte, jf_in, pFc_in, aGi, aGb, aSi, aLc_in, cKc_in, nA_in, jm_s1, jm_s2, jm_p1, jm_p2, jm_b, jn_b, jn_s, jn_p, jset_jset, jset_jpush2, ckR_is, ckr_is, rR_is, ckW_is, cR_is, obi2, ckW_int, eq_self, if_true, ref_null, if_false, ne_eq, not_true_eq_false, not_false_eq_true, decide_true, decide_false, decide_not, Bool.true_and, Bool.false_and, Bool.and_true, Bool.and_false, Bool.true_or, Bool.false_or, Bool.or_true, Bool.or_false, Bool.not_true, Bool.not_false, Bool.false_eq_true, bI_t, bI_f, Int.natCast_one, Int.cast_ofNat_Int, Int.natCast_zero, o47_0, o47_1, o47_2, o47_3, n47, o47s_0, o47s_1, o47s_2, o47s_3, o70_0, o70_1, o70_2, n70, o70s_0, o70s_1, o70s_2, o77_0, o77_1, o77_2, o77_3, o77_4, n77, o77s_0, o77s_1, o77s_2, o77s_3, o77s_4
section
variable {d : Nat} {H : AH} {a : Nat} {ns : List Nat} {vs : List Value} {v : Value}
theorem LLat.na (h : LLat H a ns vs) : a ∉ ns := fun hin => by
  obtain ⟨⟨mc, h1⟩, -, -, -, -, h6⟩ := h
  obtain ⟨i, hi⟩ := List.getElem?_of_mem hin
  have := (h6 i a hi).1
  rw [h1] at this
  cases this
theorem LLat.lt (h : LLat H a ns vs) {q : Nat} (hq : q ∈ ns) : q < H.1 := by
  obtain ⟨i, hi⟩ := List.getElem?_of_mem hq
  exact (h.2.2.2.2.2 i q hi).2
theorem okF_R {v : Value} (h : isR v = true) : okF 2 v = true := by cases v <;> first | rfl | cases h
theorem ndV_n (q : Nat) (ns : List Nat) (i : Nat) : ndV (q :: ns) (i + 1) = ndV ns i := rfl
theorem ll_pop {q : Nat} (h : LLat H a (q :: ns) (v :: vs)) : ∃ H2, M2 (d + 2) 47011 [.ref a] H = some (.inl (some v), H2) ∧ LLat H2 a ns vs ∧ Fr H H2 (fun x => x = a ∨ x ∈ q :: ns) ∧ H2.1 = H.1 ∧ H2.2.1 = H.2.1 := by
  have na := h.na
  obtain ⟨⟨mc, h1⟩, h2, h3, h4, h5, h6⟩ := h
  have h2' : ns.length = vs.length := Nat.succ.inj h2
  obtain ⟨x1, x2⟩ := h6 0 q rfl
  have hv : isR v = true := h5 v (List.mem_cons_self)
  have kv := okF_R hv
  have aq : q ≠ a := fun y => na (y ▸ List.mem_cons_self)
  have aq' := Ne.symm aq
  have e0 : ndV (q :: ns) 0 = .ref q := rfl
  rw [e0] at h1
  have p0 : prvV (q :: ns) 0 = .null := rfl
  have g0 : (v :: vs).getD 0 .null = v := rfl
  rw [p0, g0] at x1
  have hqn : ¬ ((.ref q : Value) = .null) := fun z => by cases z
  cases ns with
  | nil =>
    have v0 : vs = [] := List.eq_nil_of_length_eq_zero h2'.symm
    subst v0
    have x1 : jm H q = some (70, 3, o70 v .null .null) := x1
    have h1 : jm H a = some (47, 4, o47 mc (1 : Nat) (.ref q) (prvV [q] 1)) := h1
    refine ⟨jset (jset H q (70, 3, o70 .null .null .null)) a (47, 4, o47 (mc + 1) 0 .null .null), ?_, ⟨⟨mc + 1, jm_s1⟩, rfl, by decide, List.nodup_nil, fun w hw => (by cases hw), fun i q hq => by simp at hq⟩, ⟨Nat.le_refl _, rfl, fun x hx hp => ?_⟩, rfl, rfl⟩
    · rw [Y47011 H (jrecv_in h1 rfl), F47011_0]
      simp (disch := first | assumption | omega | decide | exact okF_i | exact okF_r | exact okF_n | exact okF_j | rfl) only [jc_ref, rI_int, rR_ref, rR_null, rJ_long, ckR_ref, ckR_null, ckr_ref, ckr_null, ckW_int, ckW_ref, ckW_null, cI_ok, cR_ok, cR_null, cV_ok, cJ_ok, qH_eq, qD_in, aG_ref, aS_ref, aL_ref, pF_ref, cK_ref, cK_null, zI_lit, zJ_lit, zI_add, zI_sub, zI_mul, zI_neg, zI_eq, zI_lt, zI_le, Int.reduceLT, Int.reduceLE, Int.reduceAdd, Int.reduceSub, Int.reduceMul, Int.reduceNeg, Int.reduceEq, Int.reduceNe, reduceIte, jf_in, pFc_in, aGi, aGb, aSi, aLc_in, cKc_in, nA_in, jm_s1, jm_s2, jm_p1, jm_p2, jm_b, jn_b, jn_s, jn_p, jset_jset, jset_jpush2, ckR_is, ckr_is, rR_is, ckW_is, cR_is, obi2, ckW_int, eq_self, if_true, ref_null, if_false, ne_eq, not_true_eq_false, not_false_eq_true, decide_true, decide_false, decide_not, Bool.true_and, Bool.false_and, Bool.and_true, Bool.and_false, Bool.true_or, Bool.false_or, Bool.or_true, Bool.or_false, Bool.not_true, Bool.not_false, Bool.false_eq_true, bI_t, bI_f, Int.natCast_one, Int.cast_ofNat_Int, Int.natCast_zero, o47_0, o47_1, o47_2, o47_3, n47, o47s_0, o47s_1, o47s_2, o47s_3, o70_0, o70_1, o70_2, n70, o70s_0, o70s_1, o70s_2, o77_0, o77_1, o77_2, o77_3, o77_4, n77, o77s_0, o77s_1, o77s_2, o77s_3, o77s_4, h1]
      rw [Y47016 H rfl (jrecv_in h1 rfl), F47016_0]
      simp (disch := first | assumption | omega | decide | exact okF_i | exact okF_r | exact okF_n | exact okF_j | rfl) only [jc_ref, rI_int, rR_ref, rR_null, rJ_long, ckR_ref, ckR_null, ckr_ref, ckr_null, ckW_int, ckW_ref, ckW_null, cI_ok, cR_ok, cR_null, cV_ok, cJ_ok, qH_eq, qD_in, aG_ref, aS_ref, aL_ref, pF_ref, cK_ref, cK_null, zI_lit, zJ_lit, zI_add, zI_sub, zI_mul, zI_neg, zI_eq, zI_lt, zI_le, Int.reduceLT, Int.reduceLE, Int.reduceAdd, Int.reduceSub, Int.reduceMul, Int.reduceNeg, Int.reduceEq, Int.reduceNe, reduceIte, jf_in, pFc_in, aGi, aGb, aSi, aLc_in, cKc_in, nA_in, jm_s1, jm_s2, jm_p1, jm_p2, jm_b, jn_b, jn_s, jn_p, jset_jset, jset_jpush2, ckR_is, ckr_is, rR_is, ckW_is, cR_is, obi2, ckW_int, eq_self, if_true, ref_null, if_false, ne_eq, not_true_eq_false, not_false_eq_true, decide_true, decide_false, decide_not, Bool.true_and, Bool.false_and, Bool.and_true, Bool.and_false, Bool.true_or, Bool.false_or, Bool.or_true, Bool.or_false, Bool.not_true, Bool.not_false, Bool.false_eq_true, bI_t, bI_f, Int.natCast_one, Int.cast_ofNat_Int, Int.natCast_zero, o47_0, o47_1, o47_2, o47_3, n47, o47s_0, o47s_1, o47s_2, o47s_3, o70_0, o70_1, o70_2, n70, o70s_0, o70s_1, o70s_2, o77_0, o77_1, o77_2, o77_3, o77_4, n77, o77s_0, o77s_1, o77s_2, o77s_3, o77s_4, h1, x1]
    · rw [jm_s2 (fun z => hp (Or.inl z)), jm_s2 (fun z => hp (Or.inr (by rw [z]; exact List.mem_cons_self)))]
  | cons z r =>
    obtain ⟨y1, y2⟩ := h6 1 z rfl
    have x1 : jm H q = some (70, 3, o70 v (.ref z) .null) := x1
    have y1 : jm H z = some (70, 3, o70 (vs.getD 0 .null) (ndV (z :: r) 1) (.ref q)) := y1
    have zq : z ≠ q := fun y => by
      have := (List.nodup_cons.mp h4).1
      exact this (y ▸ List.mem_cons_self)
    have zq' := Ne.symm zq
    have za : z ≠ a := fun y => na (y ▸ List.mem_cons_of_mem _ List.mem_cons_self)
    have za' := Ne.symm za
    have hzn : ¬ ((.ref z : Value) = .null) := fun z => by cases z
    refine ⟨jset (jset (jset (jset H q (70, 3, o70 .null .null .null)) a (47, 4, o47 mc (vs.length + 1) (.ref z) (prvV (q :: z :: r) (r.length + 2)))) z (70, 3, o70 (vs.getD 0 .null) (ndV (z :: r) 1) .null)) a (47, 4, o47 (mc + 1) vs.length (.ref z) (prvV (q :: z :: r) (r.length + 2))), ?_, ⟨⟨mc + 1, ?_⟩, h2', Nat.lt_trans (Nat.lt_succ_self _) h3, (List.nodup_cons.mp h4).2, fun w hw => h5 w (List.mem_cons_of_mem _ hw), fun i x hx => ?_⟩, ⟨Nat.le_refl _, rfl, fun x hx hp => ?_⟩, rfl, rfl⟩
    · have k1 : isR (vs.getD 0 .null) = true := h5 _ (List.mem_cons_of_mem _ (getD_in (by rw [← h2']; simp)))
      have k2 := okF_R k1
      have k3 : isR (ndV (z :: r) 1) = true := ndV_R
      have k4 := okF_R k3
      rw [Y47011 H (jrecv_in h1 rfl), F47011_0]
      simp (disch := first | assumption | omega | decide | exact okF_i | exact okF_r | exact okF_n | exact okF_j | rfl) only [jc_ref, rI_int, rR_ref, rR_null, rJ_long, ckR_ref, ckR_null, ckr_ref, ckr_null, ckW_int, ckW_ref, ckW_null, cI_ok, cR_ok, cR_null, cV_ok, cJ_ok, qH_eq, qD_in, aG_ref, aS_ref, aL_ref, pF_ref, cK_ref, cK_null, zI_lit, zJ_lit, zI_add, zI_sub, zI_mul, zI_neg, zI_eq, zI_lt, zI_le, Int.reduceLT, Int.reduceLE, Int.reduceAdd, Int.reduceSub, Int.reduceMul, Int.reduceNeg, Int.reduceEq, Int.reduceNe, reduceIte, jf_in, pFc_in, aGi, aGb, aSi, aLc_in, cKc_in, nA_in, jm_s1, jm_s2, jm_p1, jm_p2, jm_b, jn_b, jn_s, jn_p, jset_jset, jset_jpush2, ckR_is, ckr_is, rR_is, ckW_is, cR_is, obi2, ckW_int, eq_self, if_true, ref_null, if_false, ne_eq, not_true_eq_false, not_false_eq_true, decide_true, decide_false, decide_not, Bool.true_and, Bool.false_and, Bool.and_true, Bool.and_false, Bool.true_or, Bool.false_or, Bool.or_true, Bool.or_false, Bool.not_true, Bool.not_false, Bool.false_eq_true, bI_t, bI_f, Int.natCast_one, Int.cast_ofNat_Int, Int.natCast_zero, o47_0, o47_1, o47_2, o47_3, n47, o47s_0, o47s_1, o47s_2, o47s_3, o70_0, o70_1, o70_2, n70, o70s_0, o70s_1, o70s_2, o77_0, o77_1, o77_2, o77_3, o77_4, n77, o77s_0, o77s_1, o77s_2, o77s_3, o77s_4, h1]
      rw [Y47016 H rfl (jrecv_in h1 rfl), F47016_0]
      simp (disch := first | assumption | omega | decide | exact okF_i | exact okF_r | exact okF_n | exact okF_j | rfl) only [jc_ref, rI_int, rR_ref, rR_null, rJ_long, ckR_ref, ckR_null, ckr_ref, ckr_null, ckW_int, ckW_ref, ckW_null, cI_ok, cR_ok, cR_null, cV_ok, cJ_ok, qH_eq, qD_in, aG_ref, aS_ref, aL_ref, pF_ref, cK_ref, cK_null, zI_lit, zJ_lit, zI_add, zI_sub, zI_mul, zI_neg, zI_eq, zI_lt, zI_le, Int.reduceLT, Int.reduceLE, Int.reduceAdd, Int.reduceSub, Int.reduceMul, Int.reduceNeg, Int.reduceEq, Int.reduceNe, reduceIte, jf_in, pFc_in, aGi, aGb, aSi, aLc_in, cKc_in, nA_in, jm_s1, jm_s2, jm_p1, jm_p2, jm_b, jn_b, jn_s, jn_p, jset_jset, jset_jpush2, ckR_is, ckr_is, rR_is, ckW_is, cR_is, obi2, ckW_int, eq_self, if_true, ref_null, if_false, ne_eq, not_true_eq_false, not_false_eq_true, decide_true, decide_false, decide_not, Bool.true_and, Bool.false_and, Bool.and_true, Bool.and_false, Bool.true_or, Bool.false_or, Bool.or_true, Bool.or_false, Bool.not_true, Bool.not_false, Bool.false_eq_true, bI_t, bI_f, Int.natCast_one, Int.cast_ofNat_Int, Int.natCast_zero, o47_0, o47_1, o47_2, o47_3, n47, o47s_0, o47s_1, o47s_2, o47s_3, o70_0, o70_1, o70_2, n70, o70s_0, o70s_1, o70s_2, o77_0, o77_1, o77_2, o77_3, o77_4, n77, o77s_0, o77s_1, o77s_2, o77s_3, o77s_4, h1, x1, y1, List.length_cons, Int.natCast_add, Int.add_sub_cancel]
    · rw [jm_s1]
      have e1 : prvV (q :: z :: r) (r.length + 2) = prvV (z :: r) (z :: r).length := by
        unfold prvV
        rw [if_neg (by omega), if_neg (by simp), List.length_cons, show r.length + 2 - 1 = r.length + 1 - 1 + 1 by omega]
        rfl
      rw [e1]; rfl
    · have hx2 : (q :: z :: r)[i + 1]? = some x := hx
      obtain ⟨w1, w2⟩ := h6 (i + 1) x hx2
      refine ⟨?_, w2⟩
      have xa : x ≠ a := fun y => na (y ▸ List.mem_of_getElem? hx2)
      have xq : x ≠ q := fun y => (List.nodup_cons.mp h4).1 (y ▸ List.mem_of_getElem? hx)
      rw [jm_s2 xa]
      by_cases hi : i = 0
      · subst hi
        have : z = x := Option.some.inj hx
        subst this
        rw [jm_s1]; rfl
      · have xz : x ≠ z := fun y => by
          have h0 : (z :: r)[0]? = some z := rfl
          rw [y] at hx
          have := (List.getElem?_inj (by simp) (List.nodup_cons.mp h4).2).mp (h0.trans hx.symm)
          exact hi this.symm
        rw [jm_s2 xz, jm_s2 xa, jm_s2 xq, w1]
        have e1 : prvV (q :: z :: r) (i + 1) = prvV (z :: r) i := by
          unfold prvV
          rw [if_neg (by omega), if_neg hi, show i + 1 - 1 = i - 1 + 1 by omega]
          rfl
        rw [e1]; rfl
    · have xa : x ≠ a := fun z => hp (Or.inl z)
      have xq : x ≠ q := fun z => hp (Or.inr (z ▸ List.mem_cons_self))
      have xz : x ≠ z := fun y => hp (Or.inr (y ▸ List.mem_cons_of_mem _ List.mem_cons_self))
      rw [jm_s2 xa, jm_s2 xz, jm_s2 xa, jm_s2 xq]
theorem nd_at (h : LLat H a ns vs) {j : Nat} (hj : j < ns.length) : ∃ q, ns[j]? = some q ∧ ndV ns j = .ref q ∧ jm H q = some (70, 3, o70 (vs.getD j .null) (ndV ns (j + 1)) (prvV ns j)) ∧ isR (vs.getD j .null) = true := by
  have e : ns[j]? = some (ns[j]'hj) := List.getElem?_eq_getElem hj
  have l2 := h.2.1
  exact ⟨_, e, ndV_in e, (h.2.2.2.2.2 _ _ e).1, h.2.2.2.2.1 _ (getD_in (by omega))⟩
theorem nd_fwd (h : LLat H a ns vs) {k : Nat} (hk : k < ns.length) : ∀ (n j : Nat), j + n = k → G2 d 47009 17 [.ref a, .int (zI k), ndV ns j, .int (zI j)] [] H = some (.inl (some (ndV ns k)), H)
  | 0, j, e => by
    have hl := h.2.2.1
    obtain ⟨q, y1, y2, -⟩ := nd_at h hk
    have : j = k := by omega
    subst this
    rw [y2, F47009_17]
    simp (disch := first | assumption | omega | decide | exact okF_i | exact okF_r | exact okF_n | exact okF_j | rfl) only [jc_ref, rI_int, rR_ref, rR_null, rJ_long, ckR_ref, ckR_null, ckr_ref, ckr_null, ckW_int, ckW_ref, ckW_null, cI_ok, cR_ok, cR_null, cV_ok, cJ_ok, qH_eq, qD_in, aG_ref, aS_ref, aL_ref, pF_ref, cK_ref, cK_null, zI_lit, zJ_lit, zI_add, zI_sub, zI_mul, zI_neg, zI_eq, zI_lt, zI_le, Int.reduceLT, Int.reduceLE, Int.reduceAdd, Int.reduceSub, Int.reduceMul, Int.reduceNeg, Int.reduceEq, Int.reduceNe, reduceIte, jf_in, pFc_in, aGi, aGb, aSi, aLc_in, cKc_in, nA_in, jm_s1, jm_s2, jm_p1, jm_p2, jm_b, jn_b, jn_s, jn_p, jset_jset, jset_jpush2, ckR_is, ckr_is, rR_is, ckW_is, cR_is, obi2, ckW_int, eq_self, if_true, ref_null, if_false, ne_eq, not_true_eq_false, not_false_eq_true, decide_true, decide_false, decide_not, Bool.true_and, Bool.false_and, Bool.and_true, Bool.and_false, Bool.true_or, Bool.false_or, Bool.or_true, Bool.or_false, Bool.not_true, Bool.not_false, Bool.false_eq_true, bI_t, bI_f, Int.natCast_one, Int.cast_ofNat_Int, Int.natCast_zero, o47_0, o47_1, o47_2, o47_3, n47, o47s_0, o47s_1, o47s_2, o47s_3, o70_0, o70_1, o70_2, n70, o70s_0, o70s_1, o70s_2, o77_0, o77_1, o77_2, o77_3, o77_4, n77, o77s_0, o77s_1, o77s_2, o77s_3, o77s_4]
    rw [if_pos (by omega)]
  | n + 1, j, e => by
    have hl := h.2.2.1
    obtain ⟨q, y1, y2, y3, y4⟩ := nd_at h (j := j) (by omega)
    obtain ⟨q2, z1, z2, -⟩ := nd_at h (j := j + 1) (by omega)
    have ih := nd_fwd h hk n (j + 1) (by omega)
    rw [y2, F47009_17]
    rw [z2] at y3 ih
    simp (disch := first | assumption | omega | decide | exact okF_i | exact okF_r | exact okF_n | exact okF_j | rfl) only [jc_ref, rI_int, rR_ref, rR_null, rJ_long, ckR_ref, ckR_null, ckr_ref, ckr_null, ckW_int, ckW_ref, ckW_null, cI_ok, cR_ok, cR_null, cV_ok, cJ_ok, qH_eq, qD_in, aG_ref, aS_ref, aL_ref, pF_ref, cK_ref, cK_null, zI_lit, zJ_lit, zI_add, zI_sub, zI_mul, zI_neg, zI_eq, zI_lt, zI_le, Int.reduceLT, Int.reduceLE, Int.reduceAdd, Int.reduceSub, Int.reduceMul, Int.reduceNeg, Int.reduceEq, Int.reduceNe, reduceIte, jf_in, pFc_in, aGi, aGb, aSi, aLc_in, cKc_in, nA_in, jm_s1, jm_s2, jm_p1, jm_p2, jm_b, jn_b, jn_s, jn_p, jset_jset, jset_jpush2, ckR_is, ckr_is, rR_is, ckW_is, cR_is, obi2, ckW_int, eq_self, if_true, ref_null, if_false, ne_eq, not_true_eq_false, not_false_eq_true, decide_true, decide_false, decide_not, Bool.true_and, Bool.false_and, Bool.and_true, Bool.and_false, Bool.true_or, Bool.false_or, Bool.or_true, Bool.or_false, Bool.not_true, Bool.not_false, Bool.false_eq_true, bI_t, bI_f, Int.natCast_one, Int.cast_ofNat_Int, Int.natCast_zero, o47_0, o47_1, o47_2, o47_3, n47, o47s_0, o47s_1, o47s_2, o47s_3, o70_0, o70_1, o70_2, n70, o70s_0, o70s_1, o70s_2, o77_0, o77_1, o77_2, o77_3, o77_4, n77, o77s_0, o77s_1, o77s_2, o77s_3, o77s_4, y3]
    rw [if_neg (by omega)]
    exact ih
theorem nd_bwd (h : LLat H a ns vs) {k : Nat} : ∀ (n j : Nat), k + n = j → j < ns.length → G2 d 47009 47 [.ref a, .int (zI k), ndV ns j, .int (zI j)] [] H = some (.inl (some (ndV ns k)), H)
  | 0, j, e, hj => by
    have hl := h.2.2.1
    obtain ⟨q, y1, y2, -⟩ := nd_at h hj
    have : j = k := by omega
    subst this
    rw [y2, F47009_47]
    simp (disch := first | assumption | omega | decide | exact okF_i | exact okF_r | exact okF_n | exact okF_j | rfl) only [jc_ref, rI_int, rR_ref, rR_null, rJ_long, ckR_ref, ckR_null, ckr_ref, ckr_null, ckW_int, ckW_ref, ckW_null, cI_ok, cR_ok, cR_null, cV_ok, cJ_ok, qH_eq, qD_in, aG_ref, aS_ref, aL_ref, pF_ref, cK_ref, cK_null, zI_lit, zJ_lit, zI_add, zI_sub, zI_mul, zI_neg, zI_eq, zI_lt, zI_le, Int.reduceLT, Int.reduceLE, Int.reduceAdd, Int.reduceSub, Int.reduceMul, Int.reduceNeg, Int.reduceEq, Int.reduceNe, reduceIte, jf_in, pFc_in, aGi, aGb, aSi, aLc_in, cKc_in, nA_in, jm_s1, jm_s2, jm_p1, jm_p2, jm_b, jn_b, jn_s, jn_p, jset_jset, jset_jpush2, ckR_is, ckr_is, rR_is, ckW_is, cR_is, obi2, ckW_int, eq_self, if_true, ref_null, if_false, ne_eq, not_true_eq_false, not_false_eq_true, decide_true, decide_false, decide_not, Bool.true_and, Bool.false_and, Bool.and_true, Bool.and_false, Bool.true_or, Bool.false_or, Bool.or_true, Bool.or_false, Bool.not_true, Bool.not_false, Bool.false_eq_true, bI_t, bI_f, Int.natCast_one, Int.cast_ofNat_Int, Int.natCast_zero, o47_0, o47_1, o47_2, o47_3, n47, o47s_0, o47s_1, o47s_2, o47s_3, o70_0, o70_1, o70_2, n70, o70s_0, o70s_1, o70s_2, o77_0, o77_1, o77_2, o77_3, o77_4, n77, o77s_0, o77s_1, o77s_2, o77s_3, o77s_4]
    rw [if_pos (by omega)]
  | n + 1, j, e, hj => by
    have hl := h.2.2.1
    obtain ⟨q, y1, y2, y3, y4⟩ := nd_at h hj
    obtain ⟨q2, z1, z2, -⟩ := nd_at h (j := j - 1) (by omega)
    have ih := nd_bwd h (k := k) n (j - 1) (by omega) (by omega)
    have ep : prvV ns j = .ref q2 := by unfold prvV; rw [if_neg (by omega)]; exact z2
    rw [y2, F47009_47]
    rw [z2] at ih
    rw [ep] at y3
    simp (disch := first | assumption | omega | decide | exact okF_i | exact okF_r | exact okF_n | exact okF_j | rfl) only [jc_ref, rI_int, rR_ref, rR_null, rJ_long, ckR_ref, ckR_null, ckr_ref, ckr_null, ckW_int, ckW_ref, ckW_null, cI_ok, cR_ok, cR_null, cV_ok, cJ_ok, qH_eq, qD_in, aG_ref, aS_ref, aL_ref, pF_ref, cK_ref, cK_null, zI_lit, zJ_lit, zI_add, zI_sub, zI_mul, zI_neg, zI_eq, zI_lt, zI_le, Int.reduceLT, Int.reduceLE, Int.reduceAdd, Int.reduceSub, Int.reduceMul, Int.reduceNeg, Int.reduceEq, Int.reduceNe, reduceIte, jf_in, pFc_in, aGi, aGb, aSi, aLc_in, cKc_in, nA_in, jm_s1, jm_s2, jm_p1, jm_p2, jm_b, jn_b, jn_s, jn_p, jset_jset, jset_jpush2, ckR_is, ckr_is, rR_is, ckW_is, cR_is, obi2, ckW_int, eq_self, if_true, ref_null, if_false, ne_eq, not_true_eq_false, not_false_eq_true, decide_true, decide_false, decide_not, Bool.true_and, Bool.false_and, Bool.and_true, Bool.and_false, Bool.true_or, Bool.false_or, Bool.or_true, Bool.or_false, Bool.not_true, Bool.not_false, Bool.false_eq_true, bI_t, bI_f, Int.natCast_one, Int.cast_ofNat_Int, Int.natCast_zero, o47_0, o47_1, o47_2, o47_3, n47, o47s_0, o47s_1, o47s_2, o47s_3, o70_0, o70_1, o70_2, n70, o70s_0, o70s_1, o70s_2, o77_0, o77_1, o77_2, o77_3, o77_4, n77, o77s_0, o77s_1, o77s_2, o77s_3, o77s_4, y3]
    rw [if_neg (by omega), show (j : Int) + -1 = ((j - 1 : Nat) : Int) by omega]
    exact ih
theorem ll_node (h : LLat H a ns vs) {k : Nat} (hk : k < ns.length) : M2 (d + 1) 47009 [.ref a, .int (zI k)] H = some (.inl (some (ndV ns k)), H) := by
  have hl := h.2.2.1
  have f1 := nd_fwd (d := d) h hk k 0 (by omega)
  have f2 := nd_bwd (d := d) h (k := k) (ns.length - 1 - k) (ns.length - 1) (by omega) (by omega)
  obtain ⟨q, y1, y2, -⟩ := nd_at h (j := 0) (by omega)
  obtain ⟨q2, z1, z2, -⟩ := nd_at h (j := ns.length - 1) (by omega)
  have ep : prvV ns ns.length = .ref q2 := by unfold prvV; rw [if_neg (by omega)]; exact z2
  obtain ⟨⟨mc, h1⟩, h2, -⟩ := h
  rw [y2, ep] at h1
  rw [y2] at f1
  rw [z2] at f2
  have sr : (zI vs.length >>> (zI 1 &&& zI 31)) = zI ((vs.length : Int) / 2) := sar1 (by omega) (by omega)
  rw [Y47009 H (jrecv_in h1 rfl), F47009_0]
  simp (disch := first | assumption | omega | decide | exact okF_i | exact okF_r | exact okF_n | exact okF_j | rfl) only [jc_ref, rI_int, rR_ref, rR_null, rJ_long, ckR_ref, ckR_null, ckr_ref, ckr_null, ckW_int, ckW_ref, ckW_null, cI_ok, cR_ok, cR_null, cV_ok, cJ_ok, qH_eq, qD_in, aG_ref, aS_ref, aL_ref, pF_ref, cK_ref, cK_null, zI_lit, zJ_lit, zI_add, zI_sub, zI_mul, zI_neg, zI_eq, zI_lt, zI_le, Int.reduceLT, Int.reduceLE, Int.reduceAdd, Int.reduceSub, Int.reduceMul, Int.reduceNeg, Int.reduceEq, Int.reduceNe, reduceIte, jf_in, pFc_in, aGi, aGb, aSi, aLc_in, cKc_in, nA_in, jm_s1, jm_s2, jm_p1, jm_p2, jm_b, jn_b, jn_s, jn_p, jset_jset, jset_jpush2, ckR_is, ckr_is, rR_is, ckW_is, cR_is, obi2, ckW_int, eq_self, if_true, ref_null, if_false, ne_eq, not_true_eq_false, not_false_eq_true, decide_true, decide_false, decide_not, Bool.true_and, Bool.false_and, Bool.and_true, Bool.and_false, Bool.true_or, Bool.false_or, Bool.or_true, Bool.or_false, Bool.not_true, Bool.not_false, Bool.false_eq_true, bI_t, bI_f, Int.natCast_one, Int.cast_ofNat_Int, Int.natCast_zero, o47_0, o47_1, o47_2, o47_3, n47, o47s_0, o47s_1, o47s_2, o47s_3, o70_0, o70_1, o70_2, n70, o70s_0, o70s_1, o70s_2, o77_0, o77_1, o77_2, o77_3, o77_4, n77, o77s_0, o77s_1, o77s_2, o77s_3, o77s_4, h1, sr]
  by_cases hc : ((vs.length : Int) / 2) ≤ k
  · rw [if_pos hc, show (vs.length : Int) - 1 = ((ns.length - 1 : Nat) : Int) by omega]
    exact f2
  · rw [if_neg hc]
    exact f1
theorem ll_get (h : LLat H a ns vs) {k : Nat} (hk : k < vs.length) : M2 (d + 3) 47003 [.ref a, .int (zI k)] H = some (.inl (some (vs.getD k .null)), H) := by
  have hl := h.2.2.1
  have l2 := h.2.1
  obtain ⟨q, y1, y2, y3, y4⟩ := nd_at h (j := k) (by omega)
  have nd := ll_node (d := d + 1) h (k := k) (by omega)
  rw [y2] at nd
  obtain ⟨⟨mc, h1⟩, h2, -⟩ := h
  have e1 : M2 (d + 1) 47005 [.ref a, .int (zI k)] H = some (.inl (some (.int (zI 1))), H) := by
    rw [Y47005 H (jrecv_in h1 rfl), F47005_0]
    simp (disch := first | assumption | omega | decide | exact okF_i | exact okF_r | exact okF_n | exact okF_j | rfl) only [jc_ref, rI_int, rR_ref, rR_null, rJ_long, ckR_ref, ckR_null, ckr_ref, ckr_null, ckW_int, ckW_ref, ckW_null, cI_ok, cR_ok, cR_null, cV_ok, cJ_ok, qH_eq, qD_in, aG_ref, aS_ref, aL_ref, pF_ref, cK_ref, cK_null, zI_lit, zJ_lit, zI_add, zI_sub, zI_mul, zI_neg, zI_eq, zI_lt, zI_le, Int.reduceLT, Int.reduceLE, Int.reduceAdd, Int.reduceSub, Int.reduceMul, Int.reduceNeg, Int.reduceEq, Int.reduceNe, reduceIte, jf_in, pFc_in, aGi, aGb, aSi, aLc_in, cKc_in, nA_in, jm_s1, jm_s2, jm_p1, jm_p2, jm_b, jn_b, jn_s, jn_p, jset_jset, jset_jpush2, ckR_is, ckr_is, rR_is, ckW_is, cR_is, obi2, ckW_int, eq_self, if_true, ref_null, if_false, ne_eq, not_true_eq_false, not_false_eq_true, decide_true, decide_false, decide_not, Bool.true_and, Bool.false_and, Bool.and_true, Bool.and_false, Bool.true_or, Bool.false_or, Bool.or_true, Bool.or_false, Bool.not_true, Bool.not_false, Bool.false_eq_true, bI_t, bI_f, Int.natCast_one, Int.cast_ofNat_Int, Int.natCast_zero, o47_0, o47_1, o47_2, o47_3, n47, o47s_0, o47s_1, o47s_2, o47s_3, o70_0, o70_1, o70_2, n70, o70s_0, o70s_1, o70s_2, o77_0, o77_1, o77_2, o77_3, o77_4, n77, o77s_0, o77s_1, o77s_2, o77s_3, o77s_4, h1]
    rw [if_neg (by omega), if_neg (by omega)]
  have e2 : M2 (d + 2) 47001 [.ref a, .int (zI k)] H = some (.inl none, H) := by
    rw [Y47001 H (jrecv_in h1 rfl), F47001_0, e1]
    simp (disch := first | assumption | omega | decide | exact okF_i | exact okF_r | exact okF_n | exact okF_j | rfl) only [jc_ref, rI_int, rR_ref, rR_null, rJ_long, ckR_ref, ckR_null, ckr_ref, ckr_null, ckW_int, ckW_ref, ckW_null, cI_ok, cR_ok, cR_null, cV_ok, cJ_ok, qH_eq, qD_in, aG_ref, aS_ref, aL_ref, pF_ref, cK_ref, cK_null, zI_lit, zJ_lit, zI_add, zI_sub, zI_mul, zI_neg, zI_eq, zI_lt, zI_le, Int.reduceLT, Int.reduceLE, Int.reduceAdd, Int.reduceSub, Int.reduceMul, Int.reduceNeg, Int.reduceEq, Int.reduceNe, reduceIte, jf_in, pFc_in, aGi, aGb, aSi, aLc_in, cKc_in, nA_in, jm_s1, jm_s2, jm_p1, jm_p2, jm_b, jn_b, jn_s, jn_p, jset_jset, jset_jpush2, ckR_is, ckr_is, rR_is, ckW_is, cR_is, obi2, ckW_int, eq_self, if_true, ref_null, if_false, ne_eq, not_true_eq_false, not_false_eq_true, decide_true, decide_false, decide_not, Bool.true_and, Bool.false_and, Bool.and_true, Bool.and_false, Bool.true_or, Bool.false_or, Bool.or_true, Bool.or_false, Bool.not_true, Bool.not_false, Bool.false_eq_true, bI_t, bI_f, Int.natCast_one, Int.cast_ofNat_Int, Int.natCast_zero, o47_0, o47_1, o47_2, o47_3, n47, o47s_0, o47s_1, o47s_2, o47s_3, o70_0, o70_1, o70_2, n70, o70s_0, o70s_1, o70s_2, o77_0, o77_1, o77_2, o77_3, o77_4, n77, o77s_0, o77s_1, o77s_2, o77s_3, o77s_4]
  rw [Y47003 H (jrecv_in h1 rfl), F47003_0]
  simp (disch := first | assumption | omega | decide | exact okF_i | exact okF_r | exact okF_n | exact okF_j | rfl) only [jc_ref, rI_int, rR_ref, rR_null, rJ_long, ckR_ref, ckR_null, ckr_ref, ckr_null, ckW_int, ckW_ref, ckW_null, cI_ok, cR_ok, cR_null, cV_ok, cJ_ok, qH_eq, qD_in, aG_ref, aS_ref, aL_ref, pF_ref, cK_ref, cK_null, zI_lit, zJ_lit, zI_add, zI_sub, zI_mul, zI_neg, zI_eq, zI_lt, zI_le, Int.reduceLT, Int.reduceLE, Int.reduceAdd, Int.reduceSub, Int.reduceMul, Int.reduceNeg, Int.reduceEq, Int.reduceNe, reduceIte, jf_in, pFc_in, aGi, aGb, aSi, aLc_in, cKc_in, nA_in, jm_s1, jm_s2, jm_p1, jm_p2, jm_b, jn_b, jn_s, jn_p, jset_jset, jset_jpush2, ckR_is, ckr_is, rR_is, ckW_is, cR_is, obi2, ckW_int, eq_self, if_true, ref_null, if_false, ne_eq, not_true_eq_false, not_false_eq_true, decide_true, decide_false, decide_not, Bool.true_and, Bool.false_and, Bool.and_true, Bool.and_false, Bool.true_or, Bool.false_or, Bool.or_true, Bool.or_false, Bool.not_true, Bool.not_false, Bool.false_eq_true, bI_t, bI_f, Int.natCast_one, Int.cast_ofNat_Int, Int.natCast_zero, o47_0, o47_1, o47_2, o47_3, n47, o47s_0, o47s_1, o47s_2, o47s_3, o70_0, o70_1, o70_2, n70, o70s_0, o70s_1, o70s_2, o77_0, o77_1, o77_2, o77_3, o77_4, n77, o77s_0, o77s_1, o77s_2, o77s_3, o77s_4, e2, nd, y3]
theorem jset_id {h : AH} {a : Nat} {c : Cl} (m : jm h a = some c) : jset h a c = h := by
  unfold jset
  refine Prod.ext rfl (Prod.ext rfl (Prod.ext rfl (funext fun q => ?_)))
  show (if q = a then some c else h.2.2.2 q) = h.2.2.2 q
  by_cases hq : q = a
  · rw [if_pos hq, hq]; exact m.symm
  · rw [if_neg hq]
theorem LLat.ne (h : LLat H a ns vs) {e : Nat} {c : Cl} (he : jm H e = some c) (hc : 100 ≤ c.1) : e ≠ a ∧ ∀ q ∈ ns, q ≠ e := by
  constructor
  · intro z
    obtain ⟨⟨mc, h1⟩, -⟩ := h
    rw [z, h1] at he
    cases he; exact absurd hc (by show ¬ 100 ≤ 47; decide)
  · intro q hq z
    obtain ⟨i, hi⟩ := List.getElem?_of_mem hq
    have := (h.2.2.2.2.2 i q hi).1
    rw [z, he] at this
    cases this; exact absurd hc (by show ¬ 100 ≤ 70; decide)
theorem ta_loop (h : LLat H a ns vs) (ha : a < H.1) {e : Nat} {f : Nat → Value} (he : jm H e = some (1040, vs.length, f)) (hok : ∀ v ∈ vs, okH H v) : ∀ (n j : Nat), j + n = vs.length → ∃ g, G2 d 47014 15 [.ref a, .ref e, .int (zI j), ndV ns j] [] H = some (.inl (some (.ref e)), jset H e (1040, vs.length, g)) ∧ (∀ k, k < j → g k = f k) ∧ ∀ k, j ≤ k → k < vs.length → g k = vs.getD k .null := by
  intro n
  induction n generalizing H f with
  | zero =>
    intro j hj
    have l2 := h.2.1
    refine ⟨f, ?_, fun _ _ => rfl, fun k h1 h2 => by omega⟩
    rw [ndV_out (by omega), F47014_15]
    simp (disch := first | assumption | omega | decide | exact okF_i | exact okF_r | exact okF_n | exact okF_j | rfl) only [jc_ref, rI_int, rR_ref, rR_null, rJ_long, ckR_ref, ckR_null, ckr_ref, ckr_null, ckW_int, ckW_ref, ckW_null, cI_ok, cR_ok, cR_null, cV_ok, cJ_ok, qH_eq, qD_in, aG_ref, aS_ref, aL_ref, pF_ref, cK_ref, cK_null, zI_lit, zJ_lit, zI_add, zI_sub, zI_mul, zI_neg, zI_eq, zI_lt, zI_le, Int.reduceLT, Int.reduceLE, Int.reduceAdd, Int.reduceSub, Int.reduceMul, Int.reduceNeg, Int.reduceEq, Int.reduceNe, reduceIte, jf_in, pFc_in, aGi, aGb, aSi, aLc_in, cKc_in, nA_in, jm_s1, jm_s2, jm_p1, jm_p2, jm_b, jn_b, jn_s, jn_p, jset_jset, jset_jpush2, ckR_is, ckr_is, rR_is, ckW_is, cR_is, obi2, ckW_int, eq_self, if_true, ref_null, if_false, ne_eq, not_true_eq_false, not_false_eq_true, decide_true, decide_false, decide_not, Bool.true_and, Bool.false_and, Bool.and_true, Bool.and_false, Bool.true_or, Bool.false_or, Bool.or_true, Bool.or_false, Bool.not_true, Bool.not_false, Bool.false_eq_true, bI_t, bI_f, Int.natCast_one, Int.cast_ofNat_Int, Int.natCast_zero, o47_0, o47_1, o47_2, o47_3, n47, o47s_0, o47s_1, o47s_2, o47s_3, o70_0, o70_1, o70_2, n70, o70s_0, o70s_1, o70s_2, o77_0, o77_1, o77_2, o77_3, o77_4, n77, o77s_0, o77s_1, o77s_2, o77s_3, o77s_4]
    rw [jset_id he]
  | succ n ih =>
    intro j hj
    have l2 := h.2.1
    have hl := h.2.2.1
    obtain ⟨q, y1, y2, y3, y4⟩ := nd_at h (j := j) (by omega)
    obtain ⟨ea, en⟩ := h.ne he (Nat.le_of_ble_eq_true rfl)
    have hin : vs.getD j .null ∈ vs := getD_in (by omega)
    have h2 : LLat (jset H e (1040, vs.length, ju f j (vs.getD j .null))) a ns vs := h.fr (P := fun x => x = e) (Fr.set rfl) ha (Ne.symm ea) (fun q hq => en q hq)
    obtain ⟨g, g1, g2, g3⟩ := ih h2 ha (f := ju f j (vs.getD j .null)) jm_s1 (fun v hv => okH_hi (hok v hv) he (Nat.le_of_ble_eq_true rfl)) (j + 1) (by omega)
    refine ⟨g, ?_, fun k hk => ?_, fun k h1 h2 => ?_⟩
    · have qe : q ≠ e := en q (List.mem_of_getElem? y1)
      have r1 : isR (ndV ns (j + 1)) = true := ndV_R
      have r2 := fun (κ : AH → Rz) (u : Ph κ) => aSr_in (κ := κ) (u := u) he (hok _ hin) (i := j) (by omega) (by omega) (by omega)
      rw [y2, F47014_15]
      simp (disch := first | assumption | omega | decide | exact okF_i | exact okF_r | exact okF_n | exact okF_j | rfl) only [jc_ref, rI_int, rR_ref, rR_null, rJ_long, ckR_ref, ckR_null, ckr_ref, ckr_null, ckW_int, ckW_ref, ckW_null, cI_ok, cR_ok, cR_null, cV_ok, cJ_ok, qH_eq, qD_in, aG_ref, aS_ref, aL_ref, pF_ref, cK_ref, cK_null, zI_lit, zJ_lit, zI_add, zI_sub, zI_mul, zI_neg, zI_eq, zI_lt, zI_le, Int.reduceLT, Int.reduceLE, Int.reduceAdd, Int.reduceSub, Int.reduceMul, Int.reduceNeg, Int.reduceEq, Int.reduceNe, reduceIte, jf_in, pFc_in, aGi, aGb, aSi, aLc_in, cKc_in, nA_in, jm_s1, jm_s2, jm_p1, jm_p2, jm_b, jn_b, jn_s, jn_p, jset_jset, jset_jpush2, ckR_is, ckr_is, rR_is, ckW_is, cR_is, obi2, ckW_int, eq_self, if_true, ref_null, if_false, ne_eq, not_true_eq_false, not_false_eq_true, decide_true, decide_false, decide_not, Bool.true_and, Bool.false_and, Bool.and_true, Bool.and_false, Bool.true_or, Bool.false_or, Bool.or_true, Bool.or_false, Bool.not_true, Bool.not_false, Bool.false_eq_true, bI_t, bI_f, Int.natCast_one, Int.cast_ofNat_Int, Int.natCast_zero, o47_0, o47_1, o47_2, o47_3, n47, o47s_0, o47s_1, o47s_2, o47s_3, o70_0, o70_1, o70_2, n70, o70s_0, o70s_1, o70s_2, o77_0, o77_1, o77_2, o77_3, o77_4, n77, o77s_0, o77s_1, o77s_2, o77s_3, o77s_4, y3, r2, Int.toNat_natCast]
      rw [jset_jset] at g1
      exact g1
    · rw [g2 k (by omega), ju, if_neg (by omega)]
    · by_cases hk : k = j
      · rw [g2 k (by omega), ju, if_pos hk, hk]
      · exact g3 k (by omega) h2
end
