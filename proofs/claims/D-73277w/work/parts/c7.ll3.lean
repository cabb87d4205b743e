/-! LinkedList at H-level: the array, the iterator, what it sets -/
-- jc_ref, rI_int, rR_ref, rR_null, rJ_long, ckR_ref, ckR_null, ckr_ref, ckr_null, ckW_int, ckW_ref, ckW_null, cI_ok, cR_ok, cR_null, cV_ok, cJ_ok, qH_eq, qD_in, aG_ref, aS_ref, aL_ref, pF_ref, cK_ref, cK_null, zI_lit, zJ_lit, zI_add, zI_sub, zI_mul, zI_neg, zI_eq, zI_lt, zI_le, Int.reduceLT, Int.reduceLE, Int.reduceAdd, Int.reduceSub, Int.reduceMul, Int.reduceNeg, Int.reduceEq, Int.reduceNe, reduceIte, jf_in, pFc_in, aGi, aGb, aSi, aLc_in, cKc_in, nA_in, jm_s1, jm_s2, jm_p1, jm_p2, jm_b, jn_b, jn_s, jn_p, jset_jset, jset_jpush2, ckR_is, ckr_is, rR_is, ckW_is, cR_is, obi2, ckW_int, eq_self, if_true, ref_null, if_false, ne_eq, not_true_eq_false, not_false_eq_true, decide_true, decide_false, decide_not, Bool.true_and, Bool.false_and, Bool.and_true, Bool.and_false, Bool.true_or, Bool.false_or, Bool.or_true, Bool.or_false, Bool.not_true, Bool.not_false, Bool.false_eq_true, bI_t, bI_f, Int.natCast_one, Int.cast_ofNat_Int, Int.natCast_zero, o47_0, o47_1, o47_2, o47_3, n47, o47s_0, o47s_1, o47s_2, o47s_3, o70_0, o70_1, o70_2, n70, o70s_0, o70s_1, o70s_2, o77_0, o77_1, o77_2, o77_3, o77_4, n77, o77s_0, o77s_1, o77s_2, o77s_3, o77s_4 = jc_ref, rI_int, rR_ref, rR_null, rJ_long, ckR_ref, ckR_null, ckr_ref, ckr_null, ckW_int, ckW_ref, ckW_null, cI_ok, cR_ok, cR_null, cV_ok, cJ_ok, qH_eq, qD_in, aG_ref, aS_ref, aL_ref, pF_ref, cK_ref, cK_null, zI_lit, zJ_lit, zI_add, zI_sub, zI_mul, zI_neg, zI_eq, zI_lt, zI_le, Int.reduceLT, Int.reduceLE, Int.reduceAdd, Int.reduceSub, Int.reduceMul, Int.reduceNeg, Int.reduceEq, Int.reduceNe, reduceIte, jf_in, pFc_in, aGi, aGb, aSi, aLc_in, cKc_in, nA_in, jm_s1, jm_s2, jm_p1, jm_p2, jm_b, jn_b, jn_s, jn_p, jset_jset, jset_jpush2, ckR_is, ckr_is, rR_is, ckW_is, cR_is, obi2, ckW_int, eq_self, if_true, ref_null, if_false, ne_eq, not_true_eq_false, not_false_eq_true, decide_true, decide_false, decide_not, Bool.true_and, Bool.false_and, Bool.and_true, Bool.and_false, Bool.true_or, Bool.false_or, Bool.or_true, Bool.or_false, Bool.not_true, Bool.not_false, Bool.false_eq_true, bI_t, bI_f, Int.natCast_one, Int.cast_ofNat_Int, Int.natCast_zero, o47_0, o47_1, o47_2, o47_3, n47, o47s_0, o47s_1, o47s_2, o47s_3, o70_0, o70_1, o70_2, n70, o70s_0, o70s_1, o70s_2, o77_0, o77_1, o77_2, o77_3, o77_4, n77, o77s_0, o77s_1, o77s_2, o77s_3, o77s_4
section
variable {d : Nat} {H : AH} {a q : Nat} {ns : List Nat} {vs : List Value} {v : Value}
theorem ll_arr (h : LLat H a ns vs) (ha : a < H.1) (hok : ∀ v ∈ vs, okH H v) : ∃ g, M2 (d + 1) 47014 [.ref a] H = some (.inl (some (.ref H.1)), jpush H (1040, vs.length, g)) ∧ ∀ k, k < vs.length → g k = vs.getD k .null := by
  have l2 := h.2.1
  have hl := h.2.2.1
  have f1 : Fr H (jpush H (1040, vs.length, fun _ => .null)) (fun _ => False) := Fr.push
  have h' : LLat (jpush H (1040, vs.length, fun _ => .null)) a ns vs := h.fr f1 ha (fun z => z) (fun _ _ z => z)
  obtain ⟨g, g1, g2, g3⟩ := ta_loop (d := d) h' (Nat.lt_succ_of_lt ha) (e := H.1) (f := fun _ => .null) jm_p1 (fun v hv => okH_push (hok v hv)) vs.length 0 (by omega)
  refine ⟨g, ?_, fun k hk => g3 k (by omega) hk⟩
  have r1 : isR (ndV ns 0) = true := ndV_R
  have nh : a ≠ H.1 := Nat.ne_of_lt ha
  obtain ⟨⟨mc, h1⟩, -⟩ := h
  have ec : (zI vs.length).toNatClampNeg = vs.length := by rw [zI_clamp (by omega) (by omega)]; omega
  rw [Y47014 H (jrecv_in h1 rfl), F47014_0]
  simp (disch := first | assumption | omega | decide | exact okF_i | exact okF_r | exact okF_n | exact okF_j | rfl) only [jc_ref, rI_int, rR_ref, rR_null, rJ_long, ckR_ref, ckR_null, ckr_ref, ckr_null, ckW_int, ckW_ref, ckW_null, cI_ok, cR_ok, cR_null, cV_ok, cJ_ok, qH_eq, qD_in, aG_ref, aS_ref, aL_ref, pF_ref, cK_ref, cK_null, zI_lit, zJ_lit, zI_add, zI_sub, zI_mul, zI_neg, zI_eq, zI_lt, zI_le, Int.reduceLT, Int.reduceLE, Int.reduceAdd, Int.reduceSub, Int.reduceMul, Int.reduceNeg, Int.reduceEq, Int.reduceNe, reduceIte, jf_in, pFc_in, aGi, aGb, aSi, aLc_in, cKc_in, nA_in, jm_s1, jm_s2, jm_p1, jm_p2, jm_b, jn_b, jn_s, jn_p, jset_jset, jset_jpush2, ckR_is, ckr_is, rR_is, ckW_is, cR_is, obi2, ckW_int, eq_self, if_true, ref_null, if_false, ne_eq, not_true_eq_false, not_false_eq_true, decide_true, decide_false, decide_not, Bool.true_and, Bool.false_and, Bool.and_true, Bool.and_false, Bool.true_or, Bool.false_or, Bool.or_true, Bool.or_false, Bool.not_true, Bool.not_false, Bool.false_eq_true, bI_t, bI_f, Int.natCast_one, Int.cast_ofNat_Int, Int.natCast_zero, o47_0, o47_1, o47_2, o47_3, n47, o47s_0, o47s_1, o47s_2, o47s_3, o70_0, o70_1, o70_2, n70, o70s_0, o70s_1, o70s_2, o77_0, o77_1, o77_2, o77_3, o77_4, n77, o77s_0, o77s_1, o77s_2, o77s_3, o77s_4, h1, ec]
  refine g1.trans ?_
  rw [jset_jpush2]
theorem ll_iter (h : LLat H a ns vs) (ha : a < H.1) {mc : Int} (h1 : jm H a = some (47, 4, o47 mc vs.length (ndV ns 0) (prvV ns ns.length))) : M2 (d + 4) 42000 [.ref a] H = some (.inl (some (.ref H.1)), jpush H (77, 5, o77 .null (ndV ns 0) 0 mc (.ref a))) := by
  have l2 := h.2.1
  have hl := h.2.2.1
  have nh : a ≠ H.1 := Nat.ne_of_lt ha
  have e1 : M2 (d + 1) 47006 [.ref a, .int (zI 0)] H = some (.inl (some (.int (zI 1))), H) := by
    rw [Y47006 H (jrecv_in h1 rfl), F47006_0]
    simp (disch := first | assumption | omega | decide | exact okF_i | exact okF_r | exact okF_n | exact okF_j | rfl) only [jc_ref, rI_int, rR_ref, rR_null, rJ_long, ckR_ref, ckR_null, ckr_ref, ckr_null, ckW_int, ckW_ref, ckW_null, cI_ok, cR_ok, cR_null, cV_ok, cJ_ok, qH_eq, qD_in, aG_ref, aS_ref, aL_ref, pF_ref, cK_ref, cK_null, zI_lit, zJ_lit, zI_add, zI_sub, zI_mul, zI_neg, zI_eq, zI_lt, zI_le, Int.reduceLT, Int.reduceLE, Int.reduceAdd, Int.reduceSub, Int.reduceMul, Int.reduceNeg, Int.reduceEq, Int.reduceNe, reduceIte, jf_in, pFc_in, aGi, aGb, aSi, aLc_in, cKc_in, nA_in, jm_s1, jm_s2, jm_p1, jm_p2, jm_b, jn_b, jn_s, jn_p, jset_jset, jset_jpush2, ckR_is, ckr_is, rR_is, ckW_is, cR_is, obi2, ckW_int, eq_self, if_true, ref_null, if_false, ne_eq, not_true_eq_false, not_false_eq_true, decide_true, decide_false, decide_not, Bool.true_and, Bool.false_and, Bool.and_true, Bool.and_false, Bool.true_or, Bool.false_or, Bool.or_true, Bool.or_false, Bool.not_true, Bool.not_false, Bool.false_eq_true, bI_t, bI_f, Int.natCast_one, Int.cast_ofNat_Int, Int.natCast_zero, o47_0, o47_1, o47_2, o47_3, n47, o47s_0, o47s_1, o47s_2, o47s_3, o70_0, o70_1, o70_2, n70, o70s_0, o70s_1, o70s_2, o77_0, o77_1, o77_2, o77_3, o77_4, n77, o77s_0, o77s_1, o77s_2, o77s_3, o77s_4, h1]
    rw [if_neg (by omega)]
  have e2 : M2 (d + 2) 47002 [.ref a, .int (zI 0)] H = some (.inl none, H) := by
    rw [Y47002 H (jrecv_in h1 rfl), F47002_0, e1]
    simp (disch := first | assumption | omega | decide | exact okF_i | exact okF_r | exact okF_n | exact okF_j | rfl) only [jc_ref, rI_int, rR_ref, rR_null, rJ_long, ckR_ref, ckR_null, ckr_ref, ckr_null, ckW_int, ckW_ref, ckW_null, cI_ok, cR_ok, cR_null, cV_ok, cJ_ok, qH_eq, qD_in, aG_ref, aS_ref, aL_ref, pF_ref, cK_ref, cK_null, zI_lit, zJ_lit, zI_add, zI_sub, zI_mul, zI_neg, zI_eq, zI_lt, zI_le, Int.reduceLT, Int.reduceLE, Int.reduceAdd, Int.reduceSub, Int.reduceMul, Int.reduceNeg, Int.reduceEq, Int.reduceNe, reduceIte, jf_in, pFc_in, aGi, aGb, aSi, aLc_in, cKc_in, nA_in, jm_s1, jm_s2, jm_p1, jm_p2, jm_b, jn_b, jn_s, jn_p, jset_jset, jset_jpush2, ckR_is, ckr_is, rR_is, ckW_is, cR_is, obi2, ckW_int, eq_self, if_true, ref_null, if_false, ne_eq, not_true_eq_false, not_false_eq_true, decide_true, decide_false, decide_not, Bool.true_and, Bool.false_and, Bool.and_true, Bool.and_false, Bool.true_or, Bool.false_or, Bool.or_true, Bool.or_false, Bool.not_true, Bool.not_false, Bool.false_eq_true, bI_t, bI_f, Int.natCast_one, Int.cast_ofNat_Int, Int.natCast_zero, o47_0, o47_1, o47_2, o47_3, n47, o47s_0, o47s_1, o47s_2, o47s_3, o70_0, o70_1, o70_2, n70, o70s_0, o70s_1, o70s_2, o77_0, o77_1, o77_2, o77_3, o77_4, n77, o77s_0, o77s_1, o77s_2, o77s_3, o77s_4]
  have m0 : jm (jpush H (77, 5, o77 .null .null 0 0 .null)) H.1 = some (77, 5, o77 .null .null 0 0 .null) := jm_p1
  have e3 : M2 (d + 2) 77900 [.ref H.1, .ref a, .int (zI 0)] (jpush H (77, 5, o77 .null .null 0 0 .null)) = some (.inl none, jpush H (77, 5, o77 .null (ndV ns 0) 0 mc (.ref a))) := by
    rw [Y77900 _ rfl (jrecv_in m0 rfl), F77900_0]
    simp (disch := first | assumption | omega | decide | exact okF_i | exact okF_r | exact okF_n | exact okF_j | rfl) only [jc_ref, rI_int, rR_ref, rR_null, rJ_long, ckR_ref, ckR_null, ckr_ref, ckr_null, ckW_int, ckW_ref, ckW_null, cI_ok, cR_ok, cR_null, cV_ok, cJ_ok, qH_eq, qD_in, aG_ref, aS_ref, aL_ref, pF_ref, cK_ref, cK_null, zI_lit, zJ_lit, zI_add, zI_sub, zI_mul, zI_neg, zI_eq, zI_lt, zI_le, Int.reduceLT, Int.reduceLE, Int.reduceAdd, Int.reduceSub, Int.reduceMul, Int.reduceNeg, Int.reduceEq, Int.reduceNe, reduceIte, jf_in, pFc_in, aGi, aGb, aSi, aLc_in, cKc_in, nA_in, jm_s1, jm_s2, jm_p1, jm_p2, jm_b, jn_b, jn_s, jn_p, jset_jset, jset_jpush2, ckR_is, ckr_is, rR_is, ckW_is, cR_is, obi2, ckW_int, eq_self, if_true, ref_null, if_false, ne_eq, not_true_eq_false, not_false_eq_true, decide_true, decide_false, decide_not, Bool.true_and, Bool.false_and, Bool.and_true, Bool.and_false, Bool.true_or, Bool.false_or, Bool.or_true, Bool.or_false, Bool.not_true, Bool.not_false, Bool.false_eq_true, bI_t, bI_f, Int.natCast_one, Int.cast_ofNat_Int, Int.natCast_zero, o47_0, o47_1, o47_2, o47_3, n47, o47s_0, o47s_1, o47s_2, o47s_3, o70_0, o70_1, o70_2, n70, o70s_0, o70s_1, o70s_2, o77_0, o77_1, o77_2, o77_3, o77_4, n77, o77s_0, o77s_1, o77s_2, o77s_3, o77s_4, h1]
    by_cases h0 : vs.length = 0
    · rw [if_pos (by omega)]
      have : ndV ns 0 = .null := ndV_out (by omega)
      rw [this]
    · rw [if_neg (by omega)]
      have f1 : Fr H (jpush H (77, 5, o77 .null .null 0 mc (.ref a))) (fun _ => False) := Fr.push
      have h' := h.fr f1 ha (fun z => z) (fun _ _ z => z)
      have nd := ll_node (d := d) h' (k := 0) (by omega)
      have r1 : isR (ndV ns 0) = true := ndV_R
      have r2 := okF_R r1
      simp (disch := first | assumption | omega | decide | exact okF_i | exact okF_r | exact okF_n | exact okF_j | rfl) only [jc_ref, rI_int, rR_ref, rR_null, rJ_long, ckR_ref, ckR_null, ckr_ref, ckr_null, ckW_int, ckW_ref, ckW_null, cI_ok, cR_ok, cR_null, cV_ok, cJ_ok, qH_eq, qD_in, aG_ref, aS_ref, aL_ref, pF_ref, cK_ref, cK_null, zI_lit, zJ_lit, zI_add, zI_sub, zI_mul, zI_neg, zI_eq, zI_lt, zI_le, Int.reduceLT, Int.reduceLE, Int.reduceAdd, Int.reduceSub, Int.reduceMul, Int.reduceNeg, Int.reduceEq, Int.reduceNe, reduceIte, jf_in, pFc_in, aGi, aGb, aSi, aLc_in, cKc_in, nA_in, jm_s1, jm_s2, jm_p1, jm_p2, jm_b, jn_b, jn_s, jn_p, jset_jset, jset_jpush2, ckR_is, ckr_is, rR_is, ckW_is, cR_is, obi2, ckW_int, eq_self, if_true, ref_null, if_false, ne_eq, not_true_eq_false, not_false_eq_true, decide_true, decide_false, decide_not, Bool.true_and, Bool.false_and, Bool.and_true, Bool.and_false, Bool.true_or, Bool.false_or, Bool.or_true, Bool.or_false, Bool.not_true, Bool.not_false, Bool.false_eq_true, bI_t, bI_f, Int.natCast_one, Int.cast_ofNat_Int, Int.natCast_zero, o47_0, o47_1, o47_2, o47_3, n47, o47s_0, o47s_1, o47s_2, o47s_3, o70_0, o70_1, o70_2, n70, o70s_0, o70s_1, o70s_2, o77_0, o77_1, o77_2, o77_3, o77_4, n77, o77s_0, o77s_1, o77s_2, o77s_3, o77s_4] at nd
      simp (disch := first | assumption | omega | decide | exact okF_i | exact okF_r | exact okF_n | exact okF_j | rfl) only [jc_ref, rI_int, rR_ref, rR_null, rJ_long, ckR_ref, ckR_null, ckr_ref, ckr_null, ckW_int, ckW_ref, ckW_null, cI_ok, cR_ok, cR_null, cV_ok, cJ_ok, qH_eq, qD_in, aG_ref, aS_ref, aL_ref, pF_ref, cK_ref, cK_null, zI_lit, zJ_lit, zI_add, zI_sub, zI_mul, zI_neg, zI_eq, zI_lt, zI_le, Int.reduceLT, Int.reduceLE, Int.reduceAdd, Int.reduceSub, Int.reduceMul, Int.reduceNeg, Int.reduceEq, Int.reduceNe, reduceIte, jf_in, pFc_in, aGi, aGb, aSi, aLc_in, cKc_in, nA_in, jm_s1, jm_s2, jm_p1, jm_p2, jm_b, jn_b, jn_s, jn_p, jset_jset, jset_jpush2, ckR_is, ckr_is, rR_is, ckW_is, cR_is, obi2, ckW_int, eq_self, if_true, ref_null, if_false, ne_eq, not_true_eq_false, not_false_eq_true, decide_true, decide_false, decide_not, Bool.true_and, Bool.false_and, Bool.and_true, Bool.and_false, Bool.true_or, Bool.false_or, Bool.or_true, Bool.or_false, Bool.not_true, Bool.not_false, Bool.false_eq_true, bI_t, bI_f, Int.natCast_one, Int.cast_ofNat_Int, Int.natCast_zero, o47_0, o47_1, o47_2, o47_3, n47, o47s_0, o47s_1, o47s_2, o47s_3, o70_0, o70_1, o70_2, n70, o70s_0, o70s_1, o70s_2, o77_0, o77_1, o77_2, o77_3, o77_4, n77, o77s_0, o77s_1, o77s_2, o77s_3, o77s_4, nd]
  have e4 : M2 (d + 3) 47008 [.ref a, .int (zI 0)] H = some (.inl (some (.ref H.1)), jpush H (77, 5, o77 .null (ndV ns 0) 0 mc (.ref a))) := by
    rw [Y47008 H (jrecv_in h1 rfl), F47008_0]
    simp (disch := first | assumption | omega | decide | exact okF_i | exact okF_r | exact okF_n | exact okF_j | rfl) only [jc_ref, rI_int, rR_ref, rR_null, rJ_long, ckR_ref, ckR_null, ckr_ref, ckr_null, ckW_int, ckW_ref, ckW_null, cI_ok, cR_ok, cR_null, cV_ok, cJ_ok, qH_eq, qD_in, aG_ref, aS_ref, aL_ref, pF_ref, cK_ref, cK_null, zI_lit, zJ_lit, zI_add, zI_sub, zI_mul, zI_neg, zI_eq, zI_lt, zI_le, Int.reduceLT, Int.reduceLE, Int.reduceAdd, Int.reduceSub, Int.reduceMul, Int.reduceNeg, Int.reduceEq, Int.reduceNe, reduceIte, jf_in, pFc_in, aGi, aGb, aSi, aLc_in, cKc_in, nA_in, jm_s1, jm_s2, jm_p1, jm_p2, jm_b, jn_b, jn_s, jn_p, jset_jset, jset_jpush2, ckR_is, ckr_is, rR_is, ckW_is, cR_is, obi2, ckW_int, eq_self, if_true, ref_null, if_false, ne_eq, not_true_eq_false, not_false_eq_true, decide_true, decide_false, decide_not, Bool.true_and, Bool.false_and, Bool.and_true, Bool.and_false, Bool.true_or, Bool.false_or, Bool.or_true, Bool.or_false, Bool.not_true, Bool.not_false, Bool.false_eq_true, bI_t, bI_f, Int.natCast_one, Int.cast_ofNat_Int, Int.natCast_zero, o47_0, o47_1, o47_2, o47_3, n47, o47s_0, o47s_1, o47s_2, o47s_3, o70_0, o70_1, o70_2, n70, o70s_0, o70s_1, o70s_2, o77_0, o77_1, o77_2, o77_3, o77_4, n77, o77s_0, o77s_1, o77s_2, o77s_3, o77s_4, e2, e3]
  have e5 : MvH (d + 3) 9140 [.ref a, .int (zI 0)] H = M2 (d + 3) 47008 [.ref a, .int (zI 0)] H := by simp only [MvH, h1]; rfl
  rw [Y42000 H (jrecv_in h1 rfl), F42000_0]
  simp (disch := first | assumption | omega | decide | exact okF_i | exact okF_r | exact okF_n | exact okF_j | rfl) only [jc_ref, rI_int, rR_ref, rR_null, rJ_long, ckR_ref, ckR_null, ckr_ref, ckr_null, ckW_int, ckW_ref, ckW_null, cI_ok, cR_ok, cR_null, cV_ok, cJ_ok, qH_eq, qD_in, aG_ref, aS_ref, aL_ref, pF_ref, cK_ref, cK_null, zI_lit, zJ_lit, zI_add, zI_sub, zI_mul, zI_neg, zI_eq, zI_lt, zI_le, Int.reduceLT, Int.reduceLE, Int.reduceAdd, Int.reduceSub, Int.reduceMul, Int.reduceNeg, Int.reduceEq, Int.reduceNe, reduceIte, jf_in, pFc_in, aGi, aGb, aSi, aLc_in, cKc_in, nA_in, jm_s1, jm_s2, jm_p1, jm_p2, jm_b, jn_b, jn_s, jn_p, jset_jset, jset_jpush2, ckR_is, ckr_is, rR_is, ckW_is, cR_is, obi2, ckW_int, eq_self, if_true, ref_null, if_false, ne_eq, not_true_eq_false, not_false_eq_true, decide_true, decide_false, decide_not, Bool.true_and, Bool.false_and, Bool.and_true, Bool.and_false, Bool.true_or, Bool.false_or, Bool.or_true, Bool.or_false, Bool.not_true, Bool.not_false, Bool.false_eq_true, bI_t, bI_f, Int.natCast_one, Int.cast_ofNat_Int, Int.natCast_zero, o47_0, o47_1, o47_2, o47_3, n47, o47s_0, o47s_1, o47s_2, o47s_3, o70_0, o70_1, o70_2, n70, o70s_0, o70s_1, o70s_2, o77_0, o77_1, o77_2, o77_3, o77_4, n77, o77s_0, o77s_1, o77s_2, o77s_3, o77s_4, e5, e4]
theorem ll_next (h : LLat H a ns vs) {mc : Int} (h1 : jm H a = some (47, 4, o47 mc vs.length (ndV ns 0) (prvV ns ns.length))) {j : Nat} (hj : j < vs.length) {lr : Value} (hlr : isR lr = true) (hq : jm H q = some (77, 5, o77 lr (ndV ns j) j mc (.ref a))) :
    M2 (d + 2) 77002 [.ref q] H = some (.inl (some (vs.getD j .null)), jset H q (77, 5, o77 (ndV ns j) (ndV ns (j + 1)) (j + 1 : Nat) mc (.ref a))) := by
  have l2 := h.2.1
  have hl := h.2.2.1
  obtain ⟨p, y1, y2, y3, y4⟩ := nd_at h (j := j) (by omega)
  have qp : p ≠ q := fun z => by rw [z, hq] at y3; cases y3
  have r1 : isR (ndV ns (j + 1)) = true := ndV_R
  have r2 := okF_R r1
  rw [y2] at hq
  have e1 : M2 (d + 1) 77000 [.ref q] H = some (.inl none, H) := by
    rw [Y77000 H (jrecv_in hq rfl), F77000_0]
    simp (disch := first | assumption | omega | decide | exact okF_i | exact okF_r | exact okF_n | exact okF_j | rfl) only [jc_ref, rI_int, rR_ref, rR_null, rJ_long, ckR_ref, ckR_null, ckr_ref, ckr_null, ckW_int, ckW_ref, ckW_null, cI_ok, cR_ok, cR_null, cV_ok, cJ_ok, qH_eq, qD_in, aG_ref, aS_ref, aL_ref, pF_ref, cK_ref, cK_null, zI_lit, zJ_lit, zI_add, zI_sub, zI_mul, zI_neg, zI_eq, zI_lt, zI_le, Int.reduceLT, Int.reduceLE, Int.reduceAdd, Int.reduceSub, Int.reduceMul, Int.reduceNeg, Int.reduceEq, Int.reduceNe, reduceIte, jf_in, pFc_in, aGi, aGb, aSi, aLc_in, cKc_in, nA_in, jm_s1, jm_s2, jm_p1, jm_p2, jm_b, jn_b, jn_s, jn_p, jset_jset, jset_jpush2, ckR_is, ckr_is, rR_is, ckW_is, cR_is, obi2, ckW_int, eq_self, if_true, ref_null, if_false, ne_eq, not_true_eq_false, not_false_eq_true, decide_true, decide_false, decide_not, Bool.true_and, Bool.false_and, Bool.and_true, Bool.and_false, Bool.true_or, Bool.false_or, Bool.or_true, Bool.or_false, Bool.not_true, Bool.not_false, Bool.false_eq_true, bI_t, bI_f, Int.natCast_one, Int.cast_ofNat_Int, Int.natCast_zero, o47_0, o47_1, o47_2, o47_3, n47, o47s_0, o47s_1, o47s_2, o47s_3, o70_0, o70_1, o70_2, n70, o70s_0, o70s_1, o70s_2, o77_0, o77_1, o77_2, o77_3, o77_4, n77, o77s_0, o77s_1, o77s_2, o77s_3, o77s_4, hq, h1]
  have e2 : M2 (d + 1) 77001 [.ref q] H = some (.inl (some (.int (zI 1))), H) := by
    rw [Y77001 H (jrecv_in hq rfl), F77001_0]
    simp (disch := first | assumption | omega | decide | exact okF_i | exact okF_r | exact okF_n | exact okF_j | rfl) only [jc_ref, rI_int, rR_ref, rR_null, rJ_long, ckR_ref, ckR_null, ckr_ref, ckr_null, ckW_int, ckW_ref, ckW_null, cI_ok, cR_ok, cR_null, cV_ok, cJ_ok, qH_eq, qD_in, aG_ref, aS_ref, aL_ref, pF_ref, cK_ref, cK_null, zI_lit, zJ_lit, zI_add, zI_sub, zI_mul, zI_neg, zI_eq, zI_lt, zI_le, Int.reduceLT, Int.reduceLE, Int.reduceAdd, Int.reduceSub, Int.reduceMul, Int.reduceNeg, Int.reduceEq, Int.reduceNe, reduceIte, jf_in, pFc_in, aGi, aGb, aSi, aLc_in, cKc_in, nA_in, jm_s1, jm_s2, jm_p1, jm_p2, jm_b, jn_b, jn_s, jn_p, jset_jset, jset_jpush2, ckR_is, ckr_is, rR_is, ckW_is, cR_is, obi2, ckW_int, eq_self, if_true, ref_null, if_false, ne_eq, not_true_eq_false, not_false_eq_true, decide_true, decide_false, decide_not, Bool.true_and, Bool.false_and, Bool.and_true, Bool.and_false, Bool.true_or, Bool.false_or, Bool.or_true, Bool.or_false, Bool.not_true, Bool.not_false, Bool.false_eq_true, bI_t, bI_f, Int.natCast_one, Int.cast_ofNat_Int, Int.natCast_zero, o47_0, o47_1, o47_2, o47_3, n47, o47s_0, o47s_1, o47s_2, o47s_3, o70_0, o70_1, o70_2, n70, o70s_0, o70s_1, o70s_2, o77_0, o77_1, o77_2, o77_3, o77_4, n77, o77s_0, o77s_1, o77s_2, o77s_3, o77s_4, hq, h1]
    rw [if_neg (by omega)]
  rw [Y77002 H (jrecv_in hq rfl), F77002_0, y2]
  simp (disch := first | assumption | omega | decide | exact okF_i | exact okF_r | exact okF_n | exact okF_j | rfl) only [jc_ref, rI_int, rR_ref, rR_null, rJ_long, ckR_ref, ckR_null, ckr_ref, ckr_null, ckW_int, ckW_ref, ckW_null, cI_ok, cR_ok, cR_null, cV_ok, cJ_ok, qH_eq, qD_in, aG_ref, aS_ref, aL_ref, pF_ref, cK_ref, cK_null, zI_lit, zJ_lit, zI_add, zI_sub, zI_mul, zI_neg, zI_eq, zI_lt, zI_le, Int.reduceLT, Int.reduceLE, Int.reduceAdd, Int.reduceSub, Int.reduceMul, Int.reduceNeg, Int.reduceEq, Int.reduceNe, reduceIte, jf_in, pFc_in, aGi, aGb, aSi, aLc_in, cKc_in, nA_in, jm_s1, jm_s2, jm_p1, jm_p2, jm_b, jn_b, jn_s, jn_p, jset_jset, jset_jpush2, ckR_is, ckr_is, rR_is, ckW_is, cR_is, obi2, ckW_int, eq_self, if_true, ref_null, if_false, ne_eq, not_true_eq_false, not_false_eq_true, decide_true, decide_false, decide_not, Bool.true_and, Bool.false_and, Bool.and_true, Bool.and_false, Bool.true_or, Bool.false_or, Bool.or_true, Bool.or_false, Bool.not_true, Bool.not_false, Bool.false_eq_true, bI_t, bI_f, Int.natCast_one, Int.cast_ofNat_Int, Int.natCast_zero, o47_0, o47_1, o47_2, o47_3, n47, o47s_0, o47s_1, o47s_2, o47s_3, o70_0, o70_1, o70_2, n70, o70s_0, o70s_1, o70s_2, o77_0, o77_1, o77_2, o77_3, o77_4, n77, o77s_0, o77s_1, o77s_2, o77s_3, o77s_4, hq, e1, e2, y3, Int.natCast_add]
theorem ll_set (h : LLat H a ns vs) (ha : a < H.1) {mc : Int} (h1 : jm H a = some (47, 4, o47 mc vs.length (ndV ns 0) (prvV ns ns.length))) {j : Nat} (hj : j < vs.length) {nx : Value} {i : Int} (hq : jm H q = some (77, 5, o77 (ndV ns j) nx i mc (.ref a))) (hv : isR v = true) :
    ∃ p, p ∈ ns ∧ (∃ f, jm H p = some (70, 3, f)) ∧ ∃ c : Cl, M2 (d + 2) 77004 [.ref q, v] H = some (.inl none, jset H p (70, 3, c.2.2)) ∧ LLat (jset H p (70, 3, c.2.2)) a ns (vs.set j v) := by
  have l2 := h.2.1
  have hl := h.2.2.1
  have na := h.na
  obtain ⟨p, y1, y2, y3, y4⟩ := nd_at h (j := j) (by omega)
  have r1 : isR (ndV ns (j + 1)) = true := ndV_R
  have r2 := okF_R r1
  have r3 : isR (prvV ns j) = true := prvV_R
  have r4 := okF_R r3
  have kv := okF_R hv
  have pin := List.mem_of_getElem? y1
  have pa : p ≠ a := fun z => na (z ▸ pin)
  rw [y2] at hq
  have hpn : ¬ ((.ref p : Value) = .null) := fun z => by cases z
  have e1 : M2 (d + 1) 77000 [.ref q] H = some (.inl none, H) := by
    rw [Y77000 H (jrecv_in hq rfl), F77000_0]
    simp (disch := first | assumption | omega | decide | exact okF_i | exact okF_r | exact okF_n | exact okF_j | rfl) only [jc_ref, rI_int, rR_ref, rR_null, rJ_long, ckR_ref, ckR_null, ckr_ref, ckr_null, ckW_int, ckW_ref, ckW_null, cI_ok, cR_ok, cR_null, cV_ok, cJ_ok, qH_eq, qD_in, aG_ref, aS_ref, aL_ref, pF_ref, cK_ref, cK_null, zI_lit, zJ_lit, zI_add, zI_sub, zI_mul, zI_neg, zI_eq, zI_lt, zI_le, Int.reduceLT, Int.reduceLE, Int.reduceAdd, Int.reduceSub, Int.reduceMul, Int.reduceNeg, Int.reduceEq, Int.reduceNe, reduceIte, jf_in, pFc_in, aGi, aGb, aSi, aLc_in, cKc_in, nA_in, jm_s1, jm_s2, jm_p1, jm_p2, jm_b, jn_b, jn_s, jn_p, jset_jset, jset_jpush2, ckR_is, ckr_is, rR_is, ckW_is, cR_is, obi2, ckW_int, eq_self, if_true, ref_null, if_false, ne_eq, not_true_eq_false, not_false_eq_true, decide_true, decide_false, decide_not, Bool.true_and, Bool.false_and, Bool.and_true, Bool.and_false, Bool.true_or, Bool.false_or, Bool.or_true, Bool.or_false, Bool.not_true, Bool.not_false, Bool.false_eq_true, bI_t, bI_f, Int.natCast_one, Int.cast_ofNat_Int, Int.natCast_zero, o47_0, o47_1, o47_2, o47_3, n47, o47s_0, o47s_1, o47s_2, o47s_3, o70_0, o70_1, o70_2, n70, o70s_0, o70s_1, o70s_2, o77_0, o77_1, o77_2, o77_3, o77_4, n77, o77s_0, o77s_1, o77s_2, o77s_3, o77s_4, hq, h1]
  refine ⟨p, pin, ⟨_, y3⟩, (70, 3, o70 v (ndV ns (j + 1)) (prvV ns j)), ?_, ⟨⟨mc, ?_⟩, by simpa using l2, hl, h.2.2.2.1, fun w hw => ?_, fun i x hx => ?_⟩⟩
  · rw [Y77004 H hv (jrecv_in hq rfl), F77004_0]
    simp (disch := first | assumption | omega | decide | exact okF_i | exact okF_r | exact okF_n | exact okF_j | rfl) only [jc_ref, rI_int, rR_ref, rR_null, rJ_long, ckR_ref, ckR_null, ckr_ref, ckr_null, ckW_int, ckW_ref, ckW_null, cI_ok, cR_ok, cR_null, cV_ok, cJ_ok, qH_eq, qD_in, aG_ref, aS_ref, aL_ref, pF_ref, cK_ref, cK_null, zI_lit, zJ_lit, zI_add, zI_sub, zI_mul, zI_neg, zI_eq, zI_lt, zI_le, Int.reduceLT, Int.reduceLE, Int.reduceAdd, Int.reduceSub, Int.reduceMul, Int.reduceNeg, Int.reduceEq, Int.reduceNe, reduceIte, jf_in, pFc_in, aGi, aGb, aSi, aLc_in, cKc_in, nA_in, jm_s1, jm_s2, jm_p1, jm_p2, jm_b, jn_b, jn_s, jn_p, jset_jset, jset_jpush2, ckR_is, ckr_is, rR_is, ckW_is, cR_is, obi2, ckW_int, eq_self, if_true, ref_null, if_false, ne_eq, not_true_eq_false, not_false_eq_true, decide_true, decide_false, decide_not, Bool.true_and, Bool.false_and, Bool.and_true, Bool.and_false, Bool.true_or, Bool.false_or, Bool.or_true, Bool.or_false, Bool.not_true, Bool.not_false, Bool.false_eq_true, bI_t, bI_f, Int.natCast_one, Int.cast_ofNat_Int, Int.natCast_zero, o47_0, o47_1, o47_2, o47_3, n47, o47s_0, o47s_1, o47s_2, o47s_3, o70_0, o70_1, o70_2, n70, o70s_0, o70s_1, o70s_2, o77_0, o77_1, o77_2, o77_3, o77_4, n77, o77s_0, o77s_1, o77s_2, o77s_3, o77s_4, hq, e1, y3]
  · rw [jm_s2 (Ne.symm pa), h1, List.length_set]
  · rcases List.mem_or_eq_of_mem_set hw with hw | hw
    · exact h.2.2.2.2.1 w hw
    · rw [hw]; exact hv
  · obtain ⟨x1, x2⟩ := h.2.2.2.2.2 i x hx
    refine ⟨?_, x2⟩
    by_cases hi : i = j
    · subst hi
      have : x = p := Option.some.inj (hx.symm.trans y1)
      subst this
      rw [jm_s1, List.getD_eq_getElem?_getD, List.getElem?_set_self hj]
      rfl
    · have xp : x ≠ p := fun z => by
        rw [z] at hx
        have hil : i < ns.length := by
          by_cases hc : i < ns.length
          · exact hc
          · rw [List.getElem?_eq_none (by omega)] at hx; cases hx
        exact hi ((List.getElem?_inj hil h.2.2.2.1).mp (hx.trans y1.symm))
      rw [jm_s2 xp, x1, List.getD_eq_getElem?_getD, List.getD_eq_getElem?_getD, List.getElem?_set_ne (Ne.symm hi)]
theorem ls_loop {e : Nat} {g : Nat → Value} {mc : Int} {v1 : Value} (hg : ∀ k, k < vs.length → isR (g k) = true) : ∀ (n j : Nat) (H : AH) (ws : List Value) (lr v7 : Value), j + n = vs.length → ws.length = vs.length → LLat H a ns ws → a < H.1 → q < H.1 → jm H a = some (47, 4, o47 mc vs.length (ndV ns 0) (prvV ns ns.length)) → isR lr = true → jm H q = some (77, 5, o77 lr (ndV ns j) j mc (.ref a)) → jm H e = some (1040, vs.length, g) →
    ∃ H2 zs, G2 (d + 3) 79000 30 [.ref a, v1, .ref e, .ref q, .ref e, .int (zI vs.length), .int (zI j), v7] [] H = some (.inl none, H2) ∧ LLat H2 a ns zs ∧ zs.length = vs.length ∧ (∀ k, k < vs.length → zs.getD k .null = if j ≤ k then g k else ws.getD k .null) ∧ Fr H H2 (fun x => x = q ∨ x ∈ ns) ∧ H2.1 = H.1 ∧ H2.2.1 = H.2.1
  | 0, j, H, ws, lr, v7, hj, hw, h, ha, hqq, h1, hlr, hq, he => by
    have l2 := h.2.1
    have hl := h.2.2.1
    refine ⟨H, ws, ?_, h, hw, fun k hk => by rw [if_neg (by omega)], Fr.rf, rfl, rfl⟩
    rw [F79000_30]
    simp (disch := first | assumption | omega | decide | exact okF_i | exact okF_r | exact okF_n | exact okF_j | rfl) only [jc_ref, rI_int, rR_ref, rR_null, rJ_long, ckR_ref, ckR_null, ckr_ref, ckr_null, ckW_int, ckW_ref, ckW_null, cI_ok, cR_ok, cR_null, cV_ok, cJ_ok, qH_eq, qD_in, aG_ref, aS_ref, aL_ref, pF_ref, cK_ref, cK_null, zI_lit, zJ_lit, zI_add, zI_sub, zI_mul, zI_neg, zI_eq, zI_lt, zI_le, Int.reduceLT, Int.reduceLE, Int.reduceAdd, Int.reduceSub, Int.reduceMul, Int.reduceNeg, Int.reduceEq, Int.reduceNe, reduceIte, jf_in, pFc_in, aGi, aGb, aSi, aLc_in, cKc_in, nA_in, jm_s1, jm_s2, jm_p1, jm_p2, jm_b, jn_b, jn_s, jn_p, jset_jset, jset_jpush2, ckR_is, ckr_is, rR_is, ckW_is, cR_is, obi2, ckW_int, eq_self, if_true, ref_null, if_false, ne_eq, not_true_eq_false, not_false_eq_true, decide_true, decide_false, decide_not, Bool.true_and, Bool.false_and, Bool.and_true, Bool.and_false, Bool.true_or, Bool.false_or, Bool.or_true, Bool.or_false, Bool.not_true, Bool.not_false, Bool.false_eq_true, bI_t, bI_f, Int.natCast_one, Int.cast_ofNat_Int, Int.natCast_zero, o47_0, o47_1, o47_2, o47_3, n47, o47s_0, o47s_1, o47s_2, o47s_3, o70_0, o70_1, o70_2, n70, o70s_0, o70s_1, o70s_2, o77_0, o77_1, o77_2, o77_3, o77_4, n77, o77s_0, o77s_1, o77s_2, o77s_3, o77s_4]
    rw [if_pos (by omega)]
  | n + 1, j, H, ws, lr, v7, hj, hw, h, ha, hqq, h1, hlr, hq, he => by
    have l2 := h.2.1
    have hl := h.2.2.1
    have h1' := h1
    rw [← hw] at h1'
    obtain ⟨ea, en⟩ := h.ne he (Nat.le_of_ble_eq_true rfl)
    have qe : q ≠ e := fun z => by rw [z, he] at hq; cases hq
    have qa : q ≠ a := fun z => by rw [z, h1] at hq; cases hq
    have qn : q ∉ ns := fun hin => by
      obtain ⟨i, hi⟩ := List.getElem?_of_mem hin
      have := (h.2.2.2.2.2 i q hi).1
      rw [hq] at this; cases this
    have nx := ll_next (d := d + 1) h h1' (j := j) (by omega) hlr hq
    have rw1 : isR (ws.getD j .null) = true := h.2.2.2.2.1 _ (getD_in (by omega))
    have rg := hg j (by omega)
    have F1 : Fr H (jset H q (77, 5, o77 (ndV ns j) (ndV ns (j + 1)) (j + 1 : Nat) mc (.ref a))) (fun x => x = q) := Fr.set rfl
    have hB := h.fr F1 ha (Ne.symm qa) (fun x hx z => qn (z ▸ hx))
    have h1B := (F1.2.2 a ha (Ne.symm qa)).trans h1'
    have rl : isR (ndV ns j) = true := ndV_R
    obtain ⟨p, pin, ⟨pf, pm⟩, c, s1, s2⟩ := ll_set (d := d + 1) hB ha h1B (j := j) (by omega) (nx := ndV ns (j + 1)) (i := (j + 1 : Nat)) jm_s1 rg
    have pa : p ≠ a := fun z => hB.na (z ▸ pin)
    have pq : p ≠ q := fun z => qn (z ▸ pin)
    have pe : p ≠ e := fun z => en p pin z
    obtain ⟨H2, zs, i1, i2, i3, i4, i5, i6, i7⟩ := ls_loop (v1 := v1) hg n (j + 1) _ (ws.set j (g j)) (ndV ns j) (g j) (by omega) (by simpa using hw) s2 ha hqq ((jm_s2 (Ne.symm pa)).trans ((F1.2.2 a ha (Ne.symm qa)).trans h1)) rl ((jm_s2 (Ne.symm pq)).trans jm_s1) ((jm_s2 (Ne.symm pe)).trans ((jm_s2 (Ne.symm qe)).trans he))
    refine ⟨H2, zs, ?_, i2, i3, fun k hk => ?_, ⟨by rw [i6]; exact Nat.le_refl _, i5.2.1, fun x hx hp => ?_⟩, i6, i7⟩
    · have e1 : MvH (d + 3) 9150 [.ref q] H = M2 (d + 3) 77002 [.ref q] H := by simp only [MvH, hq]; rfl
      have e2 : MvH (d + 3) 9151 [.ref q, g j] (jset H q (77, 5, o77 (ndV ns j) (ndV ns (j + 1)) (j + 1 : Nat) mc (.ref a))) = M2 (d + 3) 77004 [.ref q, g j] (jset H q (77, 5, o77 (ndV ns j) (ndV ns (j + 1)) (j + 1 : Nat) mc (.ref a))) := by simp only [MvH, jm_s1]; rfl
      rw [F79000_30]
      simp (disch := first | assumption | omega | decide | exact okF_i | exact okF_r | exact okF_n | exact okF_j | rfl) only [jc_ref, rI_int, rR_ref, rR_null, rJ_long, ckR_ref, ckR_null, ckr_ref, ckr_null, ckW_int, ckW_ref, ckW_null, cI_ok, cR_ok, cR_null, cV_ok, cJ_ok, qH_eq, qD_in, aG_ref, aS_ref, aL_ref, pF_ref, cK_ref, cK_null, zI_lit, zJ_lit, zI_add, zI_sub, zI_mul, zI_neg, zI_eq, zI_lt, zI_le, Int.reduceLT, Int.reduceLE, Int.reduceAdd, Int.reduceSub, Int.reduceMul, Int.reduceNeg, Int.reduceEq, Int.reduceNe, reduceIte, jf_in, pFc_in, aGi, aGb, aSi, aLc_in, cKc_in, nA_in, jm_s1, jm_s2, jm_p1, jm_p2, jm_b, jn_b, jn_s, jn_p, jset_jset, jset_jpush2, ckR_is, ckr_is, rR_is, ckW_is, cR_is, obi2, ckW_int, eq_self, if_true, ref_null, if_false, ne_eq, not_true_eq_false, not_false_eq_true, decide_true, decide_false, decide_not, Bool.true_and, Bool.false_and, Bool.and_true, Bool.and_false, Bool.true_or, Bool.false_or, Bool.or_true, Bool.or_false, Bool.not_true, Bool.not_false, Bool.false_eq_true, bI_t, bI_f, Int.natCast_one, Int.cast_ofNat_Int, Int.natCast_zero, o47_0, o47_1, o47_2, o47_3, n47, o47s_0, o47s_1, o47s_2, o47s_3, o70_0, o70_1, o70_2, n70, o70s_0, o70s_1, o70s_2, o77_0, o77_1, o77_2, o77_3, o77_4, n77, o77s_0, o77s_1, o77s_2, o77s_3, o77s_4, he, aGc_V, Int.toNat_natCast, e1, nx, e2, s1]
      rw [if_neg (by omega)]
      exact i1
    · rw [i4 k hk]
      by_cases hjk : j = k
      · subst hjk
        rw [if_neg (by omega), if_pos (Nat.le_refl _), List.getD_eq_getElem?_getD, List.getElem?_set_self (by omega)]
        rfl
      · by_cases hjk2 : j + 1 ≤ k
        · rw [if_pos hjk2, if_pos (by omega)]
        · rw [if_neg hjk2, if_neg (by omega), List.getD_eq_getElem?_getD, List.getElem?_set_ne hjk, List.getD_eq_getElem?_getD]
    · rw [i5.2.2 x hx hp, jm_s2 (fun z => hp (Or.inr (by rw [z]; exact pin))), jm_s2 (fun z => hp (Or.inl z))]
end
