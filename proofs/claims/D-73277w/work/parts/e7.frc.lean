/-! sort: all runs become one -/
-- jc_ref, rI_int, rR_ref, rR_null, rJ_long, ckR_ref, ckR_null, ckr_ref, ckr_null, ckW_int, ckW_ref, ckW_null, cI_ok, cR_ok, cR_null, cV_ok, cJ_ok, qH_eq, qD_in, aG_ref, aS_ref, aL_ref, pF_ref, cK_ref, cK_null, zI_lit, zJ_lit, zI_add, zI_sub, zI_mul, zI_neg, zI_eq, zI_lt, zI_le, Int.reduceLT, Int.reduceLE, Int.reduceAdd, Int.reduceSub, Int.reduceMul, Int.reduceNeg, Int.reduceEq, Int.reduceNe, reduceIte, jf_in, pFc_in, aGi, aGb, aSi, aLc_in, cKc_in, nA_in, jm_s1, jm_s2, jm_p1, jm_p2, jm_b, jn_b, jn_s, jn_p, jset_jset, jset_jpush2, ckR_is, ckr_is, rR_is, ckW_is, cR_is, obi2, ckW_int, eq_self, if_true, ref_null, if_false, ne_eq, not_true_eq_false, not_false_eq_true, decide_true, decide_false, decide_not, Bool.true_and, Bool.false_and, Bool.and_true, Bool.and_false, Bool.true_or, Bool.false_or, Bool.or_true, Bool.or_false, Bool.not_true, Bool.not_false, Bool.false_eq_true, bI_t, bI_f, Int.natCast_one, Int.cast_ofNat_Int, Int.natCast_zero, Int.toNat_natCast, o72_0, o72_1, o72_2, o72_3, o72_4, o72_5, o72_6, o72_7, n72, o72s_0, o72s_1, o72s_2, o72s_3, o72s_4, o72s_5, o72s_6, o72s_7 = jc_ref, rI_int, rR_ref, rR_null, rJ_long, ckR_ref, ckR_null, ckr_ref, ckr_null, ckW_int, ckW_ref, ckW_null, cI_ok, cR_ok, cR_null, cV_ok, cJ_ok, qH_eq, qD_in, aG_ref, aS_ref, aL_ref, pF_ref, cK_ref, cK_null, zI_lit, zJ_lit, zI_add, zI_sub, zI_mul, zI_neg, zI_eq, zI_lt, zI_le, Int.reduceLT, Int.reduceLE, Int.reduceAdd, Int.reduceSub, Int.reduceMul, Int.reduceNeg, Int.reduceEq, Int.reduceNe, reduceIte, jf_in, pFc_in, aGi, aGb, aSi, aLc_in, cKc_in, nA_in, jm_s1, jm_s2, jm_p1, jm_p2, jm_b, jn_b, jn_s, jn_p, jset_jset, jset_jpush2, ckR_is, ckr_is, rR_is, ckW_is, cR_is, obi2, ckW_int, eq_self, if_true, ref_null, if_false, ne_eq, not_true_eq_false, not_false_eq_true, decide_true, decide_false, decide_not, Bool.true_and, Bool.false_and, Bool.and_true, Bool.and_false, Bool.true_or, Bool.false_or, Bool.or_true, Bool.or_false, Bool.not_true, Bool.not_false, Bool.false_eq_true, bI_t, bI_f, Int.natCast_one, Int.cast_ofNat_Int, Int.natCast_zero, Int.toNat_natCast, o72_0, o72_1, o72_2, o72_3, o72_4, o72_5, o72_6, o72_7, n72, o72s_0, o72s_1, o72s_2, o72s_3, o72s_4, o72s_5, o72s_6, o72s_7
section
variable {G : Nat → Option Cl} {rk : Value → Int} {d : Nat} {e ts N rb rl SL En : Nat} {f0 : Nat → Value} {V : Int}
theorem c_force : ∀ (k : Nat) (H : AH) (f : Nat → Value) (mg : Int) (e2 N2 : Nat) (bs ls : Nat → Nat) (v : Value), 1 ≤ k → StS G rk H ts e e2 rb rl N N2 SL k En f0 f mg V bs ls →
    ∃ (H2 : AH) (f' : Nat → Value) (mg' : Int) (e3 N3 : Nat) (bs' ls' : Nat → Nat), G2 (d + 7) 72007 0 [.ref ts, v] [] H = some (.inl none, H2) ∧ StS G rk H2 ts e e3 rb rl N N3 SL 1 En f0 f' mg' V bs' ls' ∧ Fr H H2 (SrtP e ts e2 rb rl) ∧ GroT H H2 N N2 N3 e2 e3 := by
  intro k
  induction k with
  | zero => intro H f mg e2 N2 bs ls v h; omega
  | succ k ih =>
    intro H f mg e2 N2 bs ls v hk h
    have h0 := h
    obtain ⟨hT, ⟨⟨p, q, a1, a2, a3⟩, b1, b2, -⟩, -⟩ := h
    obtain ⟨-, -, -, -, -, -, -, ms, -⟩ := hT
    by_cases k1 : k = 0
    · subst k1
      refine ⟨H, f, mg, e2, N2, bs, ls, ?_, h0, Fr.rf, Or.inl ⟨rfl, rfl, rfl, rfl⟩⟩
      rw [F72007_0v]
      simp (disch := first | assumption | omega | decide | exact okF_i | exact okF_r | exact okF_n | exact okF_j | rfl) only [jc_ref, rI_int, rR_ref, rR_null, rJ_long, ckR_ref, ckR_null, ckr_ref, ckr_null, ckW_int, ckW_ref, ckW_null, cI_ok, cR_ok, cR_null, cV_ok, cJ_ok, qH_eq, qD_in, aG_ref, aS_ref, aL_ref, pF_ref, cK_ref, cK_null, zI_lit, zJ_lit, zI_add, zI_sub, zI_mul, zI_neg, zI_eq, zI_lt, zI_le, Int.reduceLT, Int.reduceLE, Int.reduceAdd, Int.reduceSub, Int.reduceMul, Int.reduceNeg, Int.reduceEq, Int.reduceNe, reduceIte, jf_in, pFc_in, aGi, aGb, aSi, aLc_in, cKc_in, nA_in, jm_s1, jm_s2, jm_p1, jm_p2, jm_b, jn_b, jn_s, jn_p, jset_jset, jset_jpush2, ckR_is, ckr_is, rR_is, ckW_is, cR_is, obi2, ckW_int, eq_self, if_true, ref_null, if_false, ne_eq, not_true_eq_false, not_false_eq_true, decide_true, decide_false, decide_not, Bool.true_and, Bool.false_and, Bool.and_true, Bool.and_false, Bool.true_or, Bool.false_or, Bool.or_true, Bool.or_false, Bool.not_true, Bool.not_false, Bool.false_eq_true, bI_t, bI_f, Int.natCast_one, Int.cast_ofNat_Int, Int.natCast_zero, Int.toNat_natCast, o72_0, o72_1, o72_2, o72_3, o72_4, o72_5, o72_6, o72_7, n72, o72s_0, o72s_1, o72s_2, o72s_3, o72s_4, o72s_5, o72s_6, o72s_7, ms]
      rw [if_pos (by omega)]
    · have step : ∀ i, i + 2 = k + 1 ∨ i + 3 = k + 1 → ∃ (H2 : AH), M2 (d + 7) 72005 [.ref ts, .int (zI i)] H = some (.inl none, H2) ∧ ∀ v, ∃ (H3 : AH) (f' : Nat → Value) (mg' : Int) (e3 N3 : Nat) (bs' ls' : Nat → Nat), G2 (d + 7) 72007 0 [.ref ts, v] [] H2 = some (.inl none, H3) ∧ StS G rk H3 ts e e3 rb rl N N3 SL 1 En f0 f' mg' V bs' ls' ∧ Fr H H3 (SrtP e ts e2 rb rl) ∧ GroT H H3 N N2 N3 e2 e3 := fun i hi => by
        obtain ⟨H2, f', mg', e3, N3, y1, y2, y3, y4⟩ := c_stp (d := d) h0 hi
        refine ⟨H2, y1, fun v => ?_⟩
        obtain ⟨H3, f2, mg2, e4, N4, bs', ls', z1, z2, z3, z4⟩ := ih H2 f' mg' e3 N3 _ _ v (by omega) y2
        exact ⟨H3, f2, mg2, e4, N4, bs', ls', z1, z2, SrtP.tr y3 z3 y4, y4.tr z4⟩
      by_cases k2 : k = 1
      · obtain ⟨H2, y1, y2⟩ := step (k - 1) (by omega)
        obtain ⟨H3, f', mg', e3, N3, bs', ls', z1, z2⟩ := y2 (.int (zI ((k + 1 : Nat) : Int) - 2))
        refine ⟨H3, f', mg', e3, N3, bs', ls', ?_, z2⟩
        have c2 : ((k + 1 : Nat) : Int) - 2 = ((k - 1 : Nat) : Int) := by omega
        rw [F72007_0v]
        simp (disch := first | assumption | omega | decide | exact okF_i | exact okF_r | exact okF_n | exact okF_j | rfl) only [jc_ref, rI_int, rR_ref, rR_null, rJ_long, ckR_ref, ckR_null, ckr_ref, ckr_null, ckW_int, ckW_ref, ckW_null, cI_ok, cR_ok, cR_null, cV_ok, cJ_ok, qH_eq, qD_in, aG_ref, aS_ref, aL_ref, pF_ref, cK_ref, cK_null, zI_lit, zJ_lit, zI_add, zI_sub, zI_mul, zI_neg, zI_eq, zI_lt, zI_le, Int.reduceLT, Int.reduceLE, Int.reduceAdd, Int.reduceSub, Int.reduceMul, Int.reduceNeg, Int.reduceEq, Int.reduceNe, reduceIte, jf_in, pFc_in, aGi, aGb, aSi, aLc_in, cKc_in, nA_in, jm_s1, jm_s2, jm_p1, jm_p2, jm_b, jn_b, jn_s, jn_p, jset_jset, jset_jpush2, ckR_is, ckr_is, rR_is, ckW_is, cR_is, obi2, ckW_int, eq_self, if_true, ref_null, if_false, ne_eq, not_true_eq_false, not_false_eq_true, decide_true, decide_false, decide_not, Bool.true_and, Bool.false_and, Bool.and_true, Bool.and_false, Bool.true_or, Bool.false_or, Bool.or_true, Bool.or_false, Bool.not_true, Bool.not_false, Bool.false_eq_true, bI_t, bI_f, Int.natCast_one, Int.cast_ofNat_Int, Int.natCast_zero, Int.toNat_natCast, o72_0, o72_1, o72_2, o72_3, o72_4, o72_5, o72_6, o72_7, n72, o72s_0, o72s_1, o72s_2, o72s_3, o72s_4, o72s_5, o72s_6, o72s_7, ms]
        rw [if_neg (by omega), if_pos (by omega), c2, y1, cV_ok]
        exact z1
      · have q3 : q (((k + 1 : Nat) : Int) - 2 - 1) = ls (k - 2) := by
          have := (a3 (k - 2) (by omega)).2
          rw [show ((k - 2 : Nat) : Int) = ((k + 1 : Nat) : Int) - 2 - 1 by omega] at this; exact this
        have q1 : q (((k + 1 : Nat) : Int) - 2 + 1) = ls k := by
          have := (a3 k (by omega)).2
          rw [show ((k : Nat) : Int) = ((k + 1 : Nat) : Int) - 2 + 1 by omega] at this; exact this
        have lb : ∀ i, i < k + 1 → ls i ≤ 1000 := fun i hi => by
          have o := (h0.2.2.1).ord (k - i) i (by omega)
          have hE := h0.2.2.2.1
          have hN := h0.1.2.2.2.1
          rw [show i + (k - i) = k by omega] at o
          rw [show k + 1 - 1 = k by omega] at hE
          by_cases hh : k - i = 0
          · rw [show i = k by omega]; omega
          · rw [if_neg hh] at o; omega
        have l1 := lb (k - 2) (by omega)
        have l2 := lb k (by omega)
        have c2 : ((k + 1 : Nat) : Int) - 2 = ((k - 1 : Nat) : Int) := by omega
        have c3 : ((k + 1 : Nat) : Int) - 2 + -1 = ((k - 2 : Nat) : Int) := by omega
        by_cases hc : ls k ≤ ls (k - 2)
        · obtain ⟨H2, y1, y2⟩ := step (k - 1) (by omega)
          obtain ⟨H3, f', mg', e3, N3, bs', ls', z1, z2⟩ := y2 (.int (zI ((k + 1 : Nat) : Int) - 2))
          refine ⟨H3, f', mg', e3, N3, bs', ls', ?_, z2⟩
          rw [F72007_0v]
          simp (disch := first | assumption | omega | decide | exact okF_i | exact okF_r | exact okF_n | exact okF_j | rfl) only [jc_ref, rI_int, rR_ref, rR_null, rJ_long, ckR_ref, ckR_null, ckr_ref, ckr_null, ckW_int, ckW_ref, ckW_null, cI_ok, cR_ok, cR_null, cV_ok, cJ_ok, qH_eq, qD_in, aG_ref, aS_ref, aL_ref, pF_ref, cK_ref, cK_null, zI_lit, zJ_lit, zI_add, zI_sub, zI_mul, zI_neg, zI_eq, zI_lt, zI_le, Int.reduceLT, Int.reduceLE, Int.reduceAdd, Int.reduceSub, Int.reduceMul, Int.reduceNeg, Int.reduceEq, Int.reduceNe, reduceIte, jf_in, pFc_in, aGi, aGb, aSi, aLc_in, cKc_in, nA_in, jm_s1, jm_s2, jm_p1, jm_p2, jm_b, jn_b, jn_s, jn_p, jset_jset, jset_jpush2, ckR_is, ckr_is, rR_is, ckW_is, cR_is, obi2, ckW_int, eq_self, if_true, ref_null, if_false, ne_eq, not_true_eq_false, not_false_eq_true, decide_true, decide_false, decide_not, Bool.true_and, Bool.false_and, Bool.and_true, Bool.and_false, Bool.true_or, Bool.false_or, Bool.or_true, Bool.or_false, Bool.not_true, Bool.not_false, Bool.false_eq_true, bI_t, bI_f, Int.natCast_one, Int.cast_ofNat_Int, Int.natCast_zero, Int.toNat_natCast, o72_0, o72_1, o72_2, o72_3, o72_4, o72_5, o72_6, o72_7, n72, o72s_0, o72s_1, o72s_2, o72s_3, o72s_4, o72s_5, o72s_6, o72s_7, ms]
          rw [if_neg (by omega), if_neg (by omega)]
          simp (disch := first | assumption | omega | decide | exact okF_i | exact okF_r | exact okF_n | exact okF_j | rfl) only [jc_ref, rI_int, rR_ref, rR_null, rJ_long, ckR_ref, ckR_null, ckr_ref, ckr_null, ckW_int, ckW_ref, ckW_null, cI_ok, cR_ok, cR_null, cV_ok, cJ_ok, qH_eq, qD_in, aG_ref, aS_ref, aL_ref, pF_ref, cK_ref, cK_null, zI_lit, zJ_lit, zI_add, zI_sub, zI_mul, zI_neg, zI_eq, zI_lt, zI_le, Int.reduceLT, Int.reduceLE, Int.reduceAdd, Int.reduceSub, Int.reduceMul, Int.reduceNeg, Int.reduceEq, Int.reduceNe, reduceIte, jf_in, pFc_in, aGi, aGb, aSi, aLc_in, cKc_in, nA_in, jm_s1, jm_s2, jm_p1, jm_p2, jm_b, jn_b, jn_s, jn_p, jset_jset, jset_jpush2, ckR_is, ckr_is, rR_is, ckW_is, cR_is, obi2, ckW_int, eq_self, if_true, ref_null, if_false, ne_eq, not_true_eq_false, not_false_eq_true, decide_true, decide_false, decide_not, Bool.true_and, Bool.false_and, Bool.and_true, Bool.and_false, Bool.true_or, Bool.false_or, Bool.or_true, Bool.or_false, Bool.not_true, Bool.not_false, Bool.false_eq_true, bI_t, bI_f, Int.natCast_one, Int.cast_ofNat_Int, Int.natCast_zero, Int.toNat_natCast, o72_0, o72_1, o72_2, o72_3, o72_4, o72_5, o72_6, o72_7, n72, o72s_0, o72s_1, o72s_2, o72s_3, o72s_4, o72s_5, o72s_6, o72s_7, ms, a2, q3, q1]
          rw [if_pos (show (ls k : Int) ≤ ls (k - 2) by omega), c2, y1, cV_ok]
          exact z1
        · obtain ⟨H2, y1, y2⟩ := step (k - 2) (by omega)
          obtain ⟨H3, f', mg', e3, N3, bs', ls', z1, z2⟩ := y2 (.int (zI ((k + 1 : Nat) : Int) - 2 + -1))
          refine ⟨H3, f', mg', e3, N3, bs', ls', ?_, z2⟩
          rw [F72007_0v]
          simp (disch := first | assumption | omega | decide | exact okF_i | exact okF_r | exact okF_n | exact okF_j | rfl) only [jc_ref, rI_int, rR_ref, rR_null, rJ_long, ckR_ref, ckR_null, ckr_ref, ckr_null, ckW_int, ckW_ref, ckW_null, cI_ok, cR_ok, cR_null, cV_ok, cJ_ok, qH_eq, qD_in, aG_ref, aS_ref, aL_ref, pF_ref, cK_ref, cK_null, zI_lit, zJ_lit, zI_add, zI_sub, zI_mul, zI_neg, zI_eq, zI_lt, zI_le, Int.reduceLT, Int.reduceLE, Int.reduceAdd, Int.reduceSub, Int.reduceMul, Int.reduceNeg, Int.reduceEq, Int.reduceNe, reduceIte, jf_in, pFc_in, aGi, aGb, aSi, aLc_in, cKc_in, nA_in, jm_s1, jm_s2, jm_p1, jm_p2, jm_b, jn_b, jn_s, jn_p, jset_jset, jset_jpush2, ckR_is, ckr_is, rR_is, ckW_is, cR_is, obi2, ckW_int, eq_self, if_true, ref_null, if_false, ne_eq, not_true_eq_false, not_false_eq_true, decide_true, decide_false, decide_not, Bool.true_and, Bool.false_and, Bool.and_true, Bool.and_false, Bool.true_or, Bool.false_or, Bool.or_true, Bool.or_false, Bool.not_true, Bool.not_false, Bool.false_eq_true, bI_t, bI_f, Int.natCast_one, Int.cast_ofNat_Int, Int.natCast_zero, Int.toNat_natCast, o72_0, o72_1, o72_2, o72_3, o72_4, o72_5, o72_6, o72_7, n72, o72s_0, o72s_1, o72s_2, o72s_3, o72s_4, o72s_5, o72s_6, o72s_7, ms]
          rw [if_neg (by omega), if_neg (by omega)]
          simp (disch := first | assumption | omega | decide | exact okF_i | exact okF_r | exact okF_n | exact okF_j | rfl) only [jc_ref, rI_int, rR_ref, rR_null, rJ_long, ckR_ref, ckR_null, ckr_ref, ckr_null, ckW_int, ckW_ref, ckW_null, cI_ok, cR_ok, cR_null, cV_ok, cJ_ok, qH_eq, qD_in, aG_ref, aS_ref, aL_ref, pF_ref, cK_ref, cK_null, zI_lit, zJ_lit, zI_add, zI_sub, zI_mul, zI_neg, zI_eq, zI_lt, zI_le, Int.reduceLT, Int.reduceLE, Int.reduceAdd, Int.reduceSub, Int.reduceMul, Int.reduceNeg, Int.reduceEq, Int.reduceNe, reduceIte, jf_in, pFc_in, aGi, aGb, aSi, aLc_in, cKc_in, nA_in, jm_s1, jm_s2, jm_p1, jm_p2, jm_b, jn_b, jn_s, jn_p, jset_jset, jset_jpush2, ckR_is, ckr_is, rR_is, ckW_is, cR_is, obi2, ckW_int, eq_self, if_true, ref_null, if_false, ne_eq, not_true_eq_false, not_false_eq_true, decide_true, decide_false, decide_not, Bool.true_and, Bool.false_and, Bool.and_true, Bool.and_false, Bool.true_or, Bool.false_or, Bool.or_true, Bool.or_false, Bool.not_true, Bool.not_false, Bool.false_eq_true, bI_t, bI_f, Int.natCast_one, Int.cast_ofNat_Int, Int.natCast_zero, Int.toNat_natCast, o72_0, o72_1, o72_2, o72_3, o72_4, o72_5, o72_6, o72_7, n72, o72s_0, o72s_1, o72s_2, o72s_3, o72s_4, o72s_5, o72s_6, o72s_7, ms, a2, q3, q1]
          rw [if_neg (show ¬ (ls k : Int) ≤ ls (k - 2) by omega), c3, y1, cV_ok]
          exact z1
end
