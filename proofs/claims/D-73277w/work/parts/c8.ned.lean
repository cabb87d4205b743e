/-! is a column needed; a row by its number; how many refer to a row -/
-- jc_ref, rI_int, rR_ref, rR_null, rJ_long, ckR_ref, ckR_null, ckr_ref, ckr_null, ckW_int, ckW_ref, ckW_null, cI_ok, cR_ok, cR_null, cV_ok, cJ_ok, qH_eq, qD_in, aG_ref, aS_ref, aL_ref, pF_ref, cK_ref, cK_null, zI_lit, zJ_lit, zI_add, zI_sub, zI_mul, zI_neg, zI_eq, zI_lt, zI_le, Int.reduceLT, Int.reduceLE, Int.reduceAdd, Int.reduceSub, Int.reduceMul, Int.reduceNeg, Int.reduceEq, Int.reduceNe, reduceIte, jf_in, pFc_in, aGi, aGb, aSi, aLc_in, cKc_in, nA_in, jm_s1, jm_s2, jm_p1, jm_p2, jm_b, jn_b, jn_s, jn_p, jset_jset, jset_jpush2, ckR_is, ckr_is, rR_is, ckW_is, cR_is, obi2, ckW_int, eq_self, if_true, ref_null, if_false, ne_eq, not_true_eq_false, not_false_eq_true, decide_true, decide_false, decide_not, Bool.true_and, Bool.false_and, Bool.and_true, Bool.and_false, Bool.true_or, Bool.false_or, Bool.or_true, Bool.or_false, Bool.not_true, Bool.not_false, Bool.false_eq_true, bI_t, bI_f, Int.natCast_one, Int.cast_ofNat_Int, Int.natCast_zero, o23_0, o23_1, o23_2, o12_0, o12_1, o13_0, o13_1, o13_2, o13_3, o13_4, o13_5, o13_6, o14_0, o14_1, o14_2, o14_3, o14_4, o14_5, o3_0, o3_1, o3_2, o3_3, o3_4, o11_0, o11_1, o11_2, o11_3, o4_0, o4_1, o4_2, o4_3, o4_4, o4_5, o4_6 = jc_ref, rI_int, rR_ref, rR_null, rJ_long, ckR_ref, ckR_null, ckr_ref, ckr_null, ckW_int, ckW_ref, ckW_null, cI_ok, cR_ok, cR_null, cV_ok, cJ_ok, qH_eq, qD_in, aG_ref, aS_ref, aL_ref, pF_ref, cK_ref, cK_null, zI_lit, zJ_lit, zI_add, zI_sub, zI_mul, zI_neg, zI_eq, zI_lt, zI_le, Int.reduceLT, Int.reduceLE, Int.reduceAdd, Int.reduceSub, Int.reduceMul, Int.reduceNeg, Int.reduceEq, Int.reduceNe, reduceIte, jf_in, pFc_in, aGi, aGb, aSi, aLc_in, cKc_in, nA_in, jm_s1, jm_s2, jm_p1, jm_p2, jm_b, jn_b, jn_s, jn_p, jset_jset, jset_jpush2, ckR_is, ckr_is, rR_is, ckW_is, cR_is, obi2, ckW_int, eq_self, if_true, ref_null, if_false, ne_eq, not_true_eq_false, not_false_eq_true, decide_true, decide_false, decide_not, Bool.true_and, Bool.false_and, Bool.and_true, Bool.and_false, Bool.true_or, Bool.false_or, Bool.or_true, Bool.or_false, Bool.not_true, Bool.not_false, Bool.false_eq_true, bI_t, bI_f, Int.natCast_one, Int.cast_ofNat_Int, Int.natCast_zero, o23_0, o23_1, o23_2, o12_0, o12_1, o13_0, o13_1, o13_2, o13_3, o13_4, o13_5, o13_6, o14_0, o14_1, o14_2, o14_3, o14_4, o14_5, o3_0, o3_1, o3_2, o3_3, o3_4, o11_0, o11_1, o11_2, o11_3, o4_0, o4_1, o4_2, o4_3, o4_4, o4_5, o4_6
section
variable {F : Nat → Option Cl} {d : Nat} {H : AH} {a b e q fb : Nat} {r t c k f : Int} {cs S nm : Int → Int} {ra : Int → Nat}
theorem okZ_B {β : Type} {x : Bool} {κ : Option β} : okZ (zI (bZ x)) κ = κ := okZ_b
theorem c_needed (W : StW S) (hF : Fzn F H) (hS : SchF F q S nm) (t0 : 0 ≤ t) (t1 : t < S 0) (c0 : 0 ≤ c) (c1 : c < 4) : M2 (d + 3) 3003 [.ref q, .int (zI t), .int (zI c)] H = some (.inl (some (bI (neededS S t c))), H) := by
  obtain ⟨ln, qt, qk, qr, qc, m, hT, hK, -, -⟩ := hS
  have m' := hF.m m
  have N0 := W.n0
  have hTs := hT.size hF
  have hKs := hK.size hF
  obtain ⟨tb, ⟨qn, qcs, qd, qb, u1, -, -, -, wl, s, u2, u3, u4⟩, g1⟩ := hT.get hF t0 t1
  have u1' := hF.m u1
  have bg := h_bget (d := d + 1) (hF.m u2) (i := c) (by omega) c0 (by omega)
  rw [u4 c c0 c1, bI_int] at bg
  have lp : ∀ (n : Nat) (k : Int), 0 ≤ k → k + n = S 1 → G2 (d + 2) 3003 2 [.ref q, .int (zI t), .int (zI c), .int (zI k)] [] H = some (.inl (some (bI (decide (S (24 + 4 * t + c) = 1) || anyF (fun k => decide (S (40 + k) = t ∧ (S (46 + k) = c ∨ S (52 + k) = c))) n k))), H) := by
    intro n
    induction n with
    | zero =>
      intro k k0 hk
      rw [F3003_2]
      simp (disch := first | assumption | omega | decide | exact okF_i | exact okF_r | exact okF_n | exact okF_j | rfl) only [jc_ref, rI_int, rR_ref, rR_null, rJ_long, ckR_ref, ckR_null, ckr_ref, ckr_null, ckW_int, ckW_ref, ckW_null, cI_ok, cR_ok, cR_null, cV_ok, cJ_ok, qH_eq, qD_in, aG_ref, aS_ref, aL_ref, pF_ref, cK_ref, cK_null, zI_lit, zJ_lit, zI_add, zI_sub, zI_mul, zI_neg, zI_eq, zI_lt, zI_le, Int.reduceLT, Int.reduceLE, Int.reduceAdd, Int.reduceSub, Int.reduceMul, Int.reduceNeg, Int.reduceEq, Int.reduceNe, reduceIte, jf_in, pFc_in, aGi, aGb, aSi, aLc_in, cKc_in, nA_in, jm_s1, jm_s2, jm_p1, jm_p2, jm_b, jn_b, jn_s, jn_p, jset_jset, jset_jpush2, ckR_is, ckr_is, rR_is, ckW_is, cR_is, obi2, ckW_int, eq_self, if_true, ref_null, if_false, ne_eq, not_true_eq_false, not_false_eq_true, decide_true, decide_false, decide_not, Bool.true_and, Bool.false_and, Bool.and_true, Bool.and_false, Bool.true_or, Bool.false_or, Bool.or_true, Bool.or_false, Bool.not_true, Bool.not_false, Bool.false_eq_true, bI_t, bI_f, Int.natCast_one, Int.cast_ofNat_Int, Int.natCast_zero, o23_0, o23_1, o23_2, o12_0, o12_1, o13_0, o13_1, o13_2, o13_3, o13_4, o13_5, o13_6, o14_0, o14_1, o14_2, o14_3, o14_4, o14_5, o3_0, o3_1, o3_2, o3_3, o3_4, o11_0, o11_1, o11_2, o11_3, o4_0, o4_1, o4_2, o4_3, o4_4, o4_5, o4_6, m', hKs, anyF]
      rw [if_pos (by omega)]
      simp (disch := first | assumption | omega | decide | exact okF_i | exact okF_r | exact okF_n | exact okF_j | rfl) only [jc_ref, rI_int, rR_ref, rR_null, rJ_long, ckR_ref, ckR_null, ckr_ref, ckr_null, ckW_int, ckW_ref, ckW_null, cI_ok, cR_ok, cR_null, cV_ok, cJ_ok, qH_eq, qD_in, aG_ref, aS_ref, aL_ref, pF_ref, cK_ref, cK_null, zI_lit, zJ_lit, zI_add, zI_sub, zI_mul, zI_neg, zI_eq, zI_lt, zI_le, Int.reduceLT, Int.reduceLE, Int.reduceAdd, Int.reduceSub, Int.reduceMul, Int.reduceNeg, Int.reduceEq, Int.reduceNe, reduceIte, jf_in, pFc_in, aGi, aGb, aSi, aLc_in, cKc_in, nA_in, jm_s1, jm_s2, jm_p1, jm_p2, jm_b, jn_b, jn_s, jn_p, jset_jset, jset_jpush2, ckR_is, ckr_is, rR_is, ckW_is, cR_is, obi2, ckW_int, eq_self, if_true, ref_null, if_false, ne_eq, not_true_eq_false, not_false_eq_true, decide_true, decide_false, decide_not, Bool.true_and, Bool.false_and, Bool.and_true, Bool.and_false, Bool.true_or, Bool.false_or, Bool.or_true, Bool.or_false, Bool.not_true, Bool.not_false, Bool.false_eq_true, bI_t, bI_f, Int.natCast_one, Int.cast_ofNat_Int, Int.natCast_zero, o23_0, o23_1, o23_2, o12_0, o12_1, o13_0, o13_1, o13_2, o13_3, o13_4, o13_5, o13_6, o14_0, o14_1, o14_2, o14_3, o14_4, o14_5, o3_0, o3_1, o3_2, o3_3, o3_4, o11_0, o11_1, o11_2, o11_3, o4_0, o4_1, o4_2, o4_3, o4_4, o4_5, o4_6, g1, u1', bg, okZ_B]
      rw [bI_int]
    | succ n ih =>
      intro k k0 hk
      have ih' := ih (k + 1) (by omega) (by omega)
      obtain ⟨kb, ⟨ke, w1, w2⟩, g2⟩ := hK.get hF k0 (show k < S 1 by omega)
      have w1' := hF.m w1
      obtain ⟨K1, K2, K3, K4⟩ := W.key k0 (show k < S 1 by omega)
      have hh := c_has (d := d + 1) (x0 := 0) (Or.inl rfl) w1' rfl hF w2 K2.1 K2.2 K3.1 K3.2 c0 (by omega)
      have e : anyF (fun k => decide (S (40 + k) = t ∧ (S (46 + k) = c ∨ S (52 + k) = c))) (n + 1) k = (decide (S (40 + k) = t ∧ (S (46 + k) = c ∨ S (52 + k) = c)) || anyF (fun k => decide (S (40 + k) = t ∧ (S (46 + k) = c ∨ S (52 + k) = c))) n (k + 1)) := rfl
      rw [F3003_2, e]
      generalize anyF (fun k => decide (S (40 + k) = t ∧ (S (46 + k) = c ∨ S (52 + k) = c))) n (k + 1) = rest at ih' ⊢
      simp (disch := first | assumption | omega | decide | exact okF_i | exact okF_r | exact okF_n | exact okF_j | rfl) only [jc_ref, rI_int, rR_ref, rR_null, rJ_long, ckR_ref, ckR_null, ckr_ref, ckr_null, ckW_int, ckW_ref, ckW_null, cI_ok, cR_ok, cR_null, cV_ok, cJ_ok, qH_eq, qD_in, aG_ref, aS_ref, aL_ref, pF_ref, cK_ref, cK_null, zI_lit, zJ_lit, zI_add, zI_sub, zI_mul, zI_neg, zI_eq, zI_lt, zI_le, Int.reduceLT, Int.reduceLE, Int.reduceAdd, Int.reduceSub, Int.reduceMul, Int.reduceNeg, Int.reduceEq, Int.reduceNe, reduceIte, jf_in, pFc_in, aGi, aGb, aSi, aLc_in, cKc_in, nA_in, jm_s1, jm_s2, jm_p1, jm_p2, jm_b, jn_b, jn_s, jn_p, jset_jset, jset_jpush2, ckR_is, ckr_is, rR_is, ckW_is, cR_is, obi2, ckW_int, eq_self, if_true, ref_null, if_false, ne_eq, not_true_eq_false, not_false_eq_true, decide_true, decide_false, decide_not, Bool.true_and, Bool.false_and, Bool.and_true, Bool.and_false, Bool.true_or, Bool.false_or, Bool.or_true, Bool.or_false, Bool.not_true, Bool.not_false, Bool.false_eq_true, bI_t, bI_f, Int.natCast_one, Int.cast_ofNat_Int, Int.natCast_zero, o23_0, o23_1, o23_2, o12_0, o12_1, o13_0, o13_1, o13_2, o13_3, o13_4, o13_5, o13_6, o14_0, o14_1, o14_2, o14_3, o14_4, o14_5, o3_0, o3_1, o3_2, o3_3, o3_4, o11_0, o11_1, o11_2, o11_3, o4_0, o4_1, o4_2, o4_3, o4_4, o4_5, o4_6, m', hKs, g2, w1']
      rw [if_neg (by omega)]
      by_cases e1 : S (40 + k) = t
      · rw [if_pos e1]
        by_cases e2 : S (46 + k) = c ∨ S (52 + k) = c
        · have : (decide (S (46 + k) = c) || decide (S (52 + k) = c)) = true := by simp [e2]
          rw [this] at hh
          simp (disch := first | assumption | omega | decide | exact okF_i | exact okF_r | exact okF_n | exact okF_j | rfl) only [jc_ref, rI_int, rR_ref, rR_null, rJ_long, ckR_ref, ckR_null, ckr_ref, ckr_null, ckW_int, ckW_ref, ckW_null, cI_ok, cR_ok, cR_null, cV_ok, cJ_ok, qH_eq, qD_in, aG_ref, aS_ref, aL_ref, pF_ref, cK_ref, cK_null, zI_lit, zJ_lit, zI_add, zI_sub, zI_mul, zI_neg, zI_eq, zI_lt, zI_le, Int.reduceLT, Int.reduceLE, Int.reduceAdd, Int.reduceSub, Int.reduceMul, Int.reduceNeg, Int.reduceEq, Int.reduceNe, reduceIte, jf_in, pFc_in, aGi, aGb, aSi, aLc_in, cKc_in, nA_in, jm_s1, jm_s2, jm_p1, jm_p2, jm_b, jn_b, jn_s, jn_p, jset_jset, jset_jpush2, ckR_is, ckr_is, rR_is, ckW_is, cR_is, obi2, ckW_int, eq_self, if_true, ref_null, if_false, ne_eq, not_true_eq_false, not_false_eq_true, decide_true, decide_false, decide_not, Bool.true_and, Bool.false_and, Bool.and_true, Bool.and_false, Bool.true_or, Bool.false_or, Bool.or_true, Bool.or_false, Bool.not_true, Bool.not_false, Bool.false_eq_true, bI_t, bI_f, Int.natCast_one, Int.cast_ofNat_Int, Int.natCast_zero, o23_0, o23_1, o23_2, o12_0, o12_1, o13_0, o13_1, o13_2, o13_3, o13_4, o13_5, o13_6, o14_0, o14_1, o14_2, o14_3, o14_4, o14_5, o3_0, o3_1, o3_2, o3_3, o3_4, o11_0, o11_1, o11_2, o11_3, o4_0, o4_1, o4_2, o4_3, o4_4, o4_5, o4_6, hh, e1, e2, and_self]
        · have : (decide (S (46 + k) = c) || decide (S (52 + k) = c)) = false := by
            simp only [not_or] at e2; simp [e2.1, e2.2]
          rw [this] at hh
          simp (disch := first | assumption | omega | decide | exact okF_i | exact okF_r | exact okF_n | exact okF_j | rfl) only [jc_ref, rI_int, rR_ref, rR_null, rJ_long, ckR_ref, ckR_null, ckr_ref, ckr_null, ckW_int, ckW_ref, ckW_null, cI_ok, cR_ok, cR_null, cV_ok, cJ_ok, qH_eq, qD_in, aG_ref, aS_ref, aL_ref, pF_ref, cK_ref, cK_null, zI_lit, zJ_lit, zI_add, zI_sub, zI_mul, zI_neg, zI_eq, zI_lt, zI_le, Int.reduceLT, Int.reduceLE, Int.reduceAdd, Int.reduceSub, Int.reduceMul, Int.reduceNeg, Int.reduceEq, Int.reduceNe, reduceIte, jf_in, pFc_in, aGi, aGb, aSi, aLc_in, cKc_in, nA_in, jm_s1, jm_s2, jm_p1, jm_p2, jm_b, jn_b, jn_s, jn_p, jset_jset, jset_jpush2, ckR_is, ckr_is, rR_is, ckW_is, cR_is, obi2, ckW_int, eq_self, if_true, ref_null, if_false, ne_eq, not_true_eq_false, not_false_eq_true, decide_true, decide_false, decide_not, Bool.true_and, Bool.false_and, Bool.and_true, Bool.and_false, Bool.true_or, Bool.false_or, Bool.or_true, Bool.or_false, Bool.not_true, Bool.not_false, Bool.false_eq_true, bI_t, bI_f, Int.natCast_one, Int.cast_ofNat_Int, Int.natCast_zero, o23_0, o23_1, o23_2, o12_0, o12_1, o13_0, o13_1, o13_2, o13_3, o13_4, o13_5, o13_6, o14_0, o14_1, o14_2, o14_3, o14_4, o14_5, o3_0, o3_1, o3_2, o3_3, o3_4, o11_0, o11_1, o11_2, o11_3, o4_0, o4_1, o4_2, o4_3, o4_4, o4_5, o4_6, hh, e1, e2, and_false, and_self]
          exact ih'
      · rw [if_neg e1]
        simp (disch := first | assumption | omega | decide | exact okF_i | exact okF_r | exact okF_n | exact okF_j | rfl) only [jc_ref, rI_int, rR_ref, rR_null, rJ_long, ckR_ref, ckR_null, ckr_ref, ckr_null, ckW_int, ckW_ref, ckW_null, cI_ok, cR_ok, cR_null, cV_ok, cJ_ok, qH_eq, qD_in, aG_ref, aS_ref, aL_ref, pF_ref, cK_ref, cK_null, zI_lit, zJ_lit, zI_add, zI_sub, zI_mul, zI_neg, zI_eq, zI_lt, zI_le, Int.reduceLT, Int.reduceLE, Int.reduceAdd, Int.reduceSub, Int.reduceMul, Int.reduceNeg, Int.reduceEq, Int.reduceNe, reduceIte, jf_in, pFc_in, aGi, aGb, aSi, aLc_in, cKc_in, nA_in, jm_s1, jm_s2, jm_p1, jm_p2, jm_b, jn_b, jn_s, jn_p, jset_jset, jset_jpush2, ckR_is, ckr_is, rR_is, ckW_is, cR_is, obi2, ckW_int, eq_self, if_true, ref_null, if_false, ne_eq, not_true_eq_false, not_false_eq_true, decide_true, decide_false, decide_not, Bool.true_and, Bool.false_and, Bool.and_true, Bool.and_false, Bool.true_or, Bool.false_or, Bool.or_true, Bool.or_false, Bool.not_true, Bool.not_false, Bool.false_eq_true, bI_t, bI_f, Int.natCast_one, Int.cast_ofNat_Int, Int.natCast_zero, o23_0, o23_1, o23_2, o12_0, o12_1, o13_0, o13_1, o13_2, o13_3, o13_4, o13_5, o13_6, o14_0, o14_1, o14_2, o14_3, o14_4, o14_5, o3_0, o3_1, o3_2, o3_3, o3_4, o11_0, o11_1, o11_2, o11_3, o4_0, o4_1, o4_2, o4_3, o4_4, o4_5, o4_6, e1, false_and]
        exact ih'
  rw [Y3003 H (jrecv_in m' rfl), F3003_0]
  have := lp (S 1).toNat 0 (by omega) (by omega)
  simp (disch := first | assumption | omega | decide | exact okF_i | exact okF_r | exact okF_n | exact okF_j | rfl) only [jc_ref, rI_int, rR_ref, rR_null, rJ_long, ckR_ref, ckR_null, ckr_ref, ckr_null, ckW_int, ckW_ref, ckW_null, cI_ok, cR_ok, cR_null, cV_ok, cJ_ok, qH_eq, qD_in, aG_ref, aS_ref, aL_ref, pF_ref, cK_ref, cK_null, zI_lit, zJ_lit, zI_add, zI_sub, zI_mul, zI_neg, zI_eq, zI_lt, zI_le, Int.reduceLT, Int.reduceLE, Int.reduceAdd, Int.reduceSub, Int.reduceMul, Int.reduceNeg, Int.reduceEq, Int.reduceNe, reduceIte, jf_in, pFc_in, aGi, aGb, aSi, aLc_in, cKc_in, nA_in, jm_s1, jm_s2, jm_p1, jm_p2, jm_b, jn_b, jn_s, jn_p, jset_jset, jset_jpush2, ckR_is, ckr_is, rR_is, ckW_is, cR_is, obi2, ckW_int, eq_self, if_true, ref_null, if_false, ne_eq, not_true_eq_false, not_false_eq_true, decide_true, decide_false, decide_not, Bool.true_and, Bool.false_and, Bool.and_true, Bool.and_false, Bool.true_or, Bool.false_or, Bool.or_true, Bool.or_false, Bool.not_true, Bool.not_false, Bool.false_eq_true, bI_t, bI_f, Int.natCast_one, Int.cast_ofNat_Int, Int.natCast_zero, o23_0, o23_1, o23_2, o12_0, o12_1, o13_0, o13_1, o13_2, o13_3, o13_4, o13_5, o13_6, o14_0, o14_1, o14_2, o14_3, o14_4, o14_5, o3_0, o3_1, o3_2, o3_3, o3_4, o11_0, o11_1, o11_2, o11_3, o4_0, o4_1, o4_2, o4_3, o4_4, o4_5, o4_6]
  exact this
theorem tgt_al (h : 0 ≤ tgtS S r f) : S (150 + tgtS S r f) = 1 ∧ tgtS S r f < 99 := by
  have key : ∀ (P : Int → Bool), 0 ≤ fnd (fun q => decide (S (150 + q) = 1) && P q) 99 0 → S (150 + fnd (fun q => decide (S (150 + q) = 1) && P q) 99 0) = 1 ∧ fnd (fun q => decide (S (150 + q) = 1) && P q) 99 0 < 99 := fun P hp => by
    rcases fnd_rg (f := fun q => decide (S (150 + q) = 1) && P q) 99 0 with e | ⟨e1, e2, e3⟩
    · rw [e] at hp; omega
    · simp only [Bool.and_eq_true, decide_eq_true_eq] at e3
      exact ⟨e3.1, by omega⟩
  unfold tgtS at h ⊢
  by_cases hc : cellS S r (S (64 + f)) < 0 ∨ (if S (70 + f) < 0 then 0 else cellS S r (S (70 + f))) < 0
  · rw [if_pos hc] at h; omega
  · rw [if_neg hc] at h ⊢
    exact key _ h
/-- is there a row of that number -/
def isRowS (S : Int → Int) (r : Int) : Bool := decide (0 ≤ r) && (decide (r ≤ 98) && decide (S (150 + r) = 1))
theorem isRowS_t {r : Int} : isRowS S r = true ↔ 0 ≤ r ∧ r < 99 ∧ S (150 + r) = 1 := by
  unfold isRowS
  simp only [Bool.and_eq_true, decide_eq_true_eq]
  omega
theorem c_find (W : StW S) (hF : Fzn F H) (hQ : StoQ F H a q S ra) (hr : Rg r) : M2 (d + 2) 4004 [.ref a, .int (zI r)] H = some (.inl (some (if isRowS S r = true then .ref (ra r) else .null)), H) := by
  obtain ⟨ins, on, ar, v1, v2, v3, cap, mc, l, h1, h2, h3, h4, -⟩ := hQ
  obtain ⟨rg1, rg2⟩ := hr
  have hl := rows_len h4
  have hle := alv_le W
  have hsz := h_size (d := d) h2
  have lp : ∀ (s : List Int) (n : Nat), (alv S 150 99 0).drop n = s → n ≤ (alv S 150 99 0).length → G2 (d + 1) 4004 2 [.ref a, .int (zI r), .int (zI n)] [] H = some (.inl (some (if r ∈ s then .ref (ra r) else .null)), H) := by
    intro s
    induction s with
    | nil =>
      intro n hn hnl
      have : (alv S 150 99 0).length ≤ n := by
        have := congrArg List.length hn
        simp at this
        omega
      rw [F4004_2]
      simp (disch := first | assumption | omega | decide | exact okF_i | exact okF_r | exact okF_n | exact okF_j | rfl) only [jc_ref, rI_int, rR_ref, rR_null, rJ_long, ckR_ref, ckR_null, ckr_ref, ckr_null, ckW_int, ckW_ref, ckW_null, cI_ok, cR_ok, cR_null, cV_ok, cJ_ok, qH_eq, qD_in, aG_ref, aS_ref, aL_ref, pF_ref, cK_ref, cK_null, zI_lit, zJ_lit, zI_add, zI_sub, zI_mul, zI_neg, zI_eq, zI_lt, zI_le, Int.reduceLT, Int.reduceLE, Int.reduceAdd, Int.reduceSub, Int.reduceMul, Int.reduceNeg, Int.reduceEq, Int.reduceNe, reduceIte, jf_in, pFc_in, aGi, aGb, aSi, aLc_in, cKc_in, nA_in, jm_s1, jm_s2, jm_p1, jm_p2, jm_b, jn_b, jn_s, jn_p, jset_jset, jset_jpush2, ckR_is, ckr_is, rR_is, ckW_is, cR_is, obi2, ckW_int, eq_self, if_true, ref_null, if_false, ne_eq, not_true_eq_false, not_false_eq_true, decide_true, decide_false, decide_not, Bool.true_and, Bool.false_and, Bool.and_true, Bool.and_false, Bool.true_or, Bool.false_or, Bool.or_true, Bool.or_false, Bool.not_true, Bool.not_false, Bool.false_eq_true, bI_t, bI_f, Int.natCast_one, Int.cast_ofNat_Int, Int.natCast_zero, o23_0, o23_1, o23_2, o12_0, o12_1, o13_0, o13_1, o13_2, o13_3, o13_4, o13_5, o13_6, o14_0, o14_1, o14_2, o14_3, o14_4, o14_5, o3_0, o3_1, o3_2, o3_3, o3_4, o11_0, o11_1, o11_2, o11_3, o4_0, o4_1, o4_2, o4_3, o4_4, o4_5, o4_6, h1, hsz, List.not_mem_nil]
      rw [if_pos (by omega)]
    | cons x s ih =>
      intro n hn hnl
      obtain ⟨e1, e2, e3, e4, x0, x1, x2⟩ := rows_at h4 rfl hn
      have ih' := ih (n + 1) e3 (by omega)
      have hg := h_get (d := d) (i := n) h2 (by omega) (by omega) (by omega) (by omega)
      rw [Int.toNat_natCast, e1] at hg
      obtain ⟨xe, xg, m1, m2, m3⟩ := e2
      have m1' := hF.m m1
      rw [F4004_2]
      simp (disch := first | assumption | omega | decide | exact okF_i | exact okF_r | exact okF_n | exact okF_j | rfl) only [jc_ref, rI_int, rR_ref, rR_null, rJ_long, ckR_ref, ckR_null, ckr_ref, ckr_null, ckW_int, ckW_ref, ckW_null, cI_ok, cR_ok, cR_null, cV_ok, cJ_ok, qH_eq, qD_in, aG_ref, aS_ref, aL_ref, pF_ref, cK_ref, cK_null, zI_lit, zJ_lit, zI_add, zI_sub, zI_mul, zI_neg, zI_eq, zI_lt, zI_le, Int.reduceLT, Int.reduceLE, Int.reduceAdd, Int.reduceSub, Int.reduceMul, Int.reduceNeg, Int.reduceEq, Int.reduceNe, reduceIte, jf_in, pFc_in, aGi, aGb, aSi, aLc_in, cKc_in, nA_in, jm_s1, jm_s2, jm_p1, jm_p2, jm_b, jn_b, jn_s, jn_p, jset_jset, jset_jpush2, ckR_is, ckr_is, rR_is, ckW_is, cR_is, obi2, ckW_int, eq_self, if_true, ref_null, if_false, ne_eq, not_true_eq_false, not_false_eq_true, decide_true, decide_false, decide_not, Bool.true_and, Bool.false_and, Bool.and_true, Bool.and_false, Bool.true_or, Bool.false_or, Bool.or_true, Bool.or_false, Bool.not_true, Bool.not_false, Bool.false_eq_true, bI_t, bI_f, Int.natCast_one, Int.cast_ofNat_Int, Int.natCast_zero, o23_0, o23_1, o23_2, o12_0, o12_1, o13_0, o13_1, o13_2, o13_3, o13_4, o13_5, o13_6, o14_0, o14_1, o14_2, o14_3, o14_4, o14_5, o3_0, o3_1, o3_2, o3_3, o3_4, o11_0, o11_1, o11_2, o11_3, o4_0, o4_1, o4_2, o4_3, o4_4, o4_5, o4_6, h1, hsz, hg, m1']
      rw [if_neg (by omega)]
      by_cases hxr : x = r
      · subst hxr
        rw [if_pos rfl, if_pos (List.mem_cons_self)]
      · rw [if_neg hxr]
        have : (r ∈ x :: s) ↔ r ∈ s := by
          rw [List.mem_cons]
          exact ⟨fun z => z.elim (fun y => absurd y.symm hxr) id, Or.inr⟩
        simp only [this]
        exact ih'
  have := lp _ 0 rfl (Nat.zero_le _)
  rw [Y4004 H (jrecv_in h1 rfl), F4004_0]
  simp (disch := first | assumption | omega | decide | exact okF_i | exact okF_r | exact okF_n | exact okF_j | rfl) only [jc_ref, rI_int, rR_ref, rR_null, rJ_long, ckR_ref, ckR_null, ckr_ref, ckr_null, ckW_int, ckW_ref, ckW_null, cI_ok, cR_ok, cR_null, cV_ok, cJ_ok, qH_eq, qD_in, aG_ref, aS_ref, aL_ref, pF_ref, cK_ref, cK_null, zI_lit, zJ_lit, zI_add, zI_sub, zI_mul, zI_neg, zI_eq, zI_lt, zI_le, Int.reduceLT, Int.reduceLE, Int.reduceAdd, Int.reduceSub, Int.reduceMul, Int.reduceNeg, Int.reduceEq, Int.reduceNe, reduceIte, jf_in, pFc_in, aGi, aGb, aSi, aLc_in, cKc_in, nA_in, jm_s1, jm_s2, jm_p1, jm_p2, jm_b, jn_b, jn_s, jn_p, jset_jset, jset_jpush2, ckR_is, ckr_is, rR_is, ckW_is, cR_is, obi2, ckW_int, eq_self, if_true, ref_null, if_false, ne_eq, not_true_eq_false, not_false_eq_true, decide_true, decide_false, decide_not, Bool.true_and, Bool.false_and, Bool.and_true, Bool.and_false, Bool.true_or, Bool.false_or, Bool.or_true, Bool.or_false, Bool.not_true, Bool.not_false, Bool.false_eq_true, bI_t, bI_f, Int.natCast_one, Int.cast_ofNat_Int, Int.natCast_zero, o23_0, o23_1, o23_2, o12_0, o12_1, o13_0, o13_1, o13_2, o13_3, o13_4, o13_5, o13_6, o14_0, o14_1, o14_2, o14_3, o14_4, o14_5, o3_0, o3_1, o3_2, o3_3, o3_4, o11_0, o11_1, o11_2, o11_3, o4_0, o4_1, o4_2, o4_3, o4_4, o4_5, o4_6]
  refine this.trans ?_
  have e : (r ∈ (alv S 150 99 0).drop 0) ↔ isRowS S r = true := by
    rw [List.drop_zero, alv_mem, isRowS_t]
    omega
  simp only [e]
def cntF (P : Int → Bool) : Nat → Int → Int
  | 0, _ => 0
  | n + 1, k => (if P k = true then 1 else 0) + cntF P n (k + 1)
theorem cntF_le {P : Int → Bool} : ∀ (n : Nat) (k : Int), 0 ≤ cntF P n k ∧ cntF P n k ≤ n
  | 0, _ => ⟨Int.le_refl _, Int.le_refl _⟩
  | n + 1, k => by
    have := cntF_le (P := P) n (k + 1)
    simp only [cntF]
    by_cases h : P k = true
    · rw [if_pos h]; omega
    · rw [if_neg h]; omega
def rfP (S : Int → Int) (r x f : Int) : Bool := decide (S (249 + x) = S (58 + f)) && decide (tgtS S x f = r)
def rfL (S : Int → Int) (r : Int) : List Int → Int
  | [] => 0
  | x :: s => cntF (rfP S r x) (S 2).toNat 0 + rfL S r s
theorem rfL_le (W : StW S) : ∀ (s : List Int), 0 ≤ rfL S r s ∧ rfL S r s ≤ 6 * s.length
  | [] => ⟨Int.le_refl _, Int.le_refl _⟩
  | x :: s => by
    have h1 := rfL_le W s
    have h2 := cntF_le (P := rfP S r x) (S 2).toNat 0
    have := W.n0
    simp only [rfL, List.length_cons]
    omega
theorem prV_R {z : Int} : isR (prV ra z) = true := by
  unfold prV
  by_cases h : z < 0
  · rw [if_pos h]; rfl
  · rw [if_neg h]; rfl
theorem ref_eq2 {x y : Nat} : ((.ref x : Value) = .ref y) = (x = y) := propext ⟨fun h => by cases h; rfl, fun h => by rw [h]⟩
theorem c_referred (W : StW S) (hF : Fzn F H) (hS : SchF F q S nm) (hQ : StoQ F H a q S ra) (r0 : 0 ≤ r) (r1 : r < 99) (r2 : S (150 + r) = 1) :
    M2 (d + 4) 4011 [.ref a, .ref (ra r)] H = some (.inl (some (.int (zI (rfL S r (alv S 150 99 0))))), H) := by
  have hQ' := hQ
  have hS' := hS
  obtain ⟨ln, qt, qk, qr, qc, m, -, -, hR, -⟩ := hS
  have m' := hF.m m
  obtain ⟨ins, on, ar, v1, v2, v3, cap, mc, l, h1, h2, h3, h4, -⟩ := hQ
  have hl := rows_len h4
  have hle := alv_le W
  have hsz := h_size (d := d + 2) h2
  have N0 := W.n0
  have hRs := hR.size hF
  have inner : ∀ (x : Int) (n : Nat), 0 ≤ x → x < 99 → S (150 + x) = 1 → n < 99 → l.getD n .null = .ref (ra x) → (n : Int) < l.length → RowF F (ra x) x (S (249 + x)) (cellS S x) → ∀ (j : Nat) (k acc : Int), 0 ≤ k → k + j = S 2 → Rg acc → Rg (acc + j) → 0 ≤ acc →
      G2 (d + 3) 4011 18 [.ref a, .ref (ra r), .int (zI acc), .int (zI n), .int (zI k)] [] H = G2 (d + 3) 4011 4 [.ref a, .ref (ra r), .int (zI (acc + cntF (rfP S r x) j k)), .int (zI (n + 1)), .int (zI (S 2))] [] H := by
    intro x n x0 x1 x2 n9 e1 nl hb j
    induction j with
    | zero =>
      intro k acc k0 hk ra0 ra1 a0
      obtain rfl : k = S 2 := by omega
      rw [F4011_18]
      simp (disch := first | assumption | omega | decide | exact okF_i | exact okF_r | exact okF_n | exact okF_j | rfl) only [jc_ref, rI_int, rR_ref, rR_null, rJ_long, ckR_ref, ckR_null, ckr_ref, ckr_null, ckW_int, ckW_ref, ckW_null, cI_ok, cR_ok, cR_null, cV_ok, cJ_ok, qH_eq, qD_in, aG_ref, aS_ref, aL_ref, pF_ref, cK_ref, cK_null, zI_lit, zJ_lit, zI_add, zI_sub, zI_mul, zI_neg, zI_eq, zI_lt, zI_le, Int.reduceLT, Int.reduceLE, Int.reduceAdd, Int.reduceSub, Int.reduceMul, Int.reduceNeg, Int.reduceEq, Int.reduceNe, reduceIte, jf_in, pFc_in, aGi, aGb, aSi, aLc_in, cKc_in, nA_in, jm_s1, jm_s2, jm_p1, jm_p2, jm_b, jn_b, jn_s, jn_p, jset_jset, jset_jpush2, ckR_is, ckr_is, rR_is, ckW_is, cR_is, obi2, ckW_int, eq_self, if_true, ref_null, if_false, ne_eq, not_true_eq_false, not_false_eq_true, decide_true, decide_false, decide_not, Bool.true_and, Bool.false_and, Bool.and_true, Bool.and_false, Bool.true_or, Bool.false_or, Bool.or_true, Bool.or_false, Bool.not_true, Bool.not_false, Bool.false_eq_true, bI_t, bI_f, Int.natCast_one, Int.cast_ofNat_Int, Int.natCast_zero, o23_0, o23_1, o23_2, o12_0, o12_1, o13_0, o13_1, o13_2, o13_3, o13_4, o13_5, o13_6, o14_0, o14_1, o14_2, o14_3, o14_4, o14_5, o3_0, o3_1, o3_2, o3_3, o3_4, o11_0, o11_1, o11_2, o11_3, o4_0, o4_1, o4_2, o4_3, o4_4, o4_5, o4_6, h1, m', hRs, cntF, Int.add_zero]
      rw [if_pos (Int.le_refl _)]
    | succ j ih =>
      intro k acc k0 hk ra0 ra1 a0
      obtain ⟨rg1, rg2⟩ := ra0
      obtain ⟨rg3, rg4⟩ := ra1
      obtain ⟨fb, hf, g2⟩ := hR.get hF k0 (show k < S 2 by omega)
      have pr := c_parent (d := d) W hF hS' hQ' hb x0 x1 hf k0 (by omega)
      obtain ⟨fe, y1, y2⟩ := id hf
      have y1' := hF.m y1
      obtain ⟨be, bg, b1, b2, b3⟩ := id hb
      have b1' := hF.m b1
      have hg := h_get (d := d + 2) (i := n) h2 (by omega) (by omega) (by omega) (by omega)
      rw [Int.toNat_natCast, e1] at hg
      have isr : isR (prV ra (if S (249 + x) = S (58 + k) then tgtS S x k else -1)) = true := prV_R
      have e : cntF (rfP S r x) (j + 1) k = (if rfP S r x k = true then 1 else 0) + cntF (rfP S r x) j (k + 1) := rfl
      rw [F4011_18, e]
      simp (disch := first | assumption | omega | decide | exact okF_i | exact okF_r | exact okF_n | exact okF_j | rfl) only [jc_ref, rI_int, rR_ref, rR_null, rJ_long, ckR_ref, ckR_null, ckr_ref, ckr_null, ckW_int, ckW_ref, ckW_null, cI_ok, cR_ok, cR_null, cV_ok, cJ_ok, qH_eq, qD_in, aG_ref, aS_ref, aL_ref, pF_ref, cK_ref, cK_null, zI_lit, zJ_lit, zI_add, zI_sub, zI_mul, zI_neg, zI_eq, zI_lt, zI_le, Int.reduceLT, Int.reduceLE, Int.reduceAdd, Int.reduceSub, Int.reduceMul, Int.reduceNeg, Int.reduceEq, Int.reduceNe, reduceIte, jf_in, pFc_in, aGi, aGb, aSi, aLc_in, cKc_in, nA_in, jm_s1, jm_s2, jm_p1, jm_p2, jm_b, jn_b, jn_s, jn_p, jset_jset, jset_jpush2, ckR_is, ckr_is, rR_is, ckW_is, cR_is, obi2, ckW_int, eq_self, if_true, ref_null, if_false, ne_eq, not_true_eq_false, not_false_eq_true, decide_true, decide_false, decide_not, Bool.true_and, Bool.false_and, Bool.and_true, Bool.and_false, Bool.true_or, Bool.false_or, Bool.or_true, Bool.or_false, Bool.not_true, Bool.not_false, Bool.false_eq_true, bI_t, bI_f, Int.natCast_one, Int.cast_ofNat_Int, Int.natCast_zero, o23_0, o23_1, o23_2, o12_0, o12_1, o13_0, o13_1, o13_2, o13_3, o13_4, o13_5, o13_6, o14_0, o14_1, o14_2, o14_3, o14_4, o14_5, o3_0, o3_1, o3_2, o3_3, o3_4, o11_0, o11_1, o11_2, o11_3, o4_0, o4_1, o4_2, o4_3, o4_4, o4_5, o4_6, h1, m', hRs, hg, g2, b1', y1', pr]
      rw [if_neg (by omega)]
      have cond : (prV ra (if S (249 + x) = S (58 + k) then tgtS S x k else -1) = .ref (ra r)) ↔ rfP S r x k = true := by
        unfold rfP
        rw [Bool.and_eq_true, decide_eq_true_eq, decide_eq_true_eq]
        by_cases t1 : S (249 + x) = S (58 + k)
        · rw [if_pos t1]
          unfold prV
          by_cases t2 : tgtS S x k < 0
          · rw [if_pos t2]
            exact ⟨fun z => (by cases z), fun z => (by omega)⟩
          · rw [if_neg t2, ref_eq2]
            obtain ⟨t3, t4⟩ := tgt_al (S := S) (r := x) (f := k) (by omega)
            exact ⟨fun z => ⟨t1, rows_inj h4 (by omega) t4 t3 r0 r1 r2 z⟩, fun z => (by rw [z.2])⟩
        · rw [if_neg t1]
          exact ⟨fun z => (by cases z), fun z => absurd z.1 t1⟩
      by_cases hP : rfP S r x k = true
      · rw [if_pos (cond.mpr hP), if_pos hP, ih (k + 1) (acc + 1) (by omega) (by omega) ⟨by omega, by omega⟩ ⟨by omega, by omega⟩ (by omega), Int.add_assoc]
      · rw [if_neg (fun z => hP (cond.mp z)), if_neg hP, ih (k + 1) acc (by omega) (by omega) ⟨by omega, by omega⟩ ⟨by omega, by omega⟩ (by omega), Int.zero_add]
  have lp : ∀ (s : List Int) (n : Nat) (acc : Int) (v4 : Value), (alv S 150 99 0).drop n = s → n ≤ (alv S 150 99 0).length → 0 ≤ acc → acc ≤ 6 * n → G2 (d + 3) 4011 4 [.ref a, .ref (ra r), .int (zI acc), .int (zI n), v4] [] H = some (.inl (some (.int (zI (acc + rfL S r s)))), H) := by
    intro s
    induction s with
    | nil =>
      intro n acc v4 hn hnl a0 a1
      have : (alv S 150 99 0).length ≤ n := by
        have := congrArg List.length hn
        simp at this
        omega
      rw [F4011_4]
      simp (disch := first | assumption | omega | decide | exact okF_i | exact okF_r | exact okF_n | exact okF_j | rfl) only [jc_ref, rI_int, rR_ref, rR_null, rJ_long, ckR_ref, ckR_null, ckr_ref, ckr_null, ckW_int, ckW_ref, ckW_null, cI_ok, cR_ok, cR_null, cV_ok, cJ_ok, qH_eq, qD_in, aG_ref, aS_ref, aL_ref, pF_ref, cK_ref, cK_null, zI_lit, zJ_lit, zI_add, zI_sub, zI_mul, zI_neg, zI_eq, zI_lt, zI_le, Int.reduceLT, Int.reduceLE, Int.reduceAdd, Int.reduceSub, Int.reduceMul, Int.reduceNeg, Int.reduceEq, Int.reduceNe, reduceIte, jf_in, pFc_in, aGi, aGb, aSi, aLc_in, cKc_in, nA_in, jm_s1, jm_s2, jm_p1, jm_p2, jm_b, jn_b, jn_s, jn_p, jset_jset, jset_jpush2, ckR_is, ckr_is, rR_is, ckW_is, cR_is, obi2, ckW_int, eq_self, if_true, ref_null, if_false, ne_eq, not_true_eq_false, not_false_eq_true, decide_true, decide_false, decide_not, Bool.true_and, Bool.false_and, Bool.and_true, Bool.and_false, Bool.true_or, Bool.false_or, Bool.or_true, Bool.or_false, Bool.not_true, Bool.not_false, Bool.false_eq_true, bI_t, bI_f, Int.natCast_one, Int.cast_ofNat_Int, Int.natCast_zero, o23_0, o23_1, o23_2, o12_0, o12_1, o13_0, o13_1, o13_2, o13_3, o13_4, o13_5, o13_6, o14_0, o14_1, o14_2, o14_3, o14_4, o14_5, o3_0, o3_1, o3_2, o3_3, o3_4, o11_0, o11_1, o11_2, o11_3, o4_0, o4_1, o4_2, o4_3, o4_4, o4_5, o4_6, h1, hsz, rfL, Int.add_zero]
      rw [if_pos (by omega)]
    | cons x s ih =>
      intro n acc v4 hn hnl a0 a1
      obtain ⟨e1, e2, e3, e4, x0, x1, x2⟩ := rows_at h4 rfl hn
      have cb := cntF_le (P := rfP S r x) (S 2).toNat 0
      have ih' := ih (n + 1) (acc + cntF (rfP S r x) (S 2).toNat 0) (.int (zI (S 2))) e3 (by omega) (by omega) (by omega)
      have inn := inner x n x0 x1 x2 (by omega) e1 (by omega) e2 (S 2).toNat 0 acc (by omega) (by omega) ⟨by omega, by omega⟩ ⟨by omega, by omega⟩ a0
      rw [F4011_4]
      simp (disch := first | assumption | omega | decide | exact okF_i | exact okF_r | exact okF_n | exact okF_j | rfl) only [jc_ref, rI_int, rR_ref, rR_null, rJ_long, ckR_ref, ckR_null, ckr_ref, ckr_null, ckW_int, ckW_ref, ckW_null, cI_ok, cR_ok, cR_null, cV_ok, cJ_ok, qH_eq, qD_in, aG_ref, aS_ref, aL_ref, pF_ref, cK_ref, cK_null, zI_lit, zJ_lit, zI_add, zI_sub, zI_mul, zI_neg, zI_eq, zI_lt, zI_le, Int.reduceLT, Int.reduceLE, Int.reduceAdd, Int.reduceSub, Int.reduceMul, Int.reduceNeg, Int.reduceEq, Int.reduceNe, reduceIte, jf_in, pFc_in, aGi, aGb, aSi, aLc_in, cKc_in, nA_in, jm_s1, jm_s2, jm_p1, jm_p2, jm_b, jn_b, jn_s, jn_p, jset_jset, jset_jpush2, ckR_is, ckr_is, rR_is, ckW_is, cR_is, obi2, ckW_int, eq_self, if_true, ref_null, if_false, ne_eq, not_true_eq_false, not_false_eq_true, decide_true, decide_false, decide_not, Bool.true_and, Bool.false_and, Bool.and_true, Bool.and_false, Bool.true_or, Bool.false_or, Bool.or_true, Bool.or_false, Bool.not_true, Bool.not_false, Bool.false_eq_true, bI_t, bI_f, Int.natCast_one, Int.cast_ofNat_Int, Int.natCast_zero, o23_0, o23_1, o23_2, o12_0, o12_1, o13_0, o13_1, o13_2, o13_3, o13_4, o13_5, o13_6, o14_0, o14_1, o14_2, o14_3, o14_4, o14_5, o3_0, o3_1, o3_2, o3_3, o3_4, o11_0, o11_1, o11_2, o11_3, o4_0, o4_1, o4_2, o4_3, o4_4, o4_5, o4_6, h1, hsz, rfL]
      rw [if_neg (by omega), ← Int.add_assoc]
      exact inn.trans ih'
  have := lp _ 0 0 jno rfl (Nat.zero_le _) (Int.le_refl _) (Int.le_refl _)
  rw [Y4011 H rfl (jrecv_in h1 rfl), F4011_0]
  simp (disch := first | assumption | omega | decide | exact okF_i | exact okF_r | exact okF_n | exact okF_j | rfl) only [jc_ref, rI_int, rR_ref, rR_null, rJ_long, ckR_ref, ckR_null, ckr_ref, ckr_null, ckW_int, ckW_ref, ckW_null, cI_ok, cR_ok, cR_null, cV_ok, cJ_ok, qH_eq, qD_in, aG_ref, aS_ref, aL_ref, pF_ref, cK_ref, cK_null, zI_lit, zJ_lit, zI_add, zI_sub, zI_mul, zI_neg, zI_eq, zI_lt, zI_le, Int.reduceLT, Int.reduceLE, Int.reduceAdd, Int.reduceSub, Int.reduceMul, Int.reduceNeg, Int.reduceEq, Int.reduceNe, reduceIte, jf_in, pFc_in, aGi, aGb, aSi, aLc_in, cKc_in, nA_in, jm_s1, jm_s2, jm_p1, jm_p2, jm_b, jn_b, jn_s, jn_p, jset_jset, jset_jpush2, ckR_is, ckr_is, rR_is, ckW_is, cR_is, obi2, ckW_int, eq_self, if_true, ref_null, if_false, ne_eq, not_true_eq_false, not_false_eq_true, decide_true, decide_false, decide_not, Bool.true_and, Bool.false_and, Bool.and_true, Bool.and_false, Bool.true_or, Bool.false_or, Bool.or_true, Bool.or_false, Bool.not_true, Bool.not_false, Bool.false_eq_true, bI_t, bI_f, Int.natCast_one, Int.cast_ofNat_Int, Int.natCast_zero, o23_0, o23_1, o23_2, o12_0, o12_1, o13_0, o13_1, o13_2, o13_3, o13_4, o13_5, o13_6, o14_0, o14_1, o14_2, o14_3, o14_4, o14_5, o3_0, o3_1, o3_2, o3_3, o3_4, o11_0, o11_1, o11_2, o11_3, o4_0, o4_1, o4_2, o4_3, o4_4, o4_5, o4_6]
  rw [List.drop_zero, Int.zero_add] at this
  exact this
end
