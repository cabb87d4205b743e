/-! sort: where a thing is among others, sought in leaps (printed by tools/gallop.py) -/
-- jc_ref, rI_int, rR_ref, rR_null, rJ_long, ckR_ref, ckR_null, ckr_ref, ckr_null, ckW_int, ckW_ref, ckW_null, cI_ok, cR_ok, cR_null, cV_ok, cJ_ok, qH_eq, qD_in, aG_ref, aS_ref, aL_ref, pF_ref, cK_ref, cK_null, zI_lit, zJ_lit, zI_add, zI_sub, zI_mul, zI_neg, zI_eq, zI_lt, zI_le, Int.reduceLT, Int.reduceLE, Int.reduceAdd, Int.reduceSub, Int.reduceMul, Int.reduceNeg, Int.reduceEq, Int.reduceNe, reduceIte, jf_in, pFc_in, aGi, aGb, aSi, aLc_in, cKc_in, nA_in, jm_s1, jm_s2, jm_p1, jm_p2, jm_b, jn_b, jn_s, jn_p, jset_jset, jset_jpush2, ckR_is, ckr_is, rR_is, ckW_is, cR_is, obi2, ckW_int, eq_self, if_true, ref_null, if_false, ne_eq, not_true_eq_false, not_false_eq_true, decide_true, decide_false, decide_not, Bool.true_and, Bool.false_and, Bool.and_true, Bool.and_false, Bool.true_or, Bool.false_or, Bool.or_true, Bool.or_false, Bool.not_true, Bool.not_false, Bool.false_eq_true, bI_t, bI_f, Int.natCast_one, Int.cast_ofNat_Int, Int.natCast_zero, aGc_V, Int.toNat_natCast = jc_ref, rI_int, rR_ref, rR_null, rJ_long, ckR_ref, ckR_null, ckr_ref, ckr_null, ckW_int, ckW_ref, ckW_null, cI_ok, cR_ok, cR_null, cV_ok, cJ_ok, qH_eq, qD_in, aG_ref, aS_ref, aL_ref, pF_ref, cK_ref, cK_null, zI_lit, zJ_lit, zI_add, zI_sub, zI_mul, zI_neg, zI_eq, zI_lt, zI_le, Int.reduceLT, Int.reduceLE, Int.reduceAdd, Int.reduceSub, Int.reduceMul, Int.reduceNeg, Int.reduceEq, Int.reduceNe, reduceIte, jf_in, pFc_in, aGi, aGb, aSi, aLc_in, cKc_in, nA_in, jm_s1, jm_s2, jm_p1, jm_p2, jm_b, jn_b, jn_s, jn_p, jset_jset, jset_jpush2, ckR_is, ckr_is, rR_is, ckW_is, cR_is, obi2, ckW_int, eq_self, if_true, ref_null, if_false, ne_eq, not_true_eq_false, not_false_eq_true, decide_true, decide_false, decide_not, Bool.true_and, Bool.false_and, Bool.and_true, Bool.and_false, Bool.true_or, Bool.false_or, Bool.or_true, Bool.or_false, Bool.not_true, Bool.not_false, Bool.false_eq_true, bI_t, bI_f, Int.natCast_one, Int.cast_ofNat_Int, Int.natCast_zero, aGc_V, Int.toNat_natCast
theorem shl1 {z : Int} (h0 : 0 ≤ z) (h1 : z < 1000000000) : zI z <<< (zI 1 &&& zI 31) = zI (2 * z) := by
  have e : (zI 1 &&& zI 31) = 1 := by decide
  obtain ⟨m, rfl⟩ := Int.eq_ofNat_of_zero_le h0
  rw [e, show 2 * (m : Int) = ((2 * m : Nat) : Int) by omega]
  apply Int32.toBitVec_inj.mp
  apply BitVec.eq_of_toNat_eq
  rw [zN_bv (by omega)]
  show ((zI (m : Int)) <<< (1 : Int32)).toBitVec.toNat = 2 * m
  rw [Int32.toBitVec_shiftLeft]
  show ((zI (m : Int)).toBitVec <<< ((1 : Int32).toBitVec.smod 32)).toNat = 2 * m
  have e2 : (1 : Int32).toBitVec.smod 32 = 1#32 := by decide
  rw [e2, BitVec.shiftLeft_eq', BitVec.toNat_shiftLeft, zN_bv (by omega)]
  show m <<< 1 % 2 ^ 32 = 2 * m
  rw [Nat.shiftLeft_eq, Nat.mod_eq_of_lt (by omega)]
  omega
section
variable {G : Nat → Option Cl} {rk : Value → Int} {d : Nat} {H : AH} {e N b n : Nat} {f : Nat → Value} {v : Value}

theorem g72003_bin (hG : Fzn G H) (hN : N < 100000) (he : jm H e = some (1040, N, f)) (hb : b + n ≤ N) (hA : OkA G rk f b n) (hv : Cmp G v (rk v)) (hs : SrtA rk f b n) {hint : Int} {v8 : Value} : ∀ (m L R : Nat) (i7 : Int), L ≤ R → R ≤ n → R - L ≤ m → (∀ i, i < L → (rk (f (b + i)) < rk v)) → (∀ i, R ≤ i → i < n → ¬ (rk (f (b + i)) < rk v)) →
    ∃ k, L ≤ k ∧ k ≤ R ∧ (∀ i, i < k → (rk (f (b + i)) < rk v)) ∧ (∀ i, k ≤ i → i < n → ¬ (rk (f (b + i)) < rk v)) ∧ G2 (d + 2) 72003 253 [v, .ref e, .int (zI b), .int (zI n), .int (zI hint), .int (zI L), .int (zI R), .int (zI i7), v8] [] H = some (.inl (some (.int (zI k))), H) := by
  intro m
  induction m using Nat.strongRecOn with
  | ind m ih =>
    intro L R i7 h1 h2 h3 h4 h5
    have rv := hv.R
    by_cases hlr : R ≤ L
    · have : L = R := by omega
      subst this
      refine ⟨L, Nat.le_refl _, Nat.le_refl _, h4, h5, ?_⟩
      rw [F72003_253]
      simp (disch := first | assumption | omega | decide | exact okF_i | exact okF_r | exact okF_n | exact okF_j | rfl) only [jc_ref, rI_int, rR_ref, rR_null, rJ_long, ckR_ref, ckR_null, ckr_ref, ckr_null, ckW_int, ckW_ref, ckW_null, cI_ok, cR_ok, cR_null, cV_ok, cJ_ok, qH_eq, qD_in, aG_ref, aS_ref, aL_ref, pF_ref, cK_ref, cK_null, zI_lit, zJ_lit, zI_add, zI_sub, zI_mul, zI_neg, zI_eq, zI_lt, zI_le, Int.reduceLT, Int.reduceLE, Int.reduceAdd, Int.reduceSub, Int.reduceMul, Int.reduceNeg, Int.reduceEq, Int.reduceNe, reduceIte, jf_in, pFc_in, aGi, aGb, aSi, aLc_in, cKc_in, nA_in, jm_s1, jm_s2, jm_p1, jm_p2, jm_b, jn_b, jn_s, jn_p, jset_jset, jset_jpush2, ckR_is, ckr_is, rR_is, ckW_is, cR_is, obi2, ckW_int, eq_self, if_true, ref_null, if_false, ne_eq, not_true_eq_false, not_false_eq_true, decide_true, decide_false, decide_not, Bool.true_and, Bool.false_and, Bool.and_true, Bool.and_false, Bool.true_or, Bool.false_or, Bool.or_true, Bool.or_false, Bool.not_true, Bool.not_false, Bool.false_eq_true, bI_t, bI_f, Int.natCast_one, Int.cast_ofNat_Int, Int.natCast_zero, aGc_V, Int.toNat_natCast]
      rw [if_pos (by omega)]
    · obtain ⟨k, hk⟩ : ∃ k, k = L + (R - L) / 2 := ⟨_, rfl⟩
      have cR : (R : Int) - L = ((R - L : Nat) : Int) := by omega
      have sh := ushr1 (m := R - L) (by omega)
      have cm : (L : Int) + (((R - L) / 2 : Nat) : Int) = (k : Int) := by omega
      have cb : (b : Int) + (k : Int) = ((b + k : Nat) : Int) := by omega
      have cm1 : (k : Int) + 1 = ((k + 1 : Nat) : Int) := by omega
      have a1 := hA (b + k) (by omega) (by omega)
      have r1 := a1.R
      obtain ⟨c, c1, c2, c3, c4⟩ := c_cmp (d := d) hG hv a1
      by_cases hT : (rk (f (b + k)) < rk v)
      · obtain ⟨p, p1, p2, p3, p4, p5⟩ := ih (R - (k + 1)) (by omega) (k + 1) R k (by omega) h2 (Nat.le_refl _) (fun i a => by
          have := hs (b + i) (b + k) (by omega) (by omega) (by omega)
          omega) h5
        refine ⟨p, by omega, p2, p3, p4, ?_⟩
        rw [F72003_253]
        simp (disch := first | assumption | omega | decide | exact okF_i | exact okF_r | exact okF_n | exact okF_j | rfl) only [jc_ref, rI_int, rR_ref, rR_null, rJ_long, ckR_ref, ckR_null, ckr_ref, ckr_null, ckW_int, ckW_ref, ckW_null, cI_ok, cR_ok, cR_null, cV_ok, cJ_ok, qH_eq, qD_in, aG_ref, aS_ref, aL_ref, pF_ref, cK_ref, cK_null, zI_lit, zJ_lit, zI_add, zI_sub, zI_mul, zI_neg, zI_eq, zI_lt, zI_le, Int.reduceLT, Int.reduceLE, Int.reduceAdd, Int.reduceSub, Int.reduceMul, Int.reduceNeg, Int.reduceEq, Int.reduceNe, reduceIte, jf_in, pFc_in, aGi, aGb, aSi, aLc_in, cKc_in, nA_in, jm_s1, jm_s2, jm_p1, jm_p2, jm_b, jn_b, jn_s, jn_p, jset_jset, jset_jpush2, ckR_is, ckr_is, rR_is, ckW_is, cR_is, obi2, ckW_int, eq_self, if_true, ref_null, if_false, ne_eq, not_true_eq_false, not_false_eq_true, decide_true, decide_false, decide_not, Bool.true_and, Bool.false_and, Bool.and_true, Bool.and_false, Bool.true_or, Bool.false_or, Bool.or_true, Bool.or_false, Bool.not_true, Bool.not_false, Bool.false_eq_true, bI_t, bI_f, Int.natCast_one, Int.cast_ofNat_Int, Int.natCast_zero, aGc_V, Int.toNat_natCast, cR, sh, cm, cb, he, c1]
        rw [if_neg (by omega)]
        first
          | (rw [if_pos (by omega), cm1]; exact p5)
          | (rw [if_neg (by omega), cm1]; exact p5)
      · obtain ⟨p, p1, p2, p3, p4, p5⟩ := ih (k - L) (by omega) L k k (by omega) (by omega) (Nat.le_refl _) h4 (fun i a a2 => by
          have := hs (b + k) (b + i) (by omega) (by omega) (by omega)
          omega)
        refine ⟨p, p1, by omega, p3, p4, ?_⟩
        rw [F72003_253]
        simp (disch := first | assumption | omega | decide | exact okF_i | exact okF_r | exact okF_n | exact okF_j | rfl) only [jc_ref, rI_int, rR_ref, rR_null, rJ_long, ckR_ref, ckR_null, ckr_ref, ckr_null, ckW_int, ckW_ref, ckW_null, cI_ok, cR_ok, cR_null, cV_ok, cJ_ok, qH_eq, qD_in, aG_ref, aS_ref, aL_ref, pF_ref, cK_ref, cK_null, zI_lit, zJ_lit, zI_add, zI_sub, zI_mul, zI_neg, zI_eq, zI_lt, zI_le, Int.reduceLT, Int.reduceLE, Int.reduceAdd, Int.reduceSub, Int.reduceMul, Int.reduceNeg, Int.reduceEq, Int.reduceNe, reduceIte, jf_in, pFc_in, aGi, aGb, aSi, aLc_in, cKc_in, nA_in, jm_s1, jm_s2, jm_p1, jm_p2, jm_b, jn_b, jn_s, jn_p, jset_jset, jset_jpush2, ckR_is, ckr_is, rR_is, ckW_is, cR_is, obi2, ckW_int, eq_self, if_true, ref_null, if_false, ne_eq, not_true_eq_false, not_false_eq_true, decide_true, decide_false, decide_not, Bool.true_and, Bool.false_and, Bool.and_true, Bool.and_false, Bool.true_or, Bool.false_or, Bool.or_true, Bool.or_false, Bool.not_true, Bool.not_false, Bool.false_eq_true, bI_t, bI_f, Int.natCast_one, Int.cast_ofNat_Int, Int.natCast_zero, aGc_V, Int.toNat_natCast, cR, sh, cm, cb, he, c1]
        rw [if_neg (by omega)]
        first
          | (rw [if_pos (by omega)]; exact p5)
          | (rw [if_neg (by omega)]; exact p5)
/-- to the right -/
theorem g72003_up (hG : Fzn G H) (hN : N < 100000) (he : jm H e = some (1040, N, f)) (hb : b + n ≤ N) (hA : OkA G rk f b n) (hv : Cmp G v (rk v)) {hint : Nat} : ∀ (m L R : Nat), L < R → R ≤ 200000 → hint + L < n → n - hint - L ≤ m → (rk (f (b + (hint + L))) < rk v) →
    ∃ L2 R2 : Nat, L2 < R2 ∧ hint + L2 < n ∧ R2 ≤ 200000 ∧ (rk (f (b + (hint + L2))) < rk v) ∧ (hint + R2 < n → ¬ (rk (f (b + (hint + R2))) < rk v)) ∧ G2 (d + 2) 72003 56 [v, .ref e, .int (zI b), .int (zI n), .int (zI hint), .int (zI L), .int (zI R), .int (zI ((n - hint : Nat) : Int)), jno] [] H = G2 (d + 2) 72003 105 [v, .ref e, .int (zI b), .int (zI n), .int (zI hint), .int (zI L2), .int (zI R2), .int (zI ((n - hint : Nat) : Int)), jno] [] H := by
  intro m
  induction m with
  | zero => intro L R h1 h2 h3 h4 h5; omega
  | succ m ih =>
    intro L R h1 h2 h3 h4 h5
    have rv := hv.R
    by_cases hR : n - hint ≤ R
    · refine ⟨L, R, h1, h3, h2, h5, fun z => by omega, ?_⟩
      conv => lhs; rw [F72003_56]
      simp (disch := first | assumption | omega | decide | exact okF_i | exact okF_r | exact okF_n | exact okF_j | rfl) only [jc_ref, rI_int, rR_ref, rR_null, rJ_long, ckR_ref, ckR_null, ckr_ref, ckr_null, ckW_int, ckW_ref, ckW_null, cI_ok, cR_ok, cR_null, cV_ok, cJ_ok, qH_eq, qD_in, aG_ref, aS_ref, aL_ref, pF_ref, cK_ref, cK_null, zI_lit, zJ_lit, zI_add, zI_sub, zI_mul, zI_neg, zI_eq, zI_lt, zI_le, Int.reduceLT, Int.reduceLE, Int.reduceAdd, Int.reduceSub, Int.reduceMul, Int.reduceNeg, Int.reduceEq, Int.reduceNe, reduceIte, jf_in, pFc_in, aGi, aGb, aSi, aLc_in, cKc_in, nA_in, jm_s1, jm_s2, jm_p1, jm_p2, jm_b, jn_b, jn_s, jn_p, jset_jset, jset_jpush2, ckR_is, ckr_is, rR_is, ckW_is, cR_is, obi2, ckW_int, eq_self, if_true, ref_null, if_false, ne_eq, not_true_eq_false, not_false_eq_true, decide_true, decide_false, decide_not, Bool.true_and, Bool.false_and, Bool.and_true, Bool.and_false, Bool.true_or, Bool.false_or, Bool.or_true, Bool.or_false, Bool.not_true, Bool.not_false, Bool.false_eq_true, bI_t, bI_f, Int.natCast_one, Int.cast_ofNat_Int, Int.natCast_zero, aGc_V, Int.toNat_natCast]
      rw [if_pos (by omega)]
    · have a1 := hA (b + (hint + R)) (by omega) (by omega)
      have r1 := a1.R
      obtain ⟨c, c1, c2, c3, c4⟩ := c_cmp (d := d) hG hv a1
      have cb : (b : Int) + (hint : Int) + (R : Int) = ((b + (hint + R) : Nat) : Int) := by omega
      have sl := shl1 (z := R) (by omega) (by omega)
      have c2R : 2 * (R : Int) + 1 = ((2 * R + 1 : Nat) : Int) := by omega
      by_cases hT : (rk (f (b + (hint + R))) < rk v)
      · obtain ⟨L2, R2, i1, i2, i3, i4, i5, i6⟩ := ih R (2 * R + 1) (by omega) (by omega) (by omega) (by omega) hT
        refine ⟨L2, R2, i1, i2, i3, i4, i5, ?_⟩
        conv => lhs; rw [F72003_56]
        simp (disch := first | assumption | omega | decide | exact okF_i | exact okF_r | exact okF_n | exact okF_j | rfl) only [jc_ref, rI_int, rR_ref, rR_null, rJ_long, ckR_ref, ckR_null, ckr_ref, ckr_null, ckW_int, ckW_ref, ckW_null, cI_ok, cR_ok, cR_null, cV_ok, cJ_ok, qH_eq, qD_in, aG_ref, aS_ref, aL_ref, pF_ref, cK_ref, cK_null, zI_lit, zJ_lit, zI_add, zI_sub, zI_mul, zI_neg, zI_eq, zI_lt, zI_le, Int.reduceLT, Int.reduceLE, Int.reduceAdd, Int.reduceSub, Int.reduceMul, Int.reduceNeg, Int.reduceEq, Int.reduceNe, reduceIte, jf_in, pFc_in, aGi, aGb, aSi, aLc_in, cKc_in, nA_in, jm_s1, jm_s2, jm_p1, jm_p2, jm_b, jn_b, jn_s, jn_p, jset_jset, jset_jpush2, ckR_is, ckr_is, rR_is, ckW_is, cR_is, obi2, ckW_int, eq_self, if_true, ref_null, if_false, ne_eq, not_true_eq_false, not_false_eq_true, decide_true, decide_false, decide_not, Bool.true_and, Bool.false_and, Bool.and_true, Bool.and_false, Bool.true_or, Bool.false_or, Bool.or_true, Bool.or_false, Bool.not_true, Bool.not_false, Bool.false_eq_true, bI_t, bI_f, Int.natCast_one, Int.cast_ofNat_Int, Int.natCast_zero, aGc_V, Int.toNat_natCast, cb, he, c1, sl, c2R]
        rw [if_neg (by omega)]
        first
          | (rw [if_pos (by omega), if_pos (by omega)]; exact i6)
          | (rw [if_neg (by omega), if_pos (by omega)]; exact i6)
      · refine ⟨L, R, h1, h3, h2, h5, fun _ => hT, ?_⟩
        conv => lhs; rw [F72003_56]
        simp (disch := first | assumption | omega | decide | exact okF_i | exact okF_r | exact okF_n | exact okF_j | rfl) only [jc_ref, rI_int, rR_ref, rR_null, rJ_long, ckR_ref, ckR_null, ckr_ref, ckr_null, ckW_int, ckW_ref, ckW_null, cI_ok, cR_ok, cR_null, cV_ok, cJ_ok, qH_eq, qD_in, aG_ref, aS_ref, aL_ref, pF_ref, cK_ref, cK_null, zI_lit, zJ_lit, zI_add, zI_sub, zI_mul, zI_neg, zI_eq, zI_lt, zI_le, Int.reduceLT, Int.reduceLE, Int.reduceAdd, Int.reduceSub, Int.reduceMul, Int.reduceNeg, Int.reduceEq, Int.reduceNe, reduceIte, jf_in, pFc_in, aGi, aGb, aSi, aLc_in, cKc_in, nA_in, jm_s1, jm_s2, jm_p1, jm_p2, jm_b, jn_b, jn_s, jn_p, jset_jset, jset_jpush2, ckR_is, ckr_is, rR_is, ckW_is, cR_is, obi2, ckW_int, eq_self, if_true, ref_null, if_false, ne_eq, not_true_eq_false, not_false_eq_true, decide_true, decide_false, decide_not, Bool.true_and, Bool.false_and, Bool.and_true, Bool.and_false, Bool.true_or, Bool.false_or, Bool.or_true, Bool.or_false, Bool.not_true, Bool.not_false, Bool.false_eq_true, bI_t, bI_f, Int.natCast_one, Int.cast_ofNat_Int, Int.natCast_zero, aGc_V, Int.toNat_natCast, cb, he, c1]
        rw [if_neg (by omega)]
        first
          | rw [if_pos (by omega)]
          | rw [if_neg (by omega)]
/-- to the left -/
theorem g72003_dn (hG : Fzn G H) (hN : N < 100000) (he : jm H e = some (1040, N, f)) (hb : b + n ≤ N) (hA : OkA G rk f b n) (hv : Cmp G v (rk v)) {hint : Nat} (hh : hint < n) : ∀ (m L R : Nat), L < R → R ≤ 200000 → L ≤ hint → hint + 1 - L ≤ m → ¬ (rk (f (b + (hint - L))) < rk v) →
    ∃ L2 R2 : Nat, L2 < R2 ∧ L2 ≤ hint ∧ R2 ≤ 200000 ∧ ¬ (rk (f (b + (hint - L2))) < rk v) ∧ (R2 ≤ hint → (rk (f (b + (hint - R2))) < rk v)) ∧ G2 (d + 2) 72003 139 [v, .ref e, .int (zI b), .int (zI n), .int (zI hint), .int (zI L), .int (zI R), .int (zI ((hint + 1 : Nat) : Int)), jno] [] H = G2 (d + 2) 72003 188 [v, .ref e, .int (zI b), .int (zI n), .int (zI hint), .int (zI L2), .int (zI R2), .int (zI ((hint + 1 : Nat) : Int)), jno] [] H := by
  intro m
  induction m with
  | zero => intro L R h1 h2 h3 h4 h5; omega
  | succ m ih =>
    intro L R h1 h2 h3 h4 h5
    have rv := hv.R
    by_cases hR : hint + 1 ≤ R
    · refine ⟨L, R, h1, h3, h2, h5, fun z => by omega, ?_⟩
      conv => lhs; rw [F72003_139]
      simp (disch := first | assumption | omega | decide | exact okF_i | exact okF_r | exact okF_n | exact okF_j | rfl) only [jc_ref, rI_int, rR_ref, rR_null, rJ_long, ckR_ref, ckR_null, ckr_ref, ckr_null, ckW_int, ckW_ref, ckW_null, cI_ok, cR_ok, cR_null, cV_ok, cJ_ok, qH_eq, qD_in, aG_ref, aS_ref, aL_ref, pF_ref, cK_ref, cK_null, zI_lit, zJ_lit, zI_add, zI_sub, zI_mul, zI_neg, zI_eq, zI_lt, zI_le, Int.reduceLT, Int.reduceLE, Int.reduceAdd, Int.reduceSub, Int.reduceMul, Int.reduceNeg, Int.reduceEq, Int.reduceNe, reduceIte, jf_in, pFc_in, aGi, aGb, aSi, aLc_in, cKc_in, nA_in, jm_s1, jm_s2, jm_p1, jm_p2, jm_b, jn_b, jn_s, jn_p, jset_jset, jset_jpush2, ckR_is, ckr_is, rR_is, ckW_is, cR_is, obi2, ckW_int, eq_self, if_true, ref_null, if_false, ne_eq, not_true_eq_false, not_false_eq_true, decide_true, decide_false, decide_not, Bool.true_and, Bool.false_and, Bool.and_true, Bool.and_false, Bool.true_or, Bool.false_or, Bool.or_true, Bool.or_false, Bool.not_true, Bool.not_false, Bool.false_eq_true, bI_t, bI_f, Int.natCast_one, Int.cast_ofNat_Int, Int.natCast_zero, aGc_V, Int.toNat_natCast]
      rw [if_pos (by omega)]
    · have a1 := hA (b + (hint - R)) (by omega) (by omega)
      have r1 := a1.R
      obtain ⟨c, c1, c2, c3, c4⟩ := c_cmp (d := d) hG hv a1
      have cb : (b : Int) + (hint : Int) - (R : Int) = ((b + (hint - R) : Nat) : Int) := by omega
      have sl := shl1 (z := R) (by omega) (by omega)
      have c2R : 2 * (R : Int) + 1 = ((2 * R + 1 : Nat) : Int) := by omega
      by_cases hT : (rk (f (b + (hint - R))) < rk v)
      · refine ⟨L, R, h1, h3, h2, h5, fun _ => hT, ?_⟩
        conv => lhs; rw [F72003_139]
        simp (disch := first | assumption | omega | decide | exact okF_i | exact okF_r | exact okF_n | exact okF_j | rfl) only [jc_ref, rI_int, rR_ref, rR_null, rJ_long, ckR_ref, ckR_null, ckr_ref, ckr_null, ckW_int, ckW_ref, ckW_null, cI_ok, cR_ok, cR_null, cV_ok, cJ_ok, qH_eq, qD_in, aG_ref, aS_ref, aL_ref, pF_ref, cK_ref, cK_null, zI_lit, zJ_lit, zI_add, zI_sub, zI_mul, zI_neg, zI_eq, zI_lt, zI_le, Int.reduceLT, Int.reduceLE, Int.reduceAdd, Int.reduceSub, Int.reduceMul, Int.reduceNeg, Int.reduceEq, Int.reduceNe, reduceIte, jf_in, pFc_in, aGi, aGb, aSi, aLc_in, cKc_in, nA_in, jm_s1, jm_s2, jm_p1, jm_p2, jm_b, jn_b, jn_s, jn_p, jset_jset, jset_jpush2, ckR_is, ckr_is, rR_is, ckW_is, cR_is, obi2, ckW_int, eq_self, if_true, ref_null, if_false, ne_eq, not_true_eq_false, not_false_eq_true, decide_true, decide_false, decide_not, Bool.true_and, Bool.false_and, Bool.and_true, Bool.and_false, Bool.true_or, Bool.false_or, Bool.or_true, Bool.or_false, Bool.not_true, Bool.not_false, Bool.false_eq_true, bI_t, bI_f, Int.natCast_one, Int.cast_ofNat_Int, Int.natCast_zero, aGc_V, Int.toNat_natCast, cb, he, c1]
        rw [if_neg (by omega)]
        first
          | rw [if_pos (by omega)]
          | rw [if_neg (by omega)]
      · obtain ⟨L2, R2, i1, i2, i3, i4, i5, i6⟩ := ih R (2 * R + 1) (by omega) (by omega) (by omega) (by omega) hT
        refine ⟨L2, R2, i1, i2, i3, i4, i5, ?_⟩
        conv => lhs; rw [F72003_139]
        simp (disch := first | assumption | omega | decide | exact okF_i | exact okF_r | exact okF_n | exact okF_j | rfl) only [jc_ref, rI_int, rR_ref, rR_null, rJ_long, ckR_ref, ckR_null, ckr_ref, ckr_null, ckW_int, ckW_ref, ckW_null, cI_ok, cR_ok, cR_null, cV_ok, cJ_ok, qH_eq, qD_in, aG_ref, aS_ref, aL_ref, pF_ref, cK_ref, cK_null, zI_lit, zJ_lit, zI_add, zI_sub, zI_mul, zI_neg, zI_eq, zI_lt, zI_le, Int.reduceLT, Int.reduceLE, Int.reduceAdd, Int.reduceSub, Int.reduceMul, Int.reduceNeg, Int.reduceEq, Int.reduceNe, reduceIte, jf_in, pFc_in, aGi, aGb, aSi, aLc_in, cKc_in, nA_in, jm_s1, jm_s2, jm_p1, jm_p2, jm_b, jn_b, jn_s, jn_p, jset_jset, jset_jpush2, ckR_is, ckr_is, rR_is, ckW_is, cR_is, obi2, ckW_int, eq_self, if_true, ref_null, if_false, ne_eq, not_true_eq_false, not_false_eq_true, decide_true, decide_false, decide_not, Bool.true_and, Bool.false_and, Bool.and_true, Bool.and_false, Bool.true_or, Bool.false_or, Bool.or_true, Bool.or_false, Bool.not_true, Bool.not_false, Bool.false_eq_true, bI_t, bI_f, Int.natCast_one, Int.cast_ofNat_Int, Int.natCast_zero, aGc_V, Int.toNat_natCast, cb, he, c1, sl, c2R]
        rw [if_neg (by omega)]
        first
          | (rw [if_pos (by omega), if_pos (by omega)]; exact i6)
          | (rw [if_neg (by omega), if_pos (by omega)]; exact i6)
theorem c_gal72003 (hG : Fzn G H) (hN : N < 100000) (he : jm H e = some (1040, N, f)) (hb : b + n ≤ N) (hA : OkA G rk f b n) (hv : Cmp G v (rk v)) (hs : SrtA rk f b n) {hint : Nat} (hh : hint < n) :
    ∃ k, k ≤ n ∧ (∀ i, i < k → (rk (f (b + i)) < rk v)) ∧ (∀ i, k ≤ i → i < n → ¬ (rk (f (b + i)) < rk v)) ∧ M2 (d + 3) 72003 [v, .ref e, .int (zI b), .int (zI n), .int (zI hint)] H = some (.inl (some (.int (zI k))), H) := by
  have rv := hv.R
  have a1 := hA (b + hint) (by omega) (by omega)
  have r1 := a1.R
  obtain ⟨c, c1, c2, c3, c4⟩ := c_cmp (d := d) hG hv a1
  have cb : (b : Int) + (hint : Int) = ((b + hint : Nat) : Int) := by omega
  have cn : (n : Int) - hint = ((n - hint : Nat) : Int) := by omega
  have ch : (hint : Int) + 1 = ((hint + 1 : Nat) : Int) := by omega
  rw [Y72003 H rv rfl, F72003_0]
  by_cases hT : (rk (f (b + hint)) < rk v)
  · obtain ⟨L, R, i1, i2, i3, i4, i5, i6⟩ := g72003_up (rk := rk) (d := d) hG hN he hb hA hv (n - hint) 0 1 (by omega) (by omega) hh (by omega) hT
    have fin : ∀ R3 : Nat, L < R3 → hint + R3 ≤ n → (hint + R3 < n → ¬ (rk (f (b + (hint + R3))) < rk v)) → ∃ k, k ≤ n ∧ (∀ i, i < k → (rk (f (b + i)) < rk v)) ∧ (∀ i, k ≤ i → i < n → ¬ (rk (f (b + i)) < rk v)) ∧ G2 (d + 2) 72003 217 [v, .ref e, .int (zI b), .int (zI n), .int (zI hint), .int (zI (L + hint)), .int (zI (R3 + hint)), .int (zI ((n - hint : Nat) : Int)), jno] [] H = some (.inl (some (.int (zI k))), H) := fun R3 q1 q2 q3 => by
      obtain ⟨k, k1, k2, k3, k4, k5⟩ := g72003_bin (rk := rk) (d := d) hG hN he hb hA hv hs (hint := hint) (v8 := jno) n (L + hint + 1) (R3 + hint) ((n - hint : Nat) : Int) (by omega) (by omega) (by omega) (fun i a => by
        have := hs (b + i) (b + (hint + L)) (by omega) (by omega) (by omega)
        omega) (fun i a a2 => by
        have q4 := q3 (by omega)
        have := hs (b + (hint + R3)) (b + i) (by omega) (by omega) (by omega)
        omega)
      refine ⟨k, by omega, k3, k4, ?_⟩
      rw [F72003_217]
      simp (disch := first | assumption | omega | decide | exact okF_i | exact okF_r | exact okF_n | exact okF_j | rfl) only [jc_ref, rI_int, rR_ref, rR_null, rJ_long, ckR_ref, ckR_null, ckr_ref, ckr_null, ckW_int, ckW_ref, ckW_null, cI_ok, cR_ok, cR_null, cV_ok, cJ_ok, qH_eq, qD_in, aG_ref, aS_ref, aL_ref, pF_ref, cK_ref, cK_null, zI_lit, zJ_lit, zI_add, zI_sub, zI_mul, zI_neg, zI_eq, zI_lt, zI_le, Int.reduceLT, Int.reduceLE, Int.reduceAdd, Int.reduceSub, Int.reduceMul, Int.reduceNeg, Int.reduceEq, Int.reduceNe, reduceIte, jf_in, pFc_in, aGi, aGb, aSi, aLc_in, cKc_in, nA_in, jm_s1, jm_s2, jm_p1, jm_p2, jm_b, jn_b, jn_s, jn_p, jset_jset, jset_jpush2, ckR_is, ckr_is, rR_is, ckW_is, cR_is, obi2, ckW_int, eq_self, if_true, ref_null, if_false, ne_eq, not_true_eq_false, not_false_eq_true, decide_true, decide_false, decide_not, Bool.true_and, Bool.false_and, Bool.and_true, Bool.and_false, Bool.true_or, Bool.false_or, Bool.or_true, Bool.or_false, Bool.not_true, Bool.not_false, Bool.false_eq_true, bI_t, bI_f, Int.natCast_one, Int.cast_ofNat_Int, Int.natCast_zero, aGc_V, Int.toNat_natCast]
      exact k5
    by_cases hR : R ≤ n - hint
    · obtain ⟨k, k1, k2, k3, k4⟩ := fin R i1 (by omega) i5
      refine ⟨k, k1, k2, k3, ?_⟩
      simp (disch := first | assumption | omega | decide | exact okF_i | exact okF_r | exact okF_n | exact okF_j | rfl) only [jc_ref, rI_int, rR_ref, rR_null, rJ_long, ckR_ref, ckR_null, ckr_ref, ckr_null, ckW_int, ckW_ref, ckW_null, cI_ok, cR_ok, cR_null, cV_ok, cJ_ok, qH_eq, qD_in, aG_ref, aS_ref, aL_ref, pF_ref, cK_ref, cK_null, zI_lit, zJ_lit, zI_add, zI_sub, zI_mul, zI_neg, zI_eq, zI_lt, zI_le, Int.reduceLT, Int.reduceLE, Int.reduceAdd, Int.reduceSub, Int.reduceMul, Int.reduceNeg, Int.reduceEq, Int.reduceNe, reduceIte, jf_in, pFc_in, aGi, aGb, aSi, aLc_in, cKc_in, nA_in, jm_s1, jm_s2, jm_p1, jm_p2, jm_b, jn_b, jn_s, jn_p, jset_jset, jset_jpush2, ckR_is, ckr_is, rR_is, ckW_is, cR_is, obi2, ckW_int, eq_self, if_true, ref_null, if_false, ne_eq, not_true_eq_false, not_false_eq_true, decide_true, decide_false, decide_not, Bool.true_and, Bool.false_and, Bool.and_true, Bool.and_false, Bool.true_or, Bool.false_or, Bool.or_true, Bool.or_false, Bool.not_true, Bool.not_false, Bool.false_eq_true, bI_t, bI_f, Int.natCast_one, Int.cast_ofNat_Int, Int.natCast_zero, aGc_V, Int.toNat_natCast]
      rw [F72003_29]
      simp (disch := first | assumption | omega | decide | exact okF_i | exact okF_r | exact okF_n | exact okF_j | rfl) only [jc_ref, rI_int, rR_ref, rR_null, rJ_long, ckR_ref, ckR_null, ckr_ref, ckr_null, ckW_int, ckW_ref, ckW_null, cI_ok, cR_ok, cR_null, cV_ok, cJ_ok, qH_eq, qD_in, aG_ref, aS_ref, aL_ref, pF_ref, cK_ref, cK_null, zI_lit, zJ_lit, zI_add, zI_sub, zI_mul, zI_neg, zI_eq, zI_lt, zI_le, Int.reduceLT, Int.reduceLE, Int.reduceAdd, Int.reduceSub, Int.reduceMul, Int.reduceNeg, Int.reduceEq, Int.reduceNe, reduceIte, jf_in, pFc_in, aGi, aGb, aSi, aLc_in, cKc_in, nA_in, jm_s1, jm_s2, jm_p1, jm_p2, jm_b, jn_b, jn_s, jn_p, jset_jset, jset_jpush2, ckR_is, ckr_is, rR_is, ckW_is, cR_is, obi2, ckW_int, eq_self, if_true, ref_null, if_false, ne_eq, not_true_eq_false, not_false_eq_true, decide_true, decide_false, decide_not, Bool.true_and, Bool.false_and, Bool.and_true, Bool.and_false, Bool.true_or, Bool.false_or, Bool.or_true, Bool.or_false, Bool.not_true, Bool.not_false, Bool.false_eq_true, bI_t, bI_f, Int.natCast_one, Int.cast_ofNat_Int, Int.natCast_zero, aGc_V, Int.toNat_natCast, cb, he, c1]
      first
        | rw [if_pos (by omega)]
        | rw [if_neg (by omega)]
      rw [cn]
      refine i6.trans ?_
      rw [F72003_105]
      simp (disch := first | assumption | omega | decide | exact okF_i | exact okF_r | exact okF_n | exact okF_j | rfl) only [jc_ref, rI_int, rR_ref, rR_null, rJ_long, ckR_ref, ckR_null, ckr_ref, ckr_null, ckW_int, ckW_ref, ckW_null, cI_ok, cR_ok, cR_null, cV_ok, cJ_ok, qH_eq, qD_in, aG_ref, aS_ref, aL_ref, pF_ref, cK_ref, cK_null, zI_lit, zJ_lit, zI_add, zI_sub, zI_mul, zI_neg, zI_eq, zI_lt, zI_le, Int.reduceLT, Int.reduceLE, Int.reduceAdd, Int.reduceSub, Int.reduceMul, Int.reduceNeg, Int.reduceEq, Int.reduceNe, reduceIte, jf_in, pFc_in, aGi, aGb, aSi, aLc_in, cKc_in, nA_in, jm_s1, jm_s2, jm_p1, jm_p2, jm_b, jn_b, jn_s, jn_p, jset_jset, jset_jpush2, ckR_is, ckr_is, rR_is, ckW_is, cR_is, obi2, ckW_int, eq_self, if_true, ref_null, if_false, ne_eq, not_true_eq_false, not_false_eq_true, decide_true, decide_false, decide_not, Bool.true_and, Bool.false_and, Bool.and_true, Bool.and_false, Bool.true_or, Bool.false_or, Bool.or_true, Bool.or_false, Bool.not_true, Bool.not_false, Bool.false_eq_true, bI_t, bI_f, Int.natCast_one, Int.cast_ofNat_Int, Int.natCast_zero, aGc_V, Int.toNat_natCast]
      rw [if_pos (by omega)]
      exact k4
    · obtain ⟨k, k1, k2, k3, k4⟩ := fin (n - hint) (by omega) (by omega) (fun z => by omega)
      refine ⟨k, k1, k2, k3, ?_⟩
      simp (disch := first | assumption | omega | decide | exact okF_i | exact okF_r | exact okF_n | exact okF_j | rfl) only [jc_ref, rI_int, rR_ref, rR_null, rJ_long, ckR_ref, ckR_null, ckr_ref, ckr_null, ckW_int, ckW_ref, ckW_null, cI_ok, cR_ok, cR_null, cV_ok, cJ_ok, qH_eq, qD_in, aG_ref, aS_ref, aL_ref, pF_ref, cK_ref, cK_null, zI_lit, zJ_lit, zI_add, zI_sub, zI_mul, zI_neg, zI_eq, zI_lt, zI_le, Int.reduceLT, Int.reduceLE, Int.reduceAdd, Int.reduceSub, Int.reduceMul, Int.reduceNeg, Int.reduceEq, Int.reduceNe, reduceIte, jf_in, pFc_in, aGi, aGb, aSi, aLc_in, cKc_in, nA_in, jm_s1, jm_s2, jm_p1, jm_p2, jm_b, jn_b, jn_s, jn_p, jset_jset, jset_jpush2, ckR_is, ckr_is, rR_is, ckW_is, cR_is, obi2, ckW_int, eq_self, if_true, ref_null, if_false, ne_eq, not_true_eq_false, not_false_eq_true, decide_true, decide_false, decide_not, Bool.true_and, Bool.false_and, Bool.and_true, Bool.and_false, Bool.true_or, Bool.false_or, Bool.or_true, Bool.or_false, Bool.not_true, Bool.not_false, Bool.false_eq_true, bI_t, bI_f, Int.natCast_one, Int.cast_ofNat_Int, Int.natCast_zero, aGc_V, Int.toNat_natCast]
      rw [F72003_29]
      simp (disch := first | assumption | omega | decide | exact okF_i | exact okF_r | exact okF_n | exact okF_j | rfl) only [jc_ref, rI_int, rR_ref, rR_null, rJ_long, ckR_ref, ckR_null, ckr_ref, ckr_null, ckW_int, ckW_ref, ckW_null, cI_ok, cR_ok, cR_null, cV_ok, cJ_ok, qH_eq, qD_in, aG_ref, aS_ref, aL_ref, pF_ref, cK_ref, cK_null, zI_lit, zJ_lit, zI_add, zI_sub, zI_mul, zI_neg, zI_eq, zI_lt, zI_le, Int.reduceLT, Int.reduceLE, Int.reduceAdd, Int.reduceSub, Int.reduceMul, Int.reduceNeg, Int.reduceEq, Int.reduceNe, reduceIte, jf_in, pFc_in, aGi, aGb, aSi, aLc_in, cKc_in, nA_in, jm_s1, jm_s2, jm_p1, jm_p2, jm_b, jn_b, jn_s, jn_p, jset_jset, jset_jpush2, ckR_is, ckr_is, rR_is, ckW_is, cR_is, obi2, ckW_int, eq_self, if_true, ref_null, if_false, ne_eq, not_true_eq_false, not_false_eq_true, decide_true, decide_false, decide_not, Bool.true_and, Bool.false_and, Bool.and_true, Bool.and_false, Bool.true_or, Bool.false_or, Bool.or_true, Bool.or_false, Bool.not_true, Bool.not_false, Bool.false_eq_true, bI_t, bI_f, Int.natCast_one, Int.cast_ofNat_Int, Int.natCast_zero, aGc_V, Int.toNat_natCast, cb, he, c1]
      first
        | rw [if_pos (by omega)]
        | rw [if_neg (by omega)]
      rw [cn]
      refine i6.trans ?_
      rw [F72003_105]
      simp (disch := first | assumption | omega | decide | exact okF_i | exact okF_r | exact okF_n | exact okF_j | rfl) only [jc_ref, rI_int, rR_ref, rR_null, rJ_long, ckR_ref, ckR_null, ckr_ref, ckr_null, ckW_int, ckW_ref, ckW_null, cI_ok, cR_ok, cR_null, cV_ok, cJ_ok, qH_eq, qD_in, aG_ref, aS_ref, aL_ref, pF_ref, cK_ref, cK_null, zI_lit, zJ_lit, zI_add, zI_sub, zI_mul, zI_neg, zI_eq, zI_lt, zI_le, Int.reduceLT, Int.reduceLE, Int.reduceAdd, Int.reduceSub, Int.reduceMul, Int.reduceNeg, Int.reduceEq, Int.reduceNe, reduceIte, jf_in, pFc_in, aGi, aGb, aSi, aLc_in, cKc_in, nA_in, jm_s1, jm_s2, jm_p1, jm_p2, jm_b, jn_b, jn_s, jn_p, jset_jset, jset_jpush2, ckR_is, ckr_is, rR_is, ckW_is, cR_is, obi2, ckW_int, eq_self, if_true, ref_null, if_false, ne_eq, not_true_eq_false, not_false_eq_true, decide_true, decide_false, decide_not, Bool.true_and, Bool.false_and, Bool.and_true, Bool.and_false, Bool.true_or, Bool.false_or, Bool.or_true, Bool.or_false, Bool.not_true, Bool.not_false, Bool.false_eq_true, bI_t, bI_f, Int.natCast_one, Int.cast_ofNat_Int, Int.natCast_zero, aGc_V, Int.toNat_natCast]
      rw [if_neg (by omega)]
      exact k4
  · obtain ⟨L, R, i1, i2, i3, i4, i5, i6⟩ := g72003_dn (rk := rk) (d := d) hG hN he hb hA hv hh (hint + 1) 0 1 (by omega) (by omega) (by omega) (by omega) hT
    have fin : ∀ R3 : Nat, L < R3 → R3 ≤ hint + 1 → (R3 ≤ hint → (rk (f (b + (hint - R3))) < rk v)) → ∃ k, k ≤ n ∧ (∀ i, i < k → (rk (f (b + i)) < rk v)) ∧ (∀ i, k ≤ i → i < n → ¬ (rk (f (b + i)) < rk v)) ∧ G2 (d + 2) 72003 217 [v, .ref e, .int (zI b), .int (zI n), .int (zI hint), .int (zI (hint - R3)), .int (zI (hint - L)), .int (zI ((hint + 1 : Nat) : Int)), .int (zI L)] [] H = some (.inl (some (.int (zI k))), H) := fun R3 q1 q2 q3 => by
      obtain ⟨k, k1, k2, k3, k4, k5⟩ := g72003_bin (rk := rk) (d := d) hG hN he hb hA hv hs (hint := hint) (v8 := .int (zI L)) n (hint + 1 - R3) (hint - L) ((hint + 1 : Nat) : Int) (by omega) (by omega) (by omega) (fun i a => by
        have q4 := q3 (by omega)
        have := hs (b + i) (b + (hint - R3)) (by omega) (by omega) (by omega)
        omega) (fun i a a2 => by
        have := hs (b + (hint - L)) (b + i) (by omega) (by omega) (by omega)
        omega)
      refine ⟨k, by omega, k3, k4, ?_⟩
      have cc : (hint : Int) - R3 + 1 = ((hint + 1 - R3 : Nat) : Int) := by omega
      have cc2 : (hint : Int) - L = ((hint - L : Nat) : Int) := by omega
      rw [F72003_217]
      simp (disch := first | assumption | omega | decide | exact okF_i | exact okF_r | exact okF_n | exact okF_j | rfl) only [jc_ref, rI_int, rR_ref, rR_null, rJ_long, ckR_ref, ckR_null, ckr_ref, ckr_null, ckW_int, ckW_ref, ckW_null, cI_ok, cR_ok, cR_null, cV_ok, cJ_ok, qH_eq, qD_in, aG_ref, aS_ref, aL_ref, pF_ref, cK_ref, cK_null, zI_lit, zJ_lit, zI_add, zI_sub, zI_mul, zI_neg, zI_eq, zI_lt, zI_le, Int.reduceLT, Int.reduceLE, Int.reduceAdd, Int.reduceSub, Int.reduceMul, Int.reduceNeg, Int.reduceEq, Int.reduceNe, reduceIte, jf_in, pFc_in, aGi, aGb, aSi, aLc_in, cKc_in, nA_in, jm_s1, jm_s2, jm_p1, jm_p2, jm_b, jn_b, jn_s, jn_p, jset_jset, jset_jpush2, ckR_is, ckr_is, rR_is, ckW_is, cR_is, obi2, ckW_int, eq_self, if_true, ref_null, if_false, ne_eq, not_true_eq_false, not_false_eq_true, decide_true, decide_false, decide_not, Bool.true_and, Bool.false_and, Bool.and_true, Bool.and_false, Bool.true_or, Bool.false_or, Bool.or_true, Bool.or_false, Bool.not_true, Bool.not_false, Bool.false_eq_true, bI_t, bI_f, Int.natCast_one, Int.cast_ofNat_Int, Int.natCast_zero, aGc_V, Int.toNat_natCast, cc, cc2]
      exact k5
    by_cases hR : R ≤ hint + 1
    · obtain ⟨k, k1, k2, k3, k4⟩ := fin R i1 (by omega) i5
      refine ⟨k, k1, k2, k3, ?_⟩
      simp (disch := first | assumption | omega | decide | exact okF_i | exact okF_r | exact okF_n | exact okF_j | rfl) only [jc_ref, rI_int, rR_ref, rR_null, rJ_long, ckR_ref, ckR_null, ckr_ref, ckr_null, ckW_int, ckW_ref, ckW_null, cI_ok, cR_ok, cR_null, cV_ok, cJ_ok, qH_eq, qD_in, aG_ref, aS_ref, aL_ref, pF_ref, cK_ref, cK_null, zI_lit, zJ_lit, zI_add, zI_sub, zI_mul, zI_neg, zI_eq, zI_lt, zI_le, Int.reduceLT, Int.reduceLE, Int.reduceAdd, Int.reduceSub, Int.reduceMul, Int.reduceNeg, Int.reduceEq, Int.reduceNe, reduceIte, jf_in, pFc_in, aGi, aGb, aSi, aLc_in, cKc_in, nA_in, jm_s1, jm_s2, jm_p1, jm_p2, jm_b, jn_b, jn_s, jn_p, jset_jset, jset_jpush2, ckR_is, ckr_is, rR_is, ckW_is, cR_is, obi2, ckW_int, eq_self, if_true, ref_null, if_false, ne_eq, not_true_eq_false, not_false_eq_true, decide_true, decide_false, decide_not, Bool.true_and, Bool.false_and, Bool.and_true, Bool.and_false, Bool.true_or, Bool.false_or, Bool.or_true, Bool.or_false, Bool.not_true, Bool.not_false, Bool.false_eq_true, bI_t, bI_f, Int.natCast_one, Int.cast_ofNat_Int, Int.natCast_zero, aGc_V, Int.toNat_natCast]
      rw [F72003_29]
      simp (disch := first | assumption | omega | decide | exact okF_i | exact okF_r | exact okF_n | exact okF_j | rfl) only [jc_ref, rI_int, rR_ref, rR_null, rJ_long, ckR_ref, ckR_null, ckr_ref, ckr_null, ckW_int, ckW_ref, ckW_null, cI_ok, cR_ok, cR_null, cV_ok, cJ_ok, qH_eq, qD_in, aG_ref, aS_ref, aL_ref, pF_ref, cK_ref, cK_null, zI_lit, zJ_lit, zI_add, zI_sub, zI_mul, zI_neg, zI_eq, zI_lt, zI_le, Int.reduceLT, Int.reduceLE, Int.reduceAdd, Int.reduceSub, Int.reduceMul, Int.reduceNeg, Int.reduceEq, Int.reduceNe, reduceIte, jf_in, pFc_in, aGi, aGb, aSi, aLc_in, cKc_in, nA_in, jm_s1, jm_s2, jm_p1, jm_p2, jm_b, jn_b, jn_s, jn_p, jset_jset, jset_jpush2, ckR_is, ckr_is, rR_is, ckW_is, cR_is, obi2, ckW_int, eq_self, if_true, ref_null, if_false, ne_eq, not_true_eq_false, not_false_eq_true, decide_true, decide_false, decide_not, Bool.true_and, Bool.false_and, Bool.and_true, Bool.and_false, Bool.true_or, Bool.false_or, Bool.or_true, Bool.or_false, Bool.not_true, Bool.not_false, Bool.false_eq_true, bI_t, bI_f, Int.natCast_one, Int.cast_ofNat_Int, Int.natCast_zero, aGc_V, Int.toNat_natCast, cb, he, c1]
      first
        | rw [if_pos (by omega)]
        | rw [if_neg (by omega)]
      rw [ch]
      refine i6.trans ?_
      rw [F72003_188]
      simp (disch := first | assumption | omega | decide | exact okF_i | exact okF_r | exact okF_n | exact okF_j | rfl) only [jc_ref, rI_int, rR_ref, rR_null, rJ_long, ckR_ref, ckR_null, ckr_ref, ckr_null, ckW_int, ckW_ref, ckW_null, cI_ok, cR_ok, cR_null, cV_ok, cJ_ok, qH_eq, qD_in, aG_ref, aS_ref, aL_ref, pF_ref, cK_ref, cK_null, zI_lit, zJ_lit, zI_add, zI_sub, zI_mul, zI_neg, zI_eq, zI_lt, zI_le, Int.reduceLT, Int.reduceLE, Int.reduceAdd, Int.reduceSub, Int.reduceMul, Int.reduceNeg, Int.reduceEq, Int.reduceNe, reduceIte, jf_in, pFc_in, aGi, aGb, aSi, aLc_in, cKc_in, nA_in, jm_s1, jm_s2, jm_p1, jm_p2, jm_b, jn_b, jn_s, jn_p, jset_jset, jset_jpush2, ckR_is, ckr_is, rR_is, ckW_is, cR_is, obi2, ckW_int, eq_self, if_true, ref_null, if_false, ne_eq, not_true_eq_false, not_false_eq_true, decide_true, decide_false, decide_not, Bool.true_and, Bool.false_and, Bool.and_true, Bool.and_false, Bool.true_or, Bool.false_or, Bool.or_true, Bool.or_false, Bool.not_true, Bool.not_false, Bool.false_eq_true, bI_t, bI_f, Int.natCast_one, Int.cast_ofNat_Int, Int.natCast_zero, aGc_V, Int.toNat_natCast]
      rw [if_pos (by omega)]
      exact k4
    · obtain ⟨k, k1, k2, k3, k4⟩ := fin (hint + 1) (by omega) (by omega) (fun z => by omega)
      refine ⟨k, k1, k2, k3, ?_⟩
      simp (disch := first | assumption | omega | decide | exact okF_i | exact okF_r | exact okF_n | exact okF_j | rfl) only [jc_ref, rI_int, rR_ref, rR_null, rJ_long, ckR_ref, ckR_null, ckr_ref, ckr_null, ckW_int, ckW_ref, ckW_null, cI_ok, cR_ok, cR_null, cV_ok, cJ_ok, qH_eq, qD_in, aG_ref, aS_ref, aL_ref, pF_ref, cK_ref, cK_null, zI_lit, zJ_lit, zI_add, zI_sub, zI_mul, zI_neg, zI_eq, zI_lt, zI_le, Int.reduceLT, Int.reduceLE, Int.reduceAdd, Int.reduceSub, Int.reduceMul, Int.reduceNeg, Int.reduceEq, Int.reduceNe, reduceIte, jf_in, pFc_in, aGi, aGb, aSi, aLc_in, cKc_in, nA_in, jm_s1, jm_s2, jm_p1, jm_p2, jm_b, jn_b, jn_s, jn_p, jset_jset, jset_jpush2, ckR_is, ckr_is, rR_is, ckW_is, cR_is, obi2, ckW_int, eq_self, if_true, ref_null, if_false, ne_eq, not_true_eq_false, not_false_eq_true, decide_true, decide_false, decide_not, Bool.true_and, Bool.false_and, Bool.and_true, Bool.and_false, Bool.true_or, Bool.false_or, Bool.or_true, Bool.or_false, Bool.not_true, Bool.not_false, Bool.false_eq_true, bI_t, bI_f, Int.natCast_one, Int.cast_ofNat_Int, Int.natCast_zero, aGc_V, Int.toNat_natCast]
      rw [F72003_29]
      simp (disch := first | assumption | omega | decide | exact okF_i | exact okF_r | exact okF_n | exact okF_j | rfl) only [jc_ref, rI_int, rR_ref, rR_null, rJ_long, ckR_ref, ckR_null, ckr_ref, ckr_null, ckW_int, ckW_ref, ckW_null, cI_ok, cR_ok, cR_null, cV_ok, cJ_ok, qH_eq, qD_in, aG_ref, aS_ref, aL_ref, pF_ref, cK_ref, cK_null, zI_lit, zJ_lit, zI_add, zI_sub, zI_mul, zI_neg, zI_eq, zI_lt, zI_le, Int.reduceLT, Int.reduceLE, Int.reduceAdd, Int.reduceSub, Int.reduceMul, Int.reduceNeg, Int.reduceEq, Int.reduceNe, reduceIte, jf_in, pFc_in, aGi, aGb, aSi, aLc_in, cKc_in, nA_in, jm_s1, jm_s2, jm_p1, jm_p2, jm_b, jn_b, jn_s, jn_p, jset_jset, jset_jpush2, ckR_is, ckr_is, rR_is, ckW_is, cR_is, obi2, ckW_int, eq_self, if_true, ref_null, if_false, ne_eq, not_true_eq_false, not_false_eq_true, decide_true, decide_false, decide_not, Bool.true_and, Bool.false_and, Bool.and_true, Bool.and_false, Bool.true_or, Bool.false_or, Bool.or_true, Bool.or_false, Bool.not_true, Bool.not_false, Bool.false_eq_true, bI_t, bI_f, Int.natCast_one, Int.cast_ofNat_Int, Int.natCast_zero, aGc_V, Int.toNat_natCast, cb, he, c1]
      first
        | rw [if_pos (by omega)]
        | rw [if_neg (by omega)]
      rw [ch]
      refine i6.trans ?_
      rw [F72003_188]
      simp (disch := first | assumption | omega | decide | exact okF_i | exact okF_r | exact okF_n | exact okF_j | rfl) only [jc_ref, rI_int, rR_ref, rR_null, rJ_long, ckR_ref, ckR_null, ckr_ref, ckr_null, ckW_int, ckW_ref, ckW_null, cI_ok, cR_ok, cR_null, cV_ok, cJ_ok, qH_eq, qD_in, aG_ref, aS_ref, aL_ref, pF_ref, cK_ref, cK_null, zI_lit, zJ_lit, zI_add, zI_sub, zI_mul, zI_neg, zI_eq, zI_lt, zI_le, Int.reduceLT, Int.reduceLE, Int.reduceAdd, Int.reduceSub, Int.reduceMul, Int.reduceNeg, Int.reduceEq, Int.reduceNe, reduceIte, jf_in, pFc_in, aGi, aGb, aSi, aLc_in, cKc_in, nA_in, jm_s1, jm_s2, jm_p1, jm_p2, jm_b, jn_b, jn_s, jn_p, jset_jset, jset_jpush2, ckR_is, ckr_is, rR_is, ckW_is, cR_is, obi2, ckW_int, eq_self, if_true, ref_null, if_false, ne_eq, not_true_eq_false, not_false_eq_true, decide_true, decide_false, decide_not, Bool.true_and, Bool.false_and, Bool.and_true, Bool.and_false, Bool.true_or, Bool.false_or, Bool.or_true, Bool.or_false, Bool.not_true, Bool.not_false, Bool.false_eq_true, bI_t, bI_f, Int.natCast_one, Int.cast_ofNat_Int, Int.natCast_zero, aGc_V, Int.toNat_natCast]
      rw [if_neg (by omega)]
      exact k4

theorem g72004_bin (hG : Fzn G H) (hN : N < 100000) (he : jm H e = some (1040, N, f)) (hb : b + n ≤ N) (hA : OkA G rk f b n) (hv : Cmp G v (rk v)) (hs : SrtA rk f b n) {hint : Int} {v8 : Value} : ∀ (m L R : Nat) (i7 : Int), L ≤ R → R ≤ n → R - L ≤ m → (∀ i, i < L → (rk (f (b + i)) ≤ rk v)) → (∀ i, R ≤ i → i < n → ¬ (rk (f (b + i)) ≤ rk v)) →
    ∃ k, L ≤ k ∧ k ≤ R ∧ (∀ i, i < k → (rk (f (b + i)) ≤ rk v)) ∧ (∀ i, k ≤ i → i < n → ¬ (rk (f (b + i)) ≤ rk v)) ∧ G2 (d + 2) 72004 253 [v, .ref e, .int (zI b), .int (zI n), .int (zI hint), .int (zI R), .int (zI L), .int (zI i7), v8] [] H = some (.inl (some (.int (zI k))), H) := by
  intro m
  induction m using Nat.strongRecOn with
  | ind m ih =>
    intro L R i7 h1 h2 h3 h4 h5
    have rv := hv.R
    by_cases hlr : R ≤ L
    · have : L = R := by omega
      subst this
      refine ⟨L, Nat.le_refl _, Nat.le_refl _, h4, h5, ?_⟩
      rw [F72004_253]
      simp (disch := first | assumption | omega | decide | exact okF_i | exact okF_r | exact okF_n | exact okF_j | rfl) only [jc_ref, rI_int, rR_ref, rR_null, rJ_long, ckR_ref, ckR_null, ckr_ref, ckr_null, ckW_int, ckW_ref, ckW_null, cI_ok, cR_ok, cR_null, cV_ok, cJ_ok, qH_eq, qD_in, aG_ref, aS_ref, aL_ref, pF_ref, cK_ref, cK_null, zI_lit, zJ_lit, zI_add, zI_sub, zI_mul, zI_neg, zI_eq, zI_lt, zI_le, Int.reduceLT, Int.reduceLE, Int.reduceAdd, Int.reduceSub, Int.reduceMul, Int.reduceNeg, Int.reduceEq, Int.reduceNe, reduceIte, jf_in, pFc_in, aGi, aGb, aSi, aLc_in, cKc_in, nA_in, jm_s1, jm_s2, jm_p1, jm_p2, jm_b, jn_b, jn_s, jn_p, jset_jset, jset_jpush2, ckR_is, ckr_is, rR_is, ckW_is, cR_is, obi2, ckW_int, eq_self, if_true, ref_null, if_false, ne_eq, not_true_eq_false, not_false_eq_true, decide_true, decide_false, decide_not, Bool.true_and, Bool.false_and, Bool.and_true, Bool.and_false, Bool.true_or, Bool.false_or, Bool.or_true, Bool.or_false, Bool.not_true, Bool.not_false, Bool.false_eq_true, bI_t, bI_f, Int.natCast_one, Int.cast_ofNat_Int, Int.natCast_zero, aGc_V, Int.toNat_natCast]
      rw [if_pos (by omega)]
    · obtain ⟨k, hk⟩ : ∃ k, k = L + (R - L) / 2 := ⟨_, rfl⟩
      have cR : (R : Int) - L = ((R - L : Nat) : Int) := by omega
      have sh := ushr1 (m := R - L) (by omega)
      have cm : (L : Int) + (((R - L) / 2 : Nat) : Int) = (k : Int) := by omega
      have cb : (b : Int) + (k : Int) = ((b + k : Nat) : Int) := by omega
      have cm1 : (k : Int) + 1 = ((k + 1 : Nat) : Int) := by omega
      have a1 := hA (b + k) (by omega) (by omega)
      have r1 := a1.R
      obtain ⟨c, c1, c2, c3, c4⟩ := c_cmp (d := d) hG hv a1
      by_cases hT : (rk (f (b + k)) ≤ rk v)
      · obtain ⟨p, p1, p2, p3, p4, p5⟩ := ih (R - (k + 1)) (by omega) (k + 1) R k (by omega) h2 (Nat.le_refl _) (fun i a => by
          have := hs (b + i) (b + k) (by omega) (by omega) (by omega)
          omega) h5
        refine ⟨p, by omega, p2, p3, p4, ?_⟩
        rw [F72004_253]
        simp (disch := first | assumption | omega | decide | exact okF_i | exact okF_r | exact okF_n | exact okF_j | rfl) only [jc_ref, rI_int, rR_ref, rR_null, rJ_long, ckR_ref, ckR_null, ckr_ref, ckr_null, ckW_int, ckW_ref, ckW_null, cI_ok, cR_ok, cR_null, cV_ok, cJ_ok, qH_eq, qD_in, aG_ref, aS_ref, aL_ref, pF_ref, cK_ref, cK_null, zI_lit, zJ_lit, zI_add, zI_sub, zI_mul, zI_neg, zI_eq, zI_lt, zI_le, Int.reduceLT, Int.reduceLE, Int.reduceAdd, Int.reduceSub, Int.reduceMul, Int.reduceNeg, Int.reduceEq, Int.reduceNe, reduceIte, jf_in, pFc_in, aGi, aGb, aSi, aLc_in, cKc_in, nA_in, jm_s1, jm_s2, jm_p1, jm_p2, jm_b, jn_b, jn_s, jn_p, jset_jset, jset_jpush2, ckR_is, ckr_is, rR_is, ckW_is, cR_is, obi2, ckW_int, eq_self, if_true, ref_null, if_false, ne_eq, not_true_eq_false, not_false_eq_true, decide_true, decide_false, decide_not, Bool.true_and, Bool.false_and, Bool.and_true, Bool.and_false, Bool.true_or, Bool.false_or, Bool.or_true, Bool.or_false, Bool.not_true, Bool.not_false, Bool.false_eq_true, bI_t, bI_f, Int.natCast_one, Int.cast_ofNat_Int, Int.natCast_zero, aGc_V, Int.toNat_natCast, cR, sh, cm, cb, he, c1]
        rw [if_neg (by omega)]
        first
          | (rw [if_pos (by omega), cm1]; exact p5)
          | (rw [if_neg (by omega), cm1]; exact p5)
      · obtain ⟨p, p1, p2, p3, p4, p5⟩ := ih (k - L) (by omega) L k k (by omega) (by omega) (Nat.le_refl _) h4 (fun i a a2 => by
          have := hs (b + k) (b + i) (by omega) (by omega) (by omega)
          omega)
        refine ⟨p, p1, by omega, p3, p4, ?_⟩
        rw [F72004_253]
        simp (disch := first | assumption | omega | decide | exact okF_i | exact okF_r | exact okF_n | exact okF_j | rfl) only [jc_ref, rI_int, rR_ref, rR_null, rJ_long, ckR_ref, ckR_null, ckr_ref, ckr_null, ckW_int, ckW_ref, ckW_null, cI_ok, cR_ok, cR_null, cV_ok, cJ_ok, qH_eq, qD_in, aG_ref, aS_ref, aL_ref, pF_ref, cK_ref, cK_null, zI_lit, zJ_lit, zI_add, zI_sub, zI_mul, zI_neg, zI_eq, zI_lt, zI_le, Int.reduceLT, Int.reduceLE, Int.reduceAdd, Int.reduceSub, Int.reduceMul, Int.reduceNeg, Int.reduceEq, Int.reduceNe, reduceIte, jf_in, pFc_in, aGi, aGb, aSi, aLc_in, cKc_in, nA_in, jm_s1, jm_s2, jm_p1, jm_p2, jm_b, jn_b, jn_s, jn_p, jset_jset, jset_jpush2, ckR_is, ckr_is, rR_is, ckW_is, cR_is, obi2, ckW_int, eq_self, if_true, ref_null, if_false, ne_eq, not_true_eq_false, not_false_eq_true, decide_true, decide_false, decide_not, Bool.true_and, Bool.false_and, Bool.and_true, Bool.and_false, Bool.true_or, Bool.false_or, Bool.or_true, Bool.or_false, Bool.not_true, Bool.not_false, Bool.false_eq_true, bI_t, bI_f, Int.natCast_one, Int.cast_ofNat_Int, Int.natCast_zero, aGc_V, Int.toNat_natCast, cR, sh, cm, cb, he, c1]
        rw [if_neg (by omega)]
        first
          | (rw [if_pos (by omega)]; exact p5)
          | (rw [if_neg (by omega)]; exact p5)
/-- to the right -/
theorem g72004_up (hG : Fzn G H) (hN : N < 100000) (he : jm H e = some (1040, N, f)) (hb : b + n ≤ N) (hA : OkA G rk f b n) (hv : Cmp G v (rk v)) {hint : Nat} : ∀ (m L R : Nat), L < R → R ≤ 200000 → hint + L < n → n - hint - L ≤ m → (rk (f (b + (hint + L))) ≤ rk v) →
    ∃ L2 R2 : Nat, L2 < R2 ∧ hint + L2 < n ∧ R2 ≤ 200000 ∧ (rk (f (b + (hint + L2))) ≤ rk v) ∧ (hint + R2 < n → ¬ (rk (f (b + (hint + R2))) ≤ rk v)) ∧ G2 (d + 2) 72004 143 [v, .ref e, .int (zI b), .int (zI n), .int (zI hint), .int (zI R), .int (zI L), .int (zI ((n - hint : Nat) : Int)), jno] [] H = G2 (d + 2) 72004 192 [v, .ref e, .int (zI b), .int (zI n), .int (zI hint), .int (zI R2), .int (zI L2), .int (zI ((n - hint : Nat) : Int)), jno] [] H := by
  intro m
  induction m with
  | zero => intro L R h1 h2 h3 h4 h5; omega
  | succ m ih =>
    intro L R h1 h2 h3 h4 h5
    have rv := hv.R
    by_cases hR : n - hint ≤ R
    · refine ⟨L, R, h1, h3, h2, h5, fun z => by omega, ?_⟩
      conv => lhs; rw [F72004_143]
      simp (disch := first | assumption | omega | decide | exact okF_i | exact okF_r | exact okF_n | exact okF_j | rfl) only [jc_ref, rI_int, rR_ref, rR_null, rJ_long, ckR_ref, ckR_null, ckr_ref, ckr_null, ckW_int, ckW_ref, ckW_null, cI_ok, cR_ok, cR_null, cV_ok, cJ_ok, qH_eq, qD_in, aG_ref, aS_ref, aL_ref, pF_ref, cK_ref, cK_null, zI_lit, zJ_lit, zI_add, zI_sub, zI_mul, zI_neg, zI_eq, zI_lt, zI_le, Int.reduceLT, Int.reduceLE, Int.reduceAdd, Int.reduceSub, Int.reduceMul, Int.reduceNeg, Int.reduceEq, Int.reduceNe, reduceIte, jf_in, pFc_in, aGi, aGb, aSi, aLc_in, cKc_in, nA_in, jm_s1, jm_s2, jm_p1, jm_p2, jm_b, jn_b, jn_s, jn_p, jset_jset, jset_jpush2, ckR_is, ckr_is, rR_is, ckW_is, cR_is, obi2, ckW_int, eq_self, if_true, ref_null, if_false, ne_eq, not_true_eq_false, not_false_eq_true, decide_true, decide_false, decide_not, Bool.true_and, Bool.false_and, Bool.and_true, Bool.and_false, Bool.true_or, Bool.false_or, Bool.or_true, Bool.or_false, Bool.not_true, Bool.not_false, Bool.false_eq_true, bI_t, bI_f, Int.natCast_one, Int.cast_ofNat_Int, Int.natCast_zero, aGc_V, Int.toNat_natCast]
      rw [if_pos (by omega)]
    · have a1 := hA (b + (hint + R)) (by omega) (by omega)
      have r1 := a1.R
      obtain ⟨c, c1, c2, c3, c4⟩ := c_cmp (d := d) hG hv a1
      have cb : (b : Int) + (hint : Int) + (R : Int) = ((b + (hint + R) : Nat) : Int) := by omega
      have sl := shl1 (z := R) (by omega) (by omega)
      have c2R : 2 * (R : Int) + 1 = ((2 * R + 1 : Nat) : Int) := by omega
      by_cases hT : (rk (f (b + (hint + R))) ≤ rk v)
      · obtain ⟨L2, R2, i1, i2, i3, i4, i5, i6⟩ := ih R (2 * R + 1) (by omega) (by omega) (by omega) (by omega) hT
        refine ⟨L2, R2, i1, i2, i3, i4, i5, ?_⟩
        conv => lhs; rw [F72004_143]
        simp (disch := first | assumption | omega | decide | exact okF_i | exact okF_r | exact okF_n | exact okF_j | rfl) only [jc_ref, rI_int, rR_ref, rR_null, rJ_long, ckR_ref, ckR_null, ckr_ref, ckr_null, ckW_int, ckW_ref, ckW_null, cI_ok, cR_ok, cR_null, cV_ok, cJ_ok, qH_eq, qD_in, aG_ref, aS_ref, aL_ref, pF_ref, cK_ref, cK_null, zI_lit, zJ_lit, zI_add, zI_sub, zI_mul, zI_neg, zI_eq, zI_lt, zI_le, Int.reduceLT, Int.reduceLE, Int.reduceAdd, Int.reduceSub, Int.reduceMul, Int.reduceNeg, Int.reduceEq, Int.reduceNe, reduceIte, jf_in, pFc_in, aGi, aGb, aSi, aLc_in, cKc_in, nA_in, jm_s1, jm_s2, jm_p1, jm_p2, jm_b, jn_b, jn_s, jn_p, jset_jset, jset_jpush2, ckR_is, ckr_is, rR_is, ckW_is, cR_is, obi2, ckW_int, eq_self, if_true, ref_null, if_false, ne_eq, not_true_eq_false, not_false_eq_true, decide_true, decide_false, decide_not, Bool.true_and, Bool.false_and, Bool.and_true, Bool.and_false, Bool.true_or, Bool.false_or, Bool.or_true, Bool.or_false, Bool.not_true, Bool.not_false, Bool.false_eq_true, bI_t, bI_f, Int.natCast_one, Int.cast_ofNat_Int, Int.natCast_zero, aGc_V, Int.toNat_natCast, cb, he, c1, sl, c2R]
        rw [if_neg (by omega)]
        first
          | (rw [if_pos (by omega), if_pos (by omega)]; exact i6)
          | (rw [if_neg (by omega), if_pos (by omega)]; exact i6)
      · refine ⟨L, R, h1, h3, h2, h5, fun _ => hT, ?_⟩
        conv => lhs; rw [F72004_143]
        simp (disch := first | assumption | omega | decide | exact okF_i | exact okF_r | exact okF_n | exact okF_j | rfl) only [jc_ref, rI_int, rR_ref, rR_null, rJ_long, ckR_ref, ckR_null, ckr_ref, ckr_null, ckW_int, ckW_ref, ckW_null, cI_ok, cR_ok, cR_null, cV_ok, cJ_ok, qH_eq, qD_in, aG_ref, aS_ref, aL_ref, pF_ref, cK_ref, cK_null, zI_lit, zJ_lit, zI_add, zI_sub, zI_mul, zI_neg, zI_eq, zI_lt, zI_le, Int.reduceLT, Int.reduceLE, Int.reduceAdd, Int.reduceSub, Int.reduceMul, Int.reduceNeg, Int.reduceEq, Int.reduceNe, reduceIte, jf_in, pFc_in, aGi, aGb, aSi, aLc_in, cKc_in, nA_in, jm_s1, jm_s2, jm_p1, jm_p2, jm_b, jn_b, jn_s, jn_p, jset_jset, jset_jpush2, ckR_is, ckr_is, rR_is, ckW_is, cR_is, obi2, ckW_int, eq_self, if_true, ref_null, if_false, ne_eq, not_true_eq_false, not_false_eq_true, decide_true, decide_false, decide_not, Bool.true_and, Bool.false_and, Bool.and_true, Bool.and_false, Bool.true_or, Bool.false_or, Bool.or_true, Bool.or_false, Bool.not_true, Bool.not_false, Bool.false_eq_true, bI_t, bI_f, Int.natCast_one, Int.cast_ofNat_Int, Int.natCast_zero, aGc_V, Int.toNat_natCast, cb, he, c1]
        rw [if_neg (by omega)]
        first
          | rw [if_pos (by omega)]
          | rw [if_neg (by omega)]
/-- to the left -/
theorem g72004_dn (hG : Fzn G H) (hN : N < 100000) (he : jm H e = some (1040, N, f)) (hb : b + n ≤ N) (hA : OkA G rk f b n) (hv : Cmp G v (rk v)) {hint : Nat} (hh : hint < n) : ∀ (m L R : Nat), L < R → R ≤ 200000 → L ≤ hint → hint + 1 - L ≤ m → ¬ (rk (f (b + (hint - L))) ≤ rk v) →
    ∃ L2 R2 : Nat, L2 < R2 ∧ L2 ≤ hint ∧ R2 ≤ 200000 ∧ ¬ (rk (f (b + (hint - L2))) ≤ rk v) ∧ (R2 ≤ hint → (rk (f (b + (hint - R2))) ≤ rk v)) ∧ G2 (d + 2) 72004 56 [v, .ref e, .int (zI b), .int (zI n), .int (zI hint), .int (zI R), .int (zI L), .int (zI ((hint + 1 : Nat) : Int)), jno] [] H = G2 (d + 2) 72004 105 [v, .ref e, .int (zI b), .int (zI n), .int (zI hint), .int (zI R2), .int (zI L2), .int (zI ((hint + 1 : Nat) : Int)), jno] [] H := by
  intro m
  induction m with
  | zero => intro L R h1 h2 h3 h4 h5; omega
  | succ m ih =>
    intro L R h1 h2 h3 h4 h5
    have rv := hv.R
    by_cases hR : hint + 1 ≤ R
    · refine ⟨L, R, h1, h3, h2, h5, fun z => by omega, ?_⟩
      conv => lhs; rw [F72004_56]
      simp (disch := first | assumption | omega | decide | exact okF_i | exact okF_r | exact okF_n | exact okF_j | rfl) only [jc_ref, rI_int, rR_ref, rR_null, rJ_long, ckR_ref, ckR_null, ckr_ref, ckr_null, ckW_int, ckW_ref, ckW_null, cI_ok, cR_ok, cR_null, cV_ok, cJ_ok, qH_eq, qD_in, aG_ref, aS_ref, aL_ref, pF_ref, cK_ref, cK_null, zI_lit, zJ_lit, zI_add, zI_sub, zI_mul, zI_neg, zI_eq, zI_lt, zI_le, Int.reduceLT, Int.reduceLE, Int.reduceAdd, Int.reduceSub, Int.reduceMul, Int.reduceNeg, Int.reduceEq, Int.reduceNe, reduceIte, jf_in, pFc_in, aGi, aGb, aSi, aLc_in, cKc_in, nA_in, jm_s1, jm_s2, jm_p1, jm_p2, jm_b, jn_b, jn_s, jn_p, jset_jset, jset_jpush2, ckR_is, ckr_is, rR_is, ckW_is, cR_is, obi2, ckW_int, eq_self, if_true, ref_null, if_false, ne_eq, not_true_eq_false, not_false_eq_true, decide_true, decide_false, decide_not, Bool.true_and, Bool.false_and, Bool.and_true, Bool.and_false, Bool.true_or, Bool.false_or, Bool.or_true, Bool.or_false, Bool.not_true, Bool.not_false, Bool.false_eq_true, bI_t, bI_f, Int.natCast_one, Int.cast_ofNat_Int, Int.natCast_zero, aGc_V, Int.toNat_natCast]
      rw [if_pos (by omega)]
    · have a1 := hA (b + (hint - R)) (by omega) (by omega)
      have r1 := a1.R
      obtain ⟨c, c1, c2, c3, c4⟩ := c_cmp (d := d) hG hv a1
      have cb : (b : Int) + (hint : Int) - (R : Int) = ((b + (hint - R) : Nat) : Int) := by omega
      have sl := shl1 (z := R) (by omega) (by omega)
      have c2R : 2 * (R : Int) + 1 = ((2 * R + 1 : Nat) : Int) := by omega
      by_cases hT : (rk (f (b + (hint - R))) ≤ rk v)
      · refine ⟨L, R, h1, h3, h2, h5, fun _ => hT, ?_⟩
        conv => lhs; rw [F72004_56]
        simp (disch := first | assumption | omega | decide | exact okF_i | exact okF_r | exact okF_n | exact okF_j | rfl) only [jc_ref, rI_int, rR_ref, rR_null, rJ_long, ckR_ref, ckR_null, ckr_ref, ckr_null, ckW_int, ckW_ref, ckW_null, cI_ok, cR_ok, cR_null, cV_ok, cJ_ok, qH_eq, qD_in, aG_ref, aS_ref, aL_ref, pF_ref, cK_ref, cK_null, zI_lit, zJ_lit, zI_add, zI_sub, zI_mul, zI_neg, zI_eq, zI_lt, zI_le, Int.reduceLT, Int.reduceLE, Int.reduceAdd, Int.reduceSub, Int.reduceMul, Int.reduceNeg, Int.reduceEq, Int.reduceNe, reduceIte, jf_in, pFc_in, aGi, aGb, aSi, aLc_in, cKc_in, nA_in, jm_s1, jm_s2, jm_p1, jm_p2, jm_b, jn_b, jn_s, jn_p, jset_jset, jset_jpush2, ckR_is, ckr_is, rR_is, ckW_is, cR_is, obi2, ckW_int, eq_self, if_true, ref_null, if_false, ne_eq, not_true_eq_false, not_false_eq_true, decide_true, decide_false, decide_not, Bool.true_and, Bool.false_and, Bool.and_true, Bool.and_false, Bool.true_or, Bool.false_or, Bool.or_true, Bool.or_false, Bool.not_true, Bool.not_false, Bool.false_eq_true, bI_t, bI_f, Int.natCast_one, Int.cast_ofNat_Int, Int.natCast_zero, aGc_V, Int.toNat_natCast, cb, he, c1]
        rw [if_neg (by omega)]
        first
          | rw [if_pos (by omega)]
          | rw [if_neg (by omega)]
      · obtain ⟨L2, R2, i1, i2, i3, i4, i5, i6⟩ := ih R (2 * R + 1) (by omega) (by omega) (by omega) (by omega) hT
        refine ⟨L2, R2, i1, i2, i3, i4, i5, ?_⟩
        conv => lhs; rw [F72004_56]
        simp (disch := first | assumption | omega | decide | exact okF_i | exact okF_r | exact okF_n | exact okF_j | rfl) only [jc_ref, rI_int, rR_ref, rR_null, rJ_long, ckR_ref, ckR_null, ckr_ref, ckr_null, ckW_int, ckW_ref, ckW_null, cI_ok, cR_ok, cR_null, cV_ok, cJ_ok, qH_eq, qD_in, aG_ref, aS_ref, aL_ref, pF_ref, cK_ref, cK_null, zI_lit, zJ_lit, zI_add, zI_sub, zI_mul, zI_neg, zI_eq, zI_lt, zI_le, Int.reduceLT, Int.reduceLE, Int.reduceAdd, Int.reduceSub, Int.reduceMul, Int.reduceNeg, Int.reduceEq, Int.reduceNe, reduceIte, jf_in, pFc_in, aGi, aGb, aSi, aLc_in, cKc_in, nA_in, jm_s1, jm_s2, jm_p1, jm_p2, jm_b, jn_b, jn_s, jn_p, jset_jset, jset_jpush2, ckR_is, ckr_is, rR_is, ckW_is, cR_is, obi2, ckW_int, eq_self, if_true, ref_null, if_false, ne_eq, not_true_eq_false, not_false_eq_true, decide_true, decide_false, decide_not, Bool.true_and, Bool.false_and, Bool.and_true, Bool.and_false, Bool.true_or, Bool.false_or, Bool.or_true, Bool.or_false, Bool.not_true, Bool.not_false, Bool.false_eq_true, bI_t, bI_f, Int.natCast_one, Int.cast_ofNat_Int, Int.natCast_zero, aGc_V, Int.toNat_natCast, cb, he, c1, sl, c2R]
        rw [if_neg (by omega)]
        first
          | (rw [if_pos (by omega), if_pos (by omega)]; exact i6)
          | (rw [if_neg (by omega), if_pos (by omega)]; exact i6)
theorem c_gal72004 (hG : Fzn G H) (hN : N < 100000) (he : jm H e = some (1040, N, f)) (hb : b + n ≤ N) (hA : OkA G rk f b n) (hv : Cmp G v (rk v)) (hs : SrtA rk f b n) {hint : Nat} (hh : hint < n) :
    ∃ k, k ≤ n ∧ (∀ i, i < k → (rk (f (b + i)) ≤ rk v)) ∧ (∀ i, k ≤ i → i < n → ¬ (rk (f (b + i)) ≤ rk v)) ∧ M2 (d + 3) 72004 [v, .ref e, .int (zI b), .int (zI n), .int (zI hint)] H = some (.inl (some (.int (zI k))), H) := by
  have rv := hv.R
  have a1 := hA (b + hint) (by omega) (by omega)
  have r1 := a1.R
  obtain ⟨c, c1, c2, c3, c4⟩ := c_cmp (d := d) hG hv a1
  have cb : (b : Int) + (hint : Int) = ((b + hint : Nat) : Int) := by omega
  have cn : (n : Int) - hint = ((n - hint : Nat) : Int) := by omega
  have ch : (hint : Int) + 1 = ((hint + 1 : Nat) : Int) := by omega
  rw [Y72004 H rv rfl, F72004_0]
  by_cases hT : (rk (f (b + hint)) ≤ rk v)
  · obtain ⟨L, R, i1, i2, i3, i4, i5, i6⟩ := g72004_up (rk := rk) (d := d) hG hN he hb hA hv (n - hint) 0 1 (by omega) (by omega) hh (by omega) hT
    have fin : ∀ R3 : Nat, L < R3 → hint + R3 ≤ n → (hint + R3 < n → ¬ (rk (f (b + (hint + R3))) ≤ rk v)) → ∃ k, k ≤ n ∧ (∀ i, i < k → (rk (f (b + i)) ≤ rk v)) ∧ (∀ i, k ≤ i → i < n → ¬ (rk (f (b + i)) ≤ rk v)) ∧ G2 (d + 2) 72004 217 [v, .ref e, .int (zI b), .int (zI n), .int (zI hint), .int (zI (R3 + hint)), .int (zI (L + hint)), .int (zI ((n - hint : Nat) : Int)), jno] [] H = some (.inl (some (.int (zI k))), H) := fun R3 q1 q2 q3 => by
      obtain ⟨k, k1, k2, k3, k4, k5⟩ := g72004_bin (rk := rk) (d := d) hG hN he hb hA hv hs (hint := hint) (v8 := jno) n (L + hint + 1) (R3 + hint) ((n - hint : Nat) : Int) (by omega) (by omega) (by omega) (fun i a => by
        have := hs (b + i) (b + (hint + L)) (by omega) (by omega) (by omega)
        omega) (fun i a a2 => by
        have q4 := q3 (by omega)
        have := hs (b + (hint + R3)) (b + i) (by omega) (by omega) (by omega)
        omega)
      refine ⟨k, by omega, k3, k4, ?_⟩
      rw [F72004_217]
      simp (disch := first | assumption | omega | decide | exact okF_i | exact okF_r | exact okF_n | exact okF_j | rfl) only [jc_ref, rI_int, rR_ref, rR_null, rJ_long, ckR_ref, ckR_null, ckr_ref, ckr_null, ckW_int, ckW_ref, ckW_null, cI_ok, cR_ok, cR_null, cV_ok, cJ_ok, qH_eq, qD_in, aG_ref, aS_ref, aL_ref, pF_ref, cK_ref, cK_null, zI_lit, zJ_lit, zI_add, zI_sub, zI_mul, zI_neg, zI_eq, zI_lt, zI_le, Int.reduceLT, Int.reduceLE, Int.reduceAdd, Int.reduceSub, Int.reduceMul, Int.reduceNeg, Int.reduceEq, Int.reduceNe, reduceIte, jf_in, pFc_in, aGi, aGb, aSi, aLc_in, cKc_in, nA_in, jm_s1, jm_s2, jm_p1, jm_p2, jm_b, jn_b, jn_s, jn_p, jset_jset, jset_jpush2, ckR_is, ckr_is, rR_is, ckW_is, cR_is, obi2, ckW_int, eq_self, if_true, ref_null, if_false, ne_eq, not_true_eq_false, not_false_eq_true, decide_true, decide_false, decide_not, Bool.true_and, Bool.false_and, Bool.and_true, Bool.and_false, Bool.true_or, Bool.false_or, Bool.or_true, Bool.or_false, Bool.not_true, Bool.not_false, Bool.false_eq_true, bI_t, bI_f, Int.natCast_one, Int.cast_ofNat_Int, Int.natCast_zero, aGc_V, Int.toNat_natCast]
      exact k5
    by_cases hR : R ≤ n - hint
    · obtain ⟨k, k1, k2, k3, k4⟩ := fin R i1 (by omega) i5
      refine ⟨k, k1, k2, k3, ?_⟩
      simp (disch := first | assumption | omega | decide | exact okF_i | exact okF_r | exact okF_n | exact okF_j | rfl) only [jc_ref, rI_int, rR_ref, rR_null, rJ_long, ckR_ref, ckR_null, ckr_ref, ckr_null, ckW_int, ckW_ref, ckW_null, cI_ok, cR_ok, cR_null, cV_ok, cJ_ok, qH_eq, qD_in, aG_ref, aS_ref, aL_ref, pF_ref, cK_ref, cK_null, zI_lit, zJ_lit, zI_add, zI_sub, zI_mul, zI_neg, zI_eq, zI_lt, zI_le, Int.reduceLT, Int.reduceLE, Int.reduceAdd, Int.reduceSub, Int.reduceMul, Int.reduceNeg, Int.reduceEq, Int.reduceNe, reduceIte, jf_in, pFc_in, aGi, aGb, aSi, aLc_in, cKc_in, nA_in, jm_s1, jm_s2, jm_p1, jm_p2, jm_b, jn_b, jn_s, jn_p, jset_jset, jset_jpush2, ckR_is, ckr_is, rR_is, ckW_is, cR_is, obi2, ckW_int, eq_self, if_true, ref_null, if_false, ne_eq, not_true_eq_false, not_false_eq_true, decide_true, decide_false, decide_not, Bool.true_and, Bool.false_and, Bool.and_true, Bool.and_false, Bool.true_or, Bool.false_or, Bool.or_true, Bool.or_false, Bool.not_true, Bool.not_false, Bool.false_eq_true, bI_t, bI_f, Int.natCast_one, Int.cast_ofNat_Int, Int.natCast_zero, aGc_V, Int.toNat_natCast]
      rw [F72004_29]
      simp (disch := first | assumption | omega | decide | exact okF_i | exact okF_r | exact okF_n | exact okF_j | rfl) only [jc_ref, rI_int, rR_ref, rR_null, rJ_long, ckR_ref, ckR_null, ckr_ref, ckr_null, ckW_int, ckW_ref, ckW_null, cI_ok, cR_ok, cR_null, cV_ok, cJ_ok, qH_eq, qD_in, aG_ref, aS_ref, aL_ref, pF_ref, cK_ref, cK_null, zI_lit, zJ_lit, zI_add, zI_sub, zI_mul, zI_neg, zI_eq, zI_lt, zI_le, Int.reduceLT, Int.reduceLE, Int.reduceAdd, Int.reduceSub, Int.reduceMul, Int.reduceNeg, Int.reduceEq, Int.reduceNe, reduceIte, jf_in, pFc_in, aGi, aGb, aSi, aLc_in, cKc_in, nA_in, jm_s1, jm_s2, jm_p1, jm_p2, jm_b, jn_b, jn_s, jn_p, jset_jset, jset_jpush2, ckR_is, ckr_is, rR_is, ckW_is, cR_is, obi2, ckW_int, eq_self, if_true, ref_null, if_false, ne_eq, not_true_eq_false, not_false_eq_true, decide_true, decide_false, decide_not, Bool.true_and, Bool.false_and, Bool.and_true, Bool.and_false, Bool.true_or, Bool.false_or, Bool.or_true, Bool.or_false, Bool.not_true, Bool.not_false, Bool.false_eq_true, bI_t, bI_f, Int.natCast_one, Int.cast_ofNat_Int, Int.natCast_zero, aGc_V, Int.toNat_natCast, cb, he, c1]
      first
        | rw [if_pos (by omega)]
        | rw [if_neg (by omega)]
      rw [cn]
      refine i6.trans ?_
      rw [F72004_192]
      simp (disch := first | assumption | omega | decide | exact okF_i | exact okF_r | exact okF_n | exact okF_j | rfl) only [jc_ref, rI_int, rR_ref, rR_null, rJ_long, ckR_ref, ckR_null, ckr_ref, ckr_null, ckW_int, ckW_ref, ckW_null, cI_ok, cR_ok, cR_null, cV_ok, cJ_ok, qH_eq, qD_in, aG_ref, aS_ref, aL_ref, pF_ref, cK_ref, cK_null, zI_lit, zJ_lit, zI_add, zI_sub, zI_mul, zI_neg, zI_eq, zI_lt, zI_le, Int.reduceLT, Int.reduceLE, Int.reduceAdd, Int.reduceSub, Int.reduceMul, Int.reduceNeg, Int.reduceEq, Int.reduceNe, reduceIte, jf_in, pFc_in, aGi, aGb, aSi, aLc_in, cKc_in, nA_in, jm_s1, jm_s2, jm_p1, jm_p2, jm_b, jn_b, jn_s, jn_p, jset_jset, jset_jpush2, ckR_is, ckr_is, rR_is, ckW_is, cR_is, obi2, ckW_int, eq_self, if_true, ref_null, if_false, ne_eq, not_true_eq_false, not_false_eq_true, decide_true, decide_false, decide_not, Bool.true_and, Bool.false_and, Bool.and_true, Bool.and_false, Bool.true_or, Bool.false_or, Bool.or_true, Bool.or_false, Bool.not_true, Bool.not_false, Bool.false_eq_true, bI_t, bI_f, Int.natCast_one, Int.cast_ofNat_Int, Int.natCast_zero, aGc_V, Int.toNat_natCast]
      rw [if_pos (by omega)]
      exact k4
    · obtain ⟨k, k1, k2, k3, k4⟩ := fin (n - hint) (by omega) (by omega) (fun z => by omega)
      refine ⟨k, k1, k2, k3, ?_⟩
      simp (disch := first | assumption | omega | decide | exact okF_i | exact okF_r | exact okF_n | exact okF_j | rfl) only [jc_ref, rI_int, rR_ref, rR_null, rJ_long, ckR_ref, ckR_null, ckr_ref, ckr_null, ckW_int, ckW_ref, ckW_null, cI_ok, cR_ok, cR_null, cV_ok, cJ_ok, qH_eq, qD_in, aG_ref, aS_ref, aL_ref, pF_ref, cK_ref, cK_null, zI_lit, zJ_lit, zI_add, zI_sub, zI_mul, zI_neg, zI_eq, zI_lt, zI_le, Int.reduceLT, Int.reduceLE, Int.reduceAdd, Int.reduceSub, Int.reduceMul, Int.reduceNeg, Int.reduceEq, Int.reduceNe, reduceIte, jf_in, pFc_in, aGi, aGb, aSi, aLc_in, cKc_in, nA_in, jm_s1, jm_s2, jm_p1, jm_p2, jm_b, jn_b, jn_s, jn_p, jset_jset, jset_jpush2, ckR_is, ckr_is, rR_is, ckW_is, cR_is, obi2, ckW_int, eq_self, if_true, ref_null, if_false, ne_eq, not_true_eq_false, not_false_eq_true, decide_true, decide_false, decide_not, Bool.true_and, Bool.false_and, Bool.and_true, Bool.and_false, Bool.true_or, Bool.false_or, Bool.or_true, Bool.or_false, Bool.not_true, Bool.not_false, Bool.false_eq_true, bI_t, bI_f, Int.natCast_one, Int.cast_ofNat_Int, Int.natCast_zero, aGc_V, Int.toNat_natCast]
      rw [F72004_29]
      simp (disch := first | assumption | omega | decide | exact okF_i | exact okF_r | exact okF_n | exact okF_j | rfl) only [jc_ref, rI_int, rR_ref, rR_null, rJ_long, ckR_ref, ckR_null, ckr_ref, ckr_null, ckW_int, ckW_ref, ckW_null, cI_ok, cR_ok, cR_null, cV_ok, cJ_ok, qH_eq, qD_in, aG_ref, aS_ref, aL_ref, pF_ref, cK_ref, cK_null, zI_lit, zJ_lit, zI_add, zI_sub, zI_mul, zI_neg, zI_eq, zI_lt, zI_le, Int.reduceLT, Int.reduceLE, Int.reduceAdd, Int.reduceSub, Int.reduceMul, Int.reduceNeg, Int.reduceEq, Int.reduceNe, reduceIte, jf_in, pFc_in, aGi, aGb, aSi, aLc_in, cKc_in, nA_in, jm_s1, jm_s2, jm_p1, jm_p2, jm_b, jn_b, jn_s, jn_p, jset_jset, jset_jpush2, ckR_is, ckr_is, rR_is, ckW_is, cR_is, obi2, ckW_int, eq_self, if_true, ref_null, if_false, ne_eq, not_true_eq_false, not_false_eq_true, decide_true, decide_false, decide_not, Bool.true_and, Bool.false_and, Bool.and_true, Bool.and_false, Bool.true_or, Bool.false_or, Bool.or_true, Bool.or_false, Bool.not_true, Bool.not_false, Bool.false_eq_true, bI_t, bI_f, Int.natCast_one, Int.cast_ofNat_Int, Int.natCast_zero, aGc_V, Int.toNat_natCast, cb, he, c1]
      first
        | rw [if_pos (by omega)]
        | rw [if_neg (by omega)]
      rw [cn]
      refine i6.trans ?_
      rw [F72004_192]
      simp (disch := first | assumption | omega | decide | exact okF_i | exact okF_r | exact okF_n | exact okF_j | rfl) only [jc_ref, rI_int, rR_ref, rR_null, rJ_long, ckR_ref, ckR_null, ckr_ref, ckr_null, ckW_int, ckW_ref, ckW_null, cI_ok, cR_ok, cR_null, cV_ok, cJ_ok, qH_eq, qD_in, aG_ref, aS_ref, aL_ref, pF_ref, cK_ref, cK_null, zI_lit, zJ_lit, zI_add, zI_sub, zI_mul, zI_neg, zI_eq, zI_lt, zI_le, Int.reduceLT, Int.reduceLE, Int.reduceAdd, Int.reduceSub, Int.reduceMul, Int.reduceNeg, Int.reduceEq, Int.reduceNe, reduceIte, jf_in, pFc_in, aGi, aGb, aSi, aLc_in, cKc_in, nA_in, jm_s1, jm_s2, jm_p1, jm_p2, jm_b, jn_b, jn_s, jn_p, jset_jset, jset_jpush2, ckR_is, ckr_is, rR_is, ckW_is, cR_is, obi2, ckW_int, eq_self, if_true, ref_null, if_false, ne_eq, not_true_eq_false, not_false_eq_true, decide_true, decide_false, decide_not, Bool.true_and, Bool.false_and, Bool.and_true, Bool.and_false, Bool.true_or, Bool.false_or, Bool.or_true, Bool.or_false, Bool.not_true, Bool.not_false, Bool.false_eq_true, bI_t, bI_f, Int.natCast_one, Int.cast_ofNat_Int, Int.natCast_zero, aGc_V, Int.toNat_natCast]
      rw [if_neg (by omega)]
      exact k4
  · obtain ⟨L, R, i1, i2, i3, i4, i5, i6⟩ := g72004_dn (rk := rk) (d := d) hG hN he hb hA hv hh (hint + 1) 0 1 (by omega) (by omega) (by omega) (by omega) hT
    have fin : ∀ R3 : Nat, L < R3 → R3 ≤ hint + 1 → (R3 ≤ hint → (rk (f (b + (hint - R3))) ≤ rk v)) → ∃ k, k ≤ n ∧ (∀ i, i < k → (rk (f (b + i)) ≤ rk v)) ∧ (∀ i, k ≤ i → i < n → ¬ (rk (f (b + i)) ≤ rk v)) ∧ G2 (d + 2) 72004 217 [v, .ref e, .int (zI b), .int (zI n), .int (zI hint), .int (zI (hint - L)), .int (zI (hint - R3)), .int (zI ((hint + 1 : Nat) : Int)), .int (zI L)] [] H = some (.inl (some (.int (zI k))), H) := fun R3 q1 q2 q3 => by
      obtain ⟨k, k1, k2, k3, k4, k5⟩ := g72004_bin (rk := rk) (d := d) hG hN he hb hA hv hs (hint := hint) (v8 := .int (zI L)) n (hint + 1 - R3) (hint - L) ((hint + 1 : Nat) : Int) (by omega) (by omega) (by omega) (fun i a => by
        have q4 := q3 (by omega)
        have := hs (b + i) (b + (hint - R3)) (by omega) (by omega) (by omega)
        omega) (fun i a a2 => by
        have := hs (b + (hint - L)) (b + i) (by omega) (by omega) (by omega)
        omega)
      refine ⟨k, by omega, k3, k4, ?_⟩
      have cc : (hint : Int) - R3 + 1 = ((hint + 1 - R3 : Nat) : Int) := by omega
      have cc2 : (hint : Int) - L = ((hint - L : Nat) : Int) := by omega
      rw [F72004_217]
      simp (disch := first | assumption | omega | decide | exact okF_i | exact okF_r | exact okF_n | exact okF_j | rfl) only [jc_ref, rI_int, rR_ref, rR_null, rJ_long, ckR_ref, ckR_null, ckr_ref, ckr_null, ckW_int, ckW_ref, ckW_null, cI_ok, cR_ok, cR_null, cV_ok, cJ_ok, qH_eq, qD_in, aG_ref, aS_ref, aL_ref, pF_ref, cK_ref, cK_null, zI_lit, zJ_lit, zI_add, zI_sub, zI_mul, zI_neg, zI_eq, zI_lt, zI_le, Int.reduceLT, Int.reduceLE, Int.reduceAdd, Int.reduceSub, Int.reduceMul, Int.reduceNeg, Int.reduceEq, Int.reduceNe, reduceIte, jf_in, pFc_in, aGi, aGb, aSi, aLc_in, cKc_in, nA_in, jm_s1, jm_s2, jm_p1, jm_p2, jm_b, jn_b, jn_s, jn_p, jset_jset, jset_jpush2, ckR_is, ckr_is, rR_is, ckW_is, cR_is, obi2, ckW_int, eq_self, if_true, ref_null, if_false, ne_eq, not_true_eq_false, not_false_eq_true, decide_true, decide_false, decide_not, Bool.true_and, Bool.false_and, Bool.and_true, Bool.and_false, Bool.true_or, Bool.false_or, Bool.or_true, Bool.or_false, Bool.not_true, Bool.not_false, Bool.false_eq_true, bI_t, bI_f, Int.natCast_one, Int.cast_ofNat_Int, Int.natCast_zero, aGc_V, Int.toNat_natCast, cc, cc2]
      exact k5
    by_cases hR : R ≤ hint + 1
    · obtain ⟨k, k1, k2, k3, k4⟩ := fin R i1 (by omega) i5
      refine ⟨k, k1, k2, k3, ?_⟩
      simp (disch := first | assumption | omega | decide | exact okF_i | exact okF_r | exact okF_n | exact okF_j | rfl) only [jc_ref, rI_int, rR_ref, rR_null, rJ_long, ckR_ref, ckR_null, ckr_ref, ckr_null, ckW_int, ckW_ref, ckW_null, cI_ok, cR_ok, cR_null, cV_ok, cJ_ok, qH_eq, qD_in, aG_ref, aS_ref, aL_ref, pF_ref, cK_ref, cK_null, zI_lit, zJ_lit, zI_add, zI_sub, zI_mul, zI_neg, zI_eq, zI_lt, zI_le, Int.reduceLT, Int.reduceLE, Int.reduceAdd, Int.reduceSub, Int.reduceMul, Int.reduceNeg, Int.reduceEq, Int.reduceNe, reduceIte, jf_in, pFc_in, aGi, aGb, aSi, aLc_in, cKc_in, nA_in, jm_s1, jm_s2, jm_p1, jm_p2, jm_b, jn_b, jn_s, jn_p, jset_jset, jset_jpush2, ckR_is, ckr_is, rR_is, ckW_is, cR_is, obi2, ckW_int, eq_self, if_true, ref_null, if_false, ne_eq, not_true_eq_false, not_false_eq_true, decide_true, decide_false, decide_not, Bool.true_and, Bool.false_and, Bool.and_true, Bool.and_false, Bool.true_or, Bool.false_or, Bool.or_true, Bool.or_false, Bool.not_true, Bool.not_false, Bool.false_eq_true, bI_t, bI_f, Int.natCast_one, Int.cast_ofNat_Int, Int.natCast_zero, aGc_V, Int.toNat_natCast]
      rw [F72004_29]
      simp (disch := first | assumption | omega | decide | exact okF_i | exact okF_r | exact okF_n | exact okF_j | rfl) only [jc_ref, rI_int, rR_ref, rR_null, rJ_long, ckR_ref, ckR_null, ckr_ref, ckr_null, ckW_int, ckW_ref, ckW_null, cI_ok, cR_ok, cR_null, cV_ok, cJ_ok, qH_eq, qD_in, aG_ref, aS_ref, aL_ref, pF_ref, cK_ref, cK_null, zI_lit, zJ_lit, zI_add, zI_sub, zI_mul, zI_neg, zI_eq, zI_lt, zI_le, Int.reduceLT, Int.reduceLE, Int.reduceAdd, Int.reduceSub, Int.reduceMul, Int.reduceNeg, Int.reduceEq, Int.reduceNe, reduceIte, jf_in, pFc_in, aGi, aGb, aSi, aLc_in, cKc_in, nA_in, jm_s1, jm_s2, jm_p1, jm_p2, jm_b, jn_b, jn_s, jn_p, jset_jset, jset_jpush2, ckR_is, ckr_is, rR_is, ckW_is, cR_is, obi2, ckW_int, eq_self, if_true, ref_null, if_false, ne_eq, not_true_eq_false, not_false_eq_true, decide_true, decide_false, decide_not, Bool.true_and, Bool.false_and, Bool.and_true, Bool.and_false, Bool.true_or, Bool.false_or, Bool.or_true, Bool.or_false, Bool.not_true, Bool.not_false, Bool.false_eq_true, bI_t, bI_f, Int.natCast_one, Int.cast_ofNat_Int, Int.natCast_zero, aGc_V, Int.toNat_natCast, cb, he, c1]
      first
        | rw [if_pos (by omega)]
        | rw [if_neg (by omega)]
      rw [ch]
      refine i6.trans ?_
      rw [F72004_105]
      simp (disch := first | assumption | omega | decide | exact okF_i | exact okF_r | exact okF_n | exact okF_j | rfl) only [jc_ref, rI_int, rR_ref, rR_null, rJ_long, ckR_ref, ckR_null, ckr_ref, ckr_null, ckW_int, ckW_ref, ckW_null, cI_ok, cR_ok, cR_null, cV_ok, cJ_ok, qH_eq, qD_in, aG_ref, aS_ref, aL_ref, pF_ref, cK_ref, cK_null, zI_lit, zJ_lit, zI_add, zI_sub, zI_mul, zI_neg, zI_eq, zI_lt, zI_le, Int.reduceLT, Int.reduceLE, Int.reduceAdd, Int.reduceSub, Int.reduceMul, Int.reduceNeg, Int.reduceEq, Int.reduceNe, reduceIte, jf_in, pFc_in, aGi, aGb, aSi, aLc_in, cKc_in, nA_in, jm_s1, jm_s2, jm_p1, jm_p2, jm_b, jn_b, jn_s, jn_p, jset_jset, jset_jpush2, ckR_is, ckr_is, rR_is, ckW_is, cR_is, obi2, ckW_int, eq_self, if_true, ref_null, if_false, ne_eq, not_true_eq_false, not_false_eq_true, decide_true, decide_false, decide_not, Bool.true_and, Bool.false_and, Bool.and_true, Bool.and_false, Bool.true_or, Bool.false_or, Bool.or_true, Bool.or_false, Bool.not_true, Bool.not_false, Bool.false_eq_true, bI_t, bI_f, Int.natCast_one, Int.cast_ofNat_Int, Int.natCast_zero, aGc_V, Int.toNat_natCast]
      rw [if_pos (by omega)]
      exact k4
    · obtain ⟨k, k1, k2, k3, k4⟩ := fin (hint + 1) (by omega) (by omega) (fun z => by omega)
      refine ⟨k, k1, k2, k3, ?_⟩
      simp (disch := first | assumption | omega | decide | exact okF_i | exact okF_r | exact okF_n | exact okF_j | rfl) only [jc_ref, rI_int, rR_ref, rR_null, rJ_long, ckR_ref, ckR_null, ckr_ref, ckr_null, ckW_int, ckW_ref, ckW_null, cI_ok, cR_ok, cR_null, cV_ok, cJ_ok, qH_eq, qD_in, aG_ref, aS_ref, aL_ref, pF_ref, cK_ref, cK_null, zI_lit, zJ_lit, zI_add, zI_sub, zI_mul, zI_neg, zI_eq, zI_lt, zI_le, Int.reduceLT, Int.reduceLE, Int.reduceAdd, Int.reduceSub, Int.reduceMul, Int.reduceNeg, Int.reduceEq, Int.reduceNe, reduceIte, jf_in, pFc_in, aGi, aGb, aSi, aLc_in, cKc_in, nA_in, jm_s1, jm_s2, jm_p1, jm_p2, jm_b, jn_b, jn_s, jn_p, jset_jset, jset_jpush2, ckR_is, ckr_is, rR_is, ckW_is, cR_is, obi2, ckW_int, eq_self, if_true, ref_null, if_false, ne_eq, not_true_eq_false, not_false_eq_true, decide_true, decide_false, decide_not, Bool.true_and, Bool.false_and, Bool.and_true, Bool.and_false, Bool.true_or, Bool.false_or, Bool.or_true, Bool.or_false, Bool.not_true, Bool.not_false, Bool.false_eq_true, bI_t, bI_f, Int.natCast_one, Int.cast_ofNat_Int, Int.natCast_zero, aGc_V, Int.toNat_natCast]
      rw [F72004_29]
      simp (disch := first | assumption | omega | decide | exact okF_i | exact okF_r | exact okF_n | exact okF_j | rfl) only [jc_ref, rI_int, rR_ref, rR_null, rJ_long, ckR_ref, ckR_null, ckr_ref, ckr_null, ckW_int, ckW_ref, ckW_null, cI_ok, cR_ok, cR_null, cV_ok, cJ_ok, qH_eq, qD_in, aG_ref, aS_ref, aL_ref, pF_ref, cK_ref, cK_null, zI_lit, zJ_lit, zI_add, zI_sub, zI_mul, zI_neg, zI_eq, zI_lt, zI_le, Int.reduceLT, Int.reduceLE, Int.reduceAdd, Int.reduceSub, Int.reduceMul, Int.reduceNeg, Int.reduceEq, Int.reduceNe, reduceIte, jf_in, pFc_in, aGi, aGb, aSi, aLc_in, cKc_in, nA_in, jm_s1, jm_s2, jm_p1, jm_p2, jm_b, jn_b, jn_s, jn_p, jset_jset, jset_jpush2, ckR_is, ckr_is, rR_is, ckW_is, cR_is, obi2, ckW_int, eq_self, if_true, ref_null, if_false, ne_eq, not_true_eq_false, not_false_eq_true, decide_true, decide_false, decide_not, Bool.true_and, Bool.false_and, Bool.and_true, Bool.and_false, Bool.true_or, Bool.false_or, Bool.or_true, Bool.or_false, Bool.not_true, Bool.not_false, Bool.false_eq_true, bI_t, bI_f, Int.natCast_one, Int.cast_ofNat_Int, Int.natCast_zero, aGc_V, Int.toNat_natCast, cb, he, c1]
      first
        | rw [if_pos (by omega)]
        | rw [if_neg (by omega)]
      rw [ch]
      refine i6.trans ?_
      rw [F72004_105]
      simp (disch := first | assumption | omega | decide | exact okF_i | exact okF_r | exact okF_n | exact okF_j | rfl) only [jc_ref, rI_int, rR_ref, rR_null, rJ_long, ckR_ref, ckR_null, ckr_ref, ckr_null, ckW_int, ckW_ref, ckW_null, cI_ok, cR_ok, cR_null, cV_ok, cJ_ok, qH_eq, qD_in, aG_ref, aS_ref, aL_ref, pF_ref, cK_ref, cK_null, zI_lit, zJ_lit, zI_add, zI_sub, zI_mul, zI_neg, zI_eq, zI_lt, zI_le, Int.reduceLT, Int.reduceLE, Int.reduceAdd, Int.reduceSub, Int.reduceMul, Int.reduceNeg, Int.reduceEq, Int.reduceNe, reduceIte, jf_in, pFc_in, aGi, aGb, aSi, aLc_in, cKc_in, nA_in, jm_s1, jm_s2, jm_p1, jm_p2, jm_b, jn_b, jn_s, jn_p, jset_jset, jset_jpush2, ckR_is, ckr_is, rR_is, ckW_is, cR_is, obi2, ckW_int, eq_self, if_true, ref_null, if_false, ne_eq, not_true_eq_false, not_false_eq_true, decide_true, decide_false, decide_not, Bool.true_and, Bool.false_and, Bool.and_true, Bool.and_false, Bool.true_or, Bool.false_or, Bool.or_true, Bool.or_false, Bool.not_true, Bool.not_false, Bool.false_eq_true, bI_t, bI_f, Int.natCast_one, Int.cast_ofNat_Int, Int.natCast_zero, aGc_V, Int.toNat_natCast]
      rw [if_neg (by omega)]
      exact k4
end
