/-! the twin's means and draws -/
theorem zI_div {a b : Int} (a0 : 0 ≤ a) (a1 : a < 2147483648) (b0 : 0 < b) (b1 : b < 2147483648) : zI a / zI b = zI (a / b) := by
  have q0 : 0 ≤ a / b := Int.ediv_nonneg a0 (by omega)
  have q1 : a / b ≤ a := Int.ediv_le_self _ a0
  refine Int32.toInt_inj.mp ?_
  rw [Int32.toInt_div, zI_toInt (by omega) (by omega), zI_toInt (by omega) (by omega), zI_toInt (by omega) (by omega), Int.tdiv_eq_ediv_of_nonneg a0]
  exact Int.bmod_eq_of_le (by omega) (by omega)
section
variable {d m : Nat} {h : AH} {T : Nat → Int → Int}
theorem gc_105 {v8 : Value} {t c w : Int} {A M' : Nat} (hA : A < 100000) (hM : M' < 100000) (hw : w = 0 ∨ w = 1) : ∀ (b a : Nat), a < 100000 → b < 100000 → 0 < a ∨ 0 < b → ∀ v8 : Value,
    G d 7070 105 [.ref m, .int (zI t), .int (zI c), .int (zI w), .int (zI A), .int (zI M'), .int (zI a), .int (zI b), v8] [] (tw m T h) = some (.inl (some (.int (zI (if w = 0 then (A / Nat.gcd a b : Nat) else (M' / Nat.gcd a b : Nat))))), tw m T h) := by
  intro b
  induction b using Nat.strongRecOn with
  | _ b ih =>
    intro a ha hb hab v8
    rw [E7070_105]
    by_cases hb0 : b = 0
    · subst hb0
      have ha0 : 0 < a := by omega
      have d1 := zI_div (a := A) (b := a) (by omega) (by omega) (by omega) (by omega)
      have d2 := zI_div (a := M') (b := a) (by omega) (by omega) (by omega) (by omega)
      have e1 : ((A / a : Nat) : Int) = (A : Int) / (a : Int) := Int.natCast_ediv A a
      have e2 : ((M' / a : Nat) : Int) = (M' : Int) / (a : Int) := Int.natCast_ediv M' a
      rw [Nat.gcd_zero_right, e1, e2]
      rcases hw with e | e
      · subst e
        simp (disch := omega) only [jc_ref, rI_int, rR_ref, rR_null, rJ_long, ckR_ref, ckR_null, ckr_ref, ckr_null, ckW_int, ckW_ref, ckW_null, cI_ok, cR_ok, cR_null, cV_ok, cJ_ok, qH_eq, qD_in, aG_ref, aS_ref, aL_ref, pF_ref, cK_ref, cK_null, zI_lit, zJ_lit, zI_add, zI_sub, zI_mul, zI_neg, zI_eq, zI_lt, zI_le, Int.reduceLT, Int.reduceLE, Int.reduceAdd, Int.reduceSub, Int.reduceMul, Int.reduceNeg, Int.reduceEq, Int.reduceNe, reduceIte, tw_0, tw_1, tw_2, tw_3, tw_4, tw_5, tw_6, tw_7, tw_8, tw_9, tw_10, tw_11, tw_12, tw_13, tw_14, tw_15, tw_16, tw_17, tw_18, tw_19, tw_20, tw_21, tw_22, tw_23, tw_24, tw_25, tw_26, tw_27, tw_28, tw_29, tw_30, tw_31, ob_0, ob_1, ob_2, ob_3, ob_4, ob_5, ob_6, ob_7, ob_8, ob_9, ob_10, ob_11, ob_12, ob_13, ob_14, ob_15, ob_16, ob_17, ob_18, ob_19, ob_20, ob_21, ob_22, ob_23, ob_24, ob_25, ob_26, ob_27, ob_28, ob_29, ob_30, ob_31, ob_32, ob_33, ob_34, ob_35, ob_36, ob_37, ob_38, ob_39, ob_40, ob_41, ob_42, ob_43, ob_44, ob_45, ob_46, ob_47, ob_48, ob_49, ob_50, ob_51, ob_52, ob_53, ob_54, ob_55, ob_56, ob_57, ob_58, ob_59, ob_60, ob_61, ob_62, ob_63, ob_64, ob_65, jf7, aGi, aGb, aGz, aGj, leT, leF, ltT, ltF, eqT, eqF, d1, Int.natCast_zero]
      · subst e
        simp (disch := omega) only [jc_ref, rI_int, rR_ref, rR_null, rJ_long, ckR_ref, ckR_null, ckr_ref, ckr_null, ckW_int, ckW_ref, ckW_null, cI_ok, cR_ok, cR_null, cV_ok, cJ_ok, qH_eq, qD_in, aG_ref, aS_ref, aL_ref, pF_ref, cK_ref, cK_null, zI_lit, zJ_lit, zI_add, zI_sub, zI_mul, zI_neg, zI_eq, zI_lt, zI_le, Int.reduceLT, Int.reduceLE, Int.reduceAdd, Int.reduceSub, Int.reduceMul, Int.reduceNeg, Int.reduceEq, Int.reduceNe, reduceIte, tw_0, tw_1, tw_2, tw_3, tw_4, tw_5, tw_6, tw_7, tw_8, tw_9, tw_10, tw_11, tw_12, tw_13, tw_14, tw_15, tw_16, tw_17, tw_18, tw_19, tw_20, tw_21, tw_22, tw_23, tw_24, tw_25, tw_26, tw_27, tw_28, tw_29, tw_30, tw_31, ob_0, ob_1, ob_2, ob_3, ob_4, ob_5, ob_6, ob_7, ob_8, ob_9, ob_10, ob_11, ob_12, ob_13, ob_14, ob_15, ob_16, ob_17, ob_18, ob_19, ob_20, ob_21, ob_22, ob_23, ob_24, ob_25, ob_26, ob_27, ob_28, ob_29, ob_30, ob_31, ob_32, ob_33, ob_34, ob_35, ob_36, ob_37, ob_38, ob_39, ob_40, ob_41, ob_42, ob_43, ob_44, ob_45, ob_46, ob_47, ob_48, ob_49, ob_50, ob_51, ob_52, ob_53, ob_54, ob_55, ob_56, ob_57, ob_58, ob_59, ob_60, ob_61, ob_62, ob_63, ob_64, ob_65, jf7, aGi, aGb, aGz, aGj, leT, leF, ltT, ltF, eqT, eqF, d2, Int.natCast_zero]
    · have dv := zI_div (a := a) (b := b) (by omega) (by omega) (by omega) (by omega)
      have em : (a : Int) - (a : Int) / (b : Int) * (b : Int) = ((a % b : Nat) : Int) := by
        have := Int.emod_add_mul_ediv (a : Int) b
        rw [Int.natCast_emod, Int.mul_comm]
        omega
      have mb : a % b < b := Nat.mod_lt _ (by omega)
      have ih' := ih (a % b) mb b hb (by omega) (Or.inl (by omega)) (.int (zI ((a % b : Nat) : Int)))
      rw [show Nat.gcd b (a % b) = Nat.gcd a b by rw [Nat.gcd_comm b, ← Nat.gcd_rec, Nat.gcd_comm]] at ih'
      rw [← ih', ← em]
      simp (disch := omega) only [jc_ref, rI_int, rR_ref, rR_null, rJ_long, ckR_ref, ckR_null, ckr_ref, ckr_null, ckW_int, ckW_ref, ckW_null, cI_ok, cR_ok, cR_null, cV_ok, cJ_ok, qH_eq, qD_in, aG_ref, aS_ref, aL_ref, pF_ref, cK_ref, cK_null, zI_lit, zJ_lit, zI_add, zI_sub, zI_mul, zI_neg, zI_eq, zI_lt, zI_le, Int.reduceLT, Int.reduceLE, Int.reduceAdd, Int.reduceSub, Int.reduceMul, Int.reduceNeg, Int.reduceEq, Int.reduceNe, reduceIte, tw_0, tw_1, tw_2, tw_3, tw_4, tw_5, tw_6, tw_7, tw_8, tw_9, tw_10, tw_11, tw_12, tw_13, tw_14, tw_15, tw_16, tw_17, tw_18, tw_19, tw_20, tw_21, tw_22, tw_23, tw_24, tw_25, tw_26, tw_27, tw_28, tw_29, tw_30, tw_31, ob_0, ob_1, ob_2, ob_3, ob_4, ob_5, ob_6, ob_7, ob_8, ob_9, ob_10, ob_11, ob_12, ob_13, ob_14, ob_15, ob_16, ob_17, ob_18, ob_19, ob_20, ob_21, ob_22, ob_23, ob_24, ob_25, ob_26, ob_27, ob_28, ob_29, ob_30, ob_31, ob_32, ob_33, ob_34, ob_35, ob_36, ob_37, ob_38, ob_39, ob_40, ob_41, ob_42, ob_43, ob_44, ob_45, ob_46, ob_47, ob_48, ob_49, ob_50, ob_51, ob_52, ob_53, ob_54, ob_55, ob_56, ob_57, ob_58, ob_59, ob_60, ob_61, ob_62, ob_63, ob_64, ob_65, jf7, aGi, aGb, aGz, aGj, leT, leF, ltT, ltF, eqT, eqF, dv]
/-- the sum of a column, and of how many -/
def mnS (S : Int → Int) (t c : Int) : Nat → Int → Int × Int → Int × Int
  | 0, _, x => x
  | j + 1, r, x => mnS S t c j (r + 1) (if rowOf S r t = true ∧ 0 ≤ cellS S r c then (x.1 + cellS S r c, x.2 + 1) else x)
theorem mnS_rg {S : Int → Int} {t c : Int} (W : StW S) (c0 : 0 ≤ c) (c4 : c < 4) : ∀ (j : Nat) (r : Int) (x : Int × Int), 0 ≤ r → r + j ≤ 99 → 0 ≤ x.1 → x.1 ≤ 99 * r → 0 ≤ x.2 → x.2 ≤ r → 0 ≤ (mnS S t c j r x).1 ∧ (mnS S t c j r x).1 ≤ 9801 ∧ 0 ≤ (mnS S t c j r x).2 ∧ (mnS S t c j r x).2 ≤ 99
  | 0, r, x, r0, hr, a0, a1, b0, b1 => by unfold mnS; omega
  | j + 1, r, x, r0, hr, a0, a1, b0, b1 => by
    have ce := W.cell r0 (show r < 99 by omega) c0 c4
    unfold mnS
    split
    · exact mnS_rg W c0 c4 j (r + 1) _ (by omega) (by omega) (by simp only; omega) (by simp only; omega) (by simp only; omega) (by simp only; omega)
    · exact mnS_rg W c0 c4 j (r + 1) _ (by omega) (by omega) (by omega) (by omega) (by omega) (by omega)
theorem mn_9 {t c w : Int} (ht : Rg t) (hc : Rg c) (hk : isColZ (T 2) t c = true) (W : StW (T 2)) : ∀ (j : Nat) (r : Int) (x : Int × Int), 0 ≤ r → r + j = 99 → 0 ≤ x.1 → x.1 ≤ 99 * r → 0 ≤ x.2 → x.2 ≤ r →
    G (d + 3) 7070 9 [.ref m, .int (zI t), .int (zI c), .int (zI w), .int (zI x.1), .int (zI x.2), .int (zI r), jno, jno] [] (tw m T h) = G (d + 3) 7070 69 [.ref m, .int (zI t), .int (zI c), .int (zI w), .int (zI (mnS (T 2) t c j r x).1), .int (zI (mnS (T 2) t c j r x).2), .int (zI 99), jno, jno] [] (tw m T h) := by
  have ec := isColZ_t hk
  have N := W.n0
  have CO := W.co ec.1.1 (show t < 4 by omega)
  have ic := tm_isCol (d := d) (m := m) (h := h) (T := T) ht hc W.sc
  intro j
  induction j with
  | zero =>
    intro r x r0 hr a0 a1 b0 b1
    have e : r = 99 := by omega
    subst e
    unfold mnS
    conv => lhs; rw [E7070_9]
    simp (disch := omega) only [jc_ref, rI_int, rR_ref, rR_null, rJ_long, ckR_ref, ckR_null, ckr_ref, ckr_null, ckW_int, ckW_ref, ckW_null, cI_ok, cR_ok, cR_null, cV_ok, cJ_ok, qH_eq, qD_in, aG_ref, aS_ref, aL_ref, pF_ref, cK_ref, cK_null, zI_lit, zJ_lit, zI_add, zI_sub, zI_mul, zI_neg, zI_eq, zI_lt, zI_le, Int.reduceLT, Int.reduceLE, Int.reduceAdd, Int.reduceSub, Int.reduceMul, Int.reduceNeg, Int.reduceEq, Int.reduceNe, reduceIte, tw_0, tw_1, tw_2, tw_3, tw_4, tw_5, tw_6, tw_7, tw_8, tw_9, tw_10, tw_11, tw_12, tw_13, tw_14, tw_15, tw_16, tw_17, tw_18, tw_19, tw_20, tw_21, tw_22, tw_23, tw_24, tw_25, tw_26, tw_27, tw_28, tw_29, tw_30, tw_31, ob_0, ob_1, ob_2, ob_3, ob_4, ob_5, ob_6, ob_7, ob_8, ob_9, ob_10, ob_11, ob_12, ob_13, ob_14, ob_15, ob_16, ob_17, ob_18, ob_19, ob_20, ob_21, ob_22, ob_23, ob_24, ob_25, ob_26, ob_27, ob_28, ob_29, ob_30, ob_31, ob_32, ob_33, ob_34, ob_35, ob_36, ob_37, ob_38, ob_39, ob_40, ob_41, ob_42, ob_43, ob_44, ob_45, ob_46, ob_47, ob_48, ob_49, ob_50, ob_51, ob_52, ob_53, ob_54, ob_55, ob_56, ob_57, ob_58, ob_59, ob_60, ob_61, ob_62, ob_63, ob_64, ob_65, jf7, aGi, aGb, aGz, aGj, leT, leF, ltT, ltF, eqT, eqF]
  | succ j ih =>
    intro r x r0 hr a0 a1 b0 b1
    have ce := W.cell r0 (show r < 99 by omega) ec.2.1 (show c < 4 by omega)
    have ro := tm_isRowOf (d := d + 2) (m := m) (h := h) W (r := r) r0 (show r < 99 by omega) ht
    have tc := tm_cell (d := d + 2) (m := m) (h := h) (T := T) (r := r) (c := c) r0 (by omega) ec.2.1 (by omega)
    cases hr2 : rowOf (T 2) r t with
    | false =>
      have u : mnS (T 2) t c (j + 1) r x = mnS (T 2) t c j (r + 1) x := by simp [mnS, hr2]
      rw [u, ← ih (r + 1) x (by omega) (by omega) a0 (by omega) b0 (by omega)]
      conv => lhs; rw [E7070_9]
      simp (disch := omega) only [jc_ref, rI_int, rR_ref, rR_null, rJ_long, ckR_ref, ckR_null, ckr_ref, ckr_null, ckW_int, ckW_ref, ckW_null, cI_ok, cR_ok, cR_null, cV_ok, cJ_ok, qH_eq, qD_in, aG_ref, aS_ref, aL_ref, pF_ref, cK_ref, cK_null, zI_lit, zJ_lit, zI_add, zI_sub, zI_mul, zI_neg, zI_eq, zI_lt, zI_le, Int.reduceLT, Int.reduceLE, Int.reduceAdd, Int.reduceSub, Int.reduceMul, Int.reduceNeg, Int.reduceEq, Int.reduceNe, reduceIte, tw_0, tw_1, tw_2, tw_3, tw_4, tw_5, tw_6, tw_7, tw_8, tw_9, tw_10, tw_11, tw_12, tw_13, tw_14, tw_15, tw_16, tw_17, tw_18, tw_19, tw_20, tw_21, tw_22, tw_23, tw_24, tw_25, tw_26, tw_27, tw_28, tw_29, tw_30, tw_31, ob_0, ob_1, ob_2, ob_3, ob_4, ob_5, ob_6, ob_7, ob_8, ob_9, ob_10, ob_11, ob_12, ob_13, ob_14, ob_15, ob_16, ob_17, ob_18, ob_19, ob_20, ob_21, ob_22, ob_23, ob_24, ob_25, ob_26, ob_27, ob_28, ob_29, ob_30, ob_31, ob_32, ob_33, ob_34, ob_35, ob_36, ob_37, ob_38, ob_39, ob_40, ob_41, ob_42, ob_43, ob_44, ob_45, ob_46, ob_47, ob_48, ob_49, ob_50, ob_51, ob_52, ob_53, ob_54, ob_55, ob_56, ob_57, ob_58, ob_59, ob_60, ob_61, ob_62, ob_63, ob_64, ob_65, jf7, aGi, aGb, aGz, aGj, leT, leF, ltT, ltF, eqT, eqF, ic, hk, beq_tt, beq_tf, beq_ft, beq_ff, Bool.true_and, Bool.false_and, Bool.and_true, Bool.and_false, Bool.true_or, Bool.false_or, Bool.or_true, Bool.or_false, Bool.true_eq_false, Bool.false_eq_true, Bool.not_true, Bool.not_false, bZ_t, bZ_f, zI_b0, zI_b1, zI_bb, okZ_0, okZ_1, ro, hr2]
    | true =>
      by_cases hv : 0 ≤ cellS (T 2) r c
      · have u : mnS (T 2) t c (j + 1) r x = mnS (T 2) t c j (r + 1) (x.1 + cellS (T 2) r c, x.2 + 1) := by simp [mnS, hr2, hv]
        rw [u, ← ih (r + 1) (x.1 + cellS (T 2) r c, x.2 + 1) (by omega) (by omega) (by simp only; omega) (by simp only; omega) (by simp only; omega) (by simp only; omega)]
        conv => lhs; rw [E7070_9]
        simp (disch := omega) only [jc_ref, rI_int, rR_ref, rR_null, rJ_long, ckR_ref, ckR_null, ckr_ref, ckr_null, ckW_int, ckW_ref, ckW_null, cI_ok, cR_ok, cR_null, cV_ok, cJ_ok, qH_eq, qD_in, aG_ref, aS_ref, aL_ref, pF_ref, cK_ref, cK_null, zI_lit, zJ_lit, zI_add, zI_sub, zI_mul, zI_neg, zI_eq, zI_lt, zI_le, Int.reduceLT, Int.reduceLE, Int.reduceAdd, Int.reduceSub, Int.reduceMul, Int.reduceNeg, Int.reduceEq, Int.reduceNe, reduceIte, tw_0, tw_1, tw_2, tw_3, tw_4, tw_5, tw_6, tw_7, tw_8, tw_9, tw_10, tw_11, tw_12, tw_13, tw_14, tw_15, tw_16, tw_17, tw_18, tw_19, tw_20, tw_21, tw_22, tw_23, tw_24, tw_25, tw_26, tw_27, tw_28, tw_29, tw_30, tw_31, ob_0, ob_1, ob_2, ob_3, ob_4, ob_5, ob_6, ob_7, ob_8, ob_9, ob_10, ob_11, ob_12, ob_13, ob_14, ob_15, ob_16, ob_17, ob_18, ob_19, ob_20, ob_21, ob_22, ob_23, ob_24, ob_25, ob_26, ob_27, ob_28, ob_29, ob_30, ob_31, ob_32, ob_33, ob_34, ob_35, ob_36, ob_37, ob_38, ob_39, ob_40, ob_41, ob_42, ob_43, ob_44, ob_45, ob_46, ob_47, ob_48, ob_49, ob_50, ob_51, ob_52, ob_53, ob_54, ob_55, ob_56, ob_57, ob_58, ob_59, ob_60, ob_61, ob_62, ob_63, ob_64, ob_65, jf7, aGi, aGb, aGz, aGj, leT, leF, ltT, ltF, eqT, eqF, ic, hk, beq_tt, beq_tf, beq_ft, beq_ff, Bool.true_and, Bool.false_and, Bool.and_true, Bool.and_false, Bool.true_or, Bool.false_or, Bool.or_true, Bool.or_false, Bool.true_eq_false, Bool.false_eq_true, Bool.not_true, Bool.not_false, bZ_t, bZ_f, zI_b0, zI_b1, zI_bb, okZ_0, okZ_1, ro, hr2, tc, hv]
      · have u : mnS (T 2) t c (j + 1) r x = mnS (T 2) t c j (r + 1) x := by simp [mnS, hv]
        rw [u, ← ih (r + 1) x (by omega) (by omega) a0 (by omega) b0 (by omega)]
        conv => lhs; rw [E7070_9]
        simp (disch := omega) only [jc_ref, rI_int, rR_ref, rR_null, rJ_long, ckR_ref, ckR_null, ckr_ref, ckr_null, ckW_int, ckW_ref, ckW_null, cI_ok, cR_ok, cR_null, cV_ok, cJ_ok, qH_eq, qD_in, aG_ref, aS_ref, aL_ref, pF_ref, cK_ref, cK_null, zI_lit, zJ_lit, zI_add, zI_sub, zI_mul, zI_neg, zI_eq, zI_lt, zI_le, Int.reduceLT, Int.reduceLE, Int.reduceAdd, Int.reduceSub, Int.reduceMul, Int.reduceNeg, Int.reduceEq, Int.reduceNe, reduceIte, tw_0, tw_1, tw_2, tw_3, tw_4, tw_5, tw_6, tw_7, tw_8, tw_9, tw_10, tw_11, tw_12, tw_13, tw_14, tw_15, tw_16, tw_17, tw_18, tw_19, tw_20, tw_21, tw_22, tw_23, tw_24, tw_25, tw_26, tw_27, tw_28, tw_29, tw_30, tw_31, ob_0, ob_1, ob_2, ob_3, ob_4, ob_5, ob_6, ob_7, ob_8, ob_9, ob_10, ob_11, ob_12, ob_13, ob_14, ob_15, ob_16, ob_17, ob_18, ob_19, ob_20, ob_21, ob_22, ob_23, ob_24, ob_25, ob_26, ob_27, ob_28, ob_29, ob_30, ob_31, ob_32, ob_33, ob_34, ob_35, ob_36, ob_37, ob_38, ob_39, ob_40, ob_41, ob_42, ob_43, ob_44, ob_45, ob_46, ob_47, ob_48, ob_49, ob_50, ob_51, ob_52, ob_53, ob_54, ob_55, ob_56, ob_57, ob_58, ob_59, ob_60, ob_61, ob_62, ob_63, ob_64, ob_65, jf7, aGi, aGb, aGz, aGj, leT, leF, ltT, ltF, eqT, eqF, ic, hk, beq_tt, beq_tf, beq_ft, beq_ff, Bool.true_and, Bool.false_and, Bool.and_true, Bool.and_false, Bool.true_or, Bool.false_or, Bool.or_true, Bool.or_false, Bool.true_eq_false, Bool.false_eq_true, Bool.not_true, Bool.not_false, bZ_t, bZ_f, zI_b0, zI_b1, zI_bb, okZ_0, okZ_1, ro, hr2, tc, hv]
def mnX (S : Int → Int) (t c : Int) : Int × Int := if isColZ S t c = true then mnS S t c 99 0 (0, 0) else (0, 0)
/-- a mean, in least terms: whether there is one, and it -/
def mnOk (S : Int → Int) (t c w : Int) : Bool := !decide ((mnX S t c).2 = 0) && isInZ w 0 1
def mnV (S : Int → Int) (t c w : Int) : Int := if w = 0 then (((mnX S t c).1.toNat / Nat.gcd (mnX S t c).2.toNat (mnX S t c).1.toNat : Nat) : Int) else (((mnX S t c).2.toNat / Nat.gcd (mnX S t c).2.toNat (mnX S t c).1.toNat : Nat) : Int)
theorem tm_mean {t c w : Int} (ht : Rg t) (hc : Rg c) (hw : Rg w) (W : StW (T 2)) : M (d + 4) 7070 [.ref m, .int (zI t), .int (zI c), .int (zI w)] (tw m T h) = some (.inl (some (.int (zI (if mnOk (T 2) t c w = true then mnV (T 2) t c w else 0)))), tw m (ts T 0 0 (if mnOk (T 2) t c w = true then 0 else 1)) h) := by
  have ii := tm_isIn (d := d + 2) (h := tw m T h) hw (low := 0) (high := 1) ⟨by omega, by omega⟩ ⟨by omega, by omega⟩
  have t0 := tm_throwsIf (d := d + 2) (m := m) (h := h) (T := T) (b := false)
  have t1 := tm_throwsIf (d := d + 2) (m := m) (h := h) (T := T) (b := true)
  simp only [bZ_f] at t0
  simp only [bZ_t] at t1
  have ic := tm_isCol (d := d) (m := m) (h := h) (T := T) ht hc W.sc
  have N := W.n0
  obtain ⟨r, st⟩ : ∃ r : Int, G (d + 3) 7070 9 [.ref m, .int (zI t), .int (zI c), .int (zI w), .int (zI 0), .int (zI 0), .int (zI 0), jno, jno] [] (tw m T h) = G (d + 3) 7070 69 [.ref m, .int (zI t), .int (zI c), .int (zI w), .int (zI (mnX (T 2) t c).1), .int (zI (mnX (T 2) t c).2), .int (zI r), jno, jno] [] (tw m T h) := by
    unfold mnX
    cases hk : isColZ (T 2) t c with
    | true =>
      rw [if_pos rfl]
      exact ⟨99, mn_9 ht hc hk W 99 0 (0, 0) (by omega) (by omega) (by simp only; omega) (by simp only; omega) (by simp only; omega) (by simp only; omega)⟩
    | false =>
      rw [if_neg (by decide)]
      refine ⟨0, ?_⟩
      conv => lhs; rw [E7070_9]
      simp (disch := omega) only [jc_ref, rI_int, rR_ref, rR_null, rJ_long, ckR_ref, ckR_null, ckr_ref, ckr_null, ckW_int, ckW_ref, ckW_null, cI_ok, cR_ok, cR_null, cV_ok, cJ_ok, qH_eq, qD_in, aG_ref, aS_ref, aL_ref, pF_ref, cK_ref, cK_null, zI_lit, zJ_lit, zI_add, zI_sub, zI_mul, zI_neg, zI_eq, zI_lt, zI_le, Int.reduceLT, Int.reduceLE, Int.reduceAdd, Int.reduceSub, Int.reduceMul, Int.reduceNeg, Int.reduceEq, Int.reduceNe, reduceIte, tw_0, tw_1, tw_2, tw_3, tw_4, tw_5, tw_6, tw_7, tw_8, tw_9, tw_10, tw_11, tw_12, tw_13, tw_14, tw_15, tw_16, tw_17, tw_18, tw_19, tw_20, tw_21, tw_22, tw_23, tw_24, tw_25, tw_26, tw_27, tw_28, tw_29, tw_30, tw_31, ob_0, ob_1, ob_2, ob_3, ob_4, ob_5, ob_6, ob_7, ob_8, ob_9, ob_10, ob_11, ob_12, ob_13, ob_14, ob_15, ob_16, ob_17, ob_18, ob_19, ob_20, ob_21, ob_22, ob_23, ob_24, ob_25, ob_26, ob_27, ob_28, ob_29, ob_30, ob_31, ob_32, ob_33, ob_34, ob_35, ob_36, ob_37, ob_38, ob_39, ob_40, ob_41, ob_42, ob_43, ob_44, ob_45, ob_46, ob_47, ob_48, ob_49, ob_50, ob_51, ob_52, ob_53, ob_54, ob_55, ob_56, ob_57, ob_58, ob_59, ob_60, ob_61, ob_62, ob_63, ob_64, ob_65, jf7, aGi, aGb, aGz, aGj, leT, leF, ltT, ltF, eqT, eqF, ic, hk, beq_tt, beq_tf, beq_ft, beq_ff, Bool.true_and, Bool.false_and, Bool.and_true, Bool.and_false, Bool.true_or, Bool.false_or, Bool.or_true, Bool.or_false, Bool.true_eq_false, Bool.false_eq_true, Bool.not_true, Bool.not_false, bZ_t, bZ_f, zI_b0, zI_b1, zI_bb, okZ_0, okZ_1]
  have rg : 0 ≤ (mnX (T 2) t c).1 ∧ (mnX (T 2) t c).1 ≤ 9801 ∧ 0 ≤ (mnX (T 2) t c).2 ∧ (mnX (T 2) t c).2 ≤ 99 := by
    unfold mnX
    cases hk : isColZ (T 2) t c with
    | true =>
      have ec := isColZ_t hk
      have CO := W.co ec.1.1 (show t < 4 by omega)
      rw [if_pos rfl]
      exact mnS_rg W ec.2.1 (by omega) 99 0 (0, 0) (by omega) (by omega) (by simp only; omega) (by simp only; omega) (by simp only; omega) (by simp only; omega)
    | false => rw [if_neg (by decide)]; simp only; omega
  rw [X7070 _ (tw_recv rfl), E7070_0]
  refine st.trans ?_
  unfold mnOk mnV
  generalize mnX (T 2) t c = x at rg ⊢
  obtain ⟨r1, r2, r3, r4⟩ := rg
  by_cases z : x.2 = 0
  · rw [decide_eq_true z, Bool.not_true, Bool.false_and, if_neg (by decide), if_neg (by decide)]
    rw [E7070_69]
    simp (disch := omega) only [jc_ref, rI_int, rR_ref, rR_null, rJ_long, ckR_ref, ckR_null, ckr_ref, ckr_null, ckW_int, ckW_ref, ckW_null, cI_ok, cR_ok, cR_null, cV_ok, cJ_ok, qH_eq, qD_in, aG_ref, aS_ref, aL_ref, pF_ref, cK_ref, cK_null, zI_lit, zJ_lit, zI_add, zI_sub, zI_mul, zI_neg, zI_eq, zI_lt, zI_le, Int.reduceLT, Int.reduceLE, Int.reduceAdd, Int.reduceSub, Int.reduceMul, Int.reduceNeg, Int.reduceEq, Int.reduceNe, reduceIte, tw_0, tw_1, tw_2, tw_3, tw_4, tw_5, tw_6, tw_7, tw_8, tw_9, tw_10, tw_11, tw_12, tw_13, tw_14, tw_15, tw_16, tw_17, tw_18, tw_19, tw_20, tw_21, tw_22, tw_23, tw_24, tw_25, tw_26, tw_27, tw_28, tw_29, tw_30, tw_31, ob_0, ob_1, ob_2, ob_3, ob_4, ob_5, ob_6, ob_7, ob_8, ob_9, ob_10, ob_11, ob_12, ob_13, ob_14, ob_15, ob_16, ob_17, ob_18, ob_19, ob_20, ob_21, ob_22, ob_23, ob_24, ob_25, ob_26, ob_27, ob_28, ob_29, ob_30, ob_31, ob_32, ob_33, ob_34, ob_35, ob_36, ob_37, ob_38, ob_39, ob_40, ob_41, ob_42, ob_43, ob_44, ob_45, ob_46, ob_47, ob_48, ob_49, ob_50, ob_51, ob_52, ob_53, ob_54, ob_55, ob_56, ob_57, ob_58, ob_59, ob_60, ob_61, ob_62, ob_63, ob_64, ob_65, jf7, aGi, aGb, aGz, aGj, leT, leF, ltT, ltF, eqT, eqF, z, t1]
  · rw [decide_eq_false z, Bool.not_false, Bool.true_and]
    cases e : isInZ w 0 1 with
    | false =>
      rw [if_neg (by decide), if_neg (by decide)]
      rw [E7070_69]
      simp (disch := omega) only [jc_ref, rI_int, rR_ref, rR_null, rJ_long, ckR_ref, ckR_null, ckr_ref, ckr_null, ckW_int, ckW_ref, ckW_null, cI_ok, cR_ok, cR_null, cV_ok, cJ_ok, qH_eq, qD_in, aG_ref, aS_ref, aL_ref, pF_ref, cK_ref, cK_null, zI_lit, zJ_lit, zI_add, zI_sub, zI_mul, zI_neg, zI_eq, zI_lt, zI_le, Int.reduceLT, Int.reduceLE, Int.reduceAdd, Int.reduceSub, Int.reduceMul, Int.reduceNeg, Int.reduceEq, Int.reduceNe, reduceIte, tw_0, tw_1, tw_2, tw_3, tw_4, tw_5, tw_6, tw_7, tw_8, tw_9, tw_10, tw_11, tw_12, tw_13, tw_14, tw_15, tw_16, tw_17, tw_18, tw_19, tw_20, tw_21, tw_22, tw_23, tw_24, tw_25, tw_26, tw_27, tw_28, tw_29, tw_30, tw_31, ob_0, ob_1, ob_2, ob_3, ob_4, ob_5, ob_6, ob_7, ob_8, ob_9, ob_10, ob_11, ob_12, ob_13, ob_14, ob_15, ob_16, ob_17, ob_18, ob_19, ob_20, ob_21, ob_22, ob_23, ob_24, ob_25, ob_26, ob_27, ob_28, ob_29, ob_30, ob_31, ob_32, ob_33, ob_34, ob_35, ob_36, ob_37, ob_38, ob_39, ob_40, ob_41, ob_42, ob_43, ob_44, ob_45, ob_46, ob_47, ob_48, ob_49, ob_50, ob_51, ob_52, ob_53, ob_54, ob_55, ob_56, ob_57, ob_58, ob_59, ob_60, ob_61, ob_62, ob_63, ob_64, ob_65, jf7, aGi, aGb, aGz, aGj, leT, leF, ltT, ltF, eqT, eqF, z, ii, e, beq_tt, beq_tf, beq_ft, beq_ff, Bool.true_and, Bool.false_and, Bool.and_true, Bool.and_false, Bool.true_or, Bool.false_or, Bool.or_true, Bool.or_false, Bool.true_eq_false, Bool.false_eq_true, Bool.not_true, Bool.not_false, bZ_t, bZ_f, zI_b0, zI_b1, zI_bb, okZ_0, okZ_1, t1]
    | true =>
      have ew := isInZ_t e
      have g := gc_105 (d := d + 3) (m := m) (h := h) (T := ts T 0 0 0) (v8 := jno) (t := t) (c := c) (w := w) (A := x.1.toNat) (M' := x.2.toNat) (by omega) (by omega) (by omega) x.1.toNat x.2.toNat (by omega) (by omega) (by omega) jno
      rw [show ((x.1.toNat : Nat) : Int) = x.1 by omega, show ((x.2.toNat : Nat) : Int) = x.2 by omega] at g
      rw [if_pos rfl, if_pos rfl]
      rw [E7070_69]
      simp (disch := omega) only [jc_ref, rI_int, rR_ref, rR_null, rJ_long, ckR_ref, ckR_null, ckr_ref, ckr_null, ckW_int, ckW_ref, ckW_null, cI_ok, cR_ok, cR_null, cV_ok, cJ_ok, qH_eq, qD_in, aG_ref, aS_ref, aL_ref, pF_ref, cK_ref, cK_null, zI_lit, zJ_lit, zI_add, zI_sub, zI_mul, zI_neg, zI_eq, zI_lt, zI_le, Int.reduceLT, Int.reduceLE, Int.reduceAdd, Int.reduceSub, Int.reduceMul, Int.reduceNeg, Int.reduceEq, Int.reduceNe, reduceIte, tw_0, tw_1, tw_2, tw_3, tw_4, tw_5, tw_6, tw_7, tw_8, tw_9, tw_10, tw_11, tw_12, tw_13, tw_14, tw_15, tw_16, tw_17, tw_18, tw_19, tw_20, tw_21, tw_22, tw_23, tw_24, tw_25, tw_26, tw_27, tw_28, tw_29, tw_30, tw_31, ob_0, ob_1, ob_2, ob_3, ob_4, ob_5, ob_6, ob_7, ob_8, ob_9, ob_10, ob_11, ob_12, ob_13, ob_14, ob_15, ob_16, ob_17, ob_18, ob_19, ob_20, ob_21, ob_22, ob_23, ob_24, ob_25, ob_26, ob_27, ob_28, ob_29, ob_30, ob_31, ob_32, ob_33, ob_34, ob_35, ob_36, ob_37, ob_38, ob_39, ob_40, ob_41, ob_42, ob_43, ob_44, ob_45, ob_46, ob_47, ob_48, ob_49, ob_50, ob_51, ob_52, ob_53, ob_54, ob_55, ob_56, ob_57, ob_58, ob_59, ob_60, ob_61, ob_62, ob_63, ob_64, ob_65, jf7, aGi, aGb, aGz, aGj, leT, leF, ltT, ltF, eqT, eqF, z, ii, e, beq_tt, beq_tf, beq_ft, beq_ff, Bool.true_and, Bool.false_and, Bool.and_true, Bool.and_false, Bool.true_or, Bool.false_or, Bool.or_true, Bool.or_false, Bool.true_eq_false, Bool.false_eq_true, Bool.not_true, Bool.not_false, bZ_t, bZ_f, zI_b0, zI_b1, zI_bb, okZ_0, okZ_1, t0, g]
/-- draws -/
def drN (s : Int) : Int := s * 1103515245 + 12345
def drU (x : Int32) : Int := ((x.toUInt32.toNat / 256 : Nat) : Int)
def drV (s n : Int) : Int := drU (zI (drN s)) % n
theorem drU_rg {x : Int32} : 0 ≤ drU x ∧ drU x < 16777216 := by
  have := x.toUInt32.toNat_lt
  unfold drU
  omega
theorem drU_eq {x : Int32} : (x.toUInt32 >>> ((zI 8).toUInt32 &&& Int32.toUInt32 (zI 31))).toInt32 = zI (drU x) := by
  have e8 : (zI 8).toUInt32 &&& Int32.toUInt32 (zI 31) = 8 := by decide
  rw [e8]
  have r := drU_rg (x := x)
  refine Int32.toInt_inj.mp ?_
  rw [zI_toInt (by omega) (by omega)]
  have n : (x.toUInt32 >>> 8).toNat = x.toUInt32.toNat / 256 := by
    rw [UInt32.toNat_shiftRight]
    show x.toUInt32.toNat >>> 8 = _
    rw [Nat.shiftRight_eq_div_pow]
  have b : (x.toUInt32 >>> 8).toInt32.toInt = ((x.toUInt32 >>> 8).toNat : Int) := by
    show (x.toUInt32 >>> 8).toBitVec.toInt = _
    rw [BitVec.toInt_eq_toNat_of_lt (by show 2 * (x.toUInt32 >>> 8).toNat < _; rw [n]; have := x.toUInt32.toNat_lt; omega)]
    rfl
  rw [b, n]
  rfl
theorem drV_rg {s n : Int} (h : 0 < n) : 0 ≤ drV s n ∧ drV s n < n := ⟨Int.emod_nonneg _ (by omega), Int.emod_lt_of_pos _ h⟩
theorem tm_draw {n : Int} (n0 : 0 < n) (n1 : n ≤ 6) : M (d + 1) 7021 [.ref m, .int (zI n)] (tw m T h) = some (.inl (some (.int (zI (drV (T 0 51) n)))), tw m (ts T 0 51 (drN (T 0 51))) h) := by
  have r := drU_rg (x := zI (drN (T 0 51)))
  have u := drU_eq (x := zI (drN (T 0 51)))
  have dv := zI_div (a := drU (zI (drN (T 0 51)))) (b := n) (by omega) (by omega) (by omega) (by omega)
  have em : drV (T 0 51) n = drU (zI (drN (T 0 51))) - drU (zI (drN (T 0 51))) / n * n := by
    unfold drV
    have := Int.emod_add_mul_ediv (drU (zI (drN (T 0 51)))) n
    rw [Int.mul_comm n] at this
    omega
  rw [X7021 _ (tw_recv rfl), E7021_0, em]
  unfold drN at u dv ⊢
  simp (disch := omega) only [jc_ref, rI_int, rR_ref, rR_null, rJ_long, ckR_ref, ckR_null, ckr_ref, ckr_null, ckW_int, ckW_ref, ckW_null, cI_ok, cR_ok, cR_null, cV_ok, cJ_ok, qH_eq, qD_in, aG_ref, aS_ref, aL_ref, pF_ref, cK_ref, cK_null, zI_lit, zJ_lit, zI_add, zI_sub, zI_mul, zI_neg, zI_eq, zI_lt, zI_le, Int.reduceLT, Int.reduceLE, Int.reduceAdd, Int.reduceSub, Int.reduceMul, Int.reduceNeg, Int.reduceEq, Int.reduceNe, reduceIte, tw_0, tw_1, tw_2, tw_3, tw_4, tw_5, tw_6, tw_7, tw_8, tw_9, tw_10, tw_11, tw_12, tw_13, tw_14, tw_15, tw_16, tw_17, tw_18, tw_19, tw_20, tw_21, tw_22, tw_23, tw_24, tw_25, tw_26, tw_27, tw_28, tw_29, tw_30, tw_31, ob_0, ob_1, ob_2, ob_3, ob_4, ob_5, ob_6, ob_7, ob_8, ob_9, ob_10, ob_11, ob_12, ob_13, ob_14, ob_15, ob_16, ob_17, ob_18, ob_19, ob_20, ob_21, ob_22, ob_23, ob_24, ob_25, ob_26, ob_27, ob_28, ob_29, ob_30, ob_31, ob_32, ob_33, ob_34, ob_35, ob_36, ob_37, ob_38, ob_39, ob_40, ob_41, ob_42, ob_43, ob_44, ob_45, ob_46, ob_47, ob_48, ob_49, ob_50, ob_51, ob_52, ob_53, ob_54, ob_55, ob_56, ob_57, ob_58, ob_59, ob_60, ob_61, ob_62, ob_63, ob_64, ob_65, jf7, aGi, aGb, aGz, aGj, leT, leF, ltT, ltF, eqT, eqF, tws_0, tws_1, tws_2, tws_3, tws_4, tws_5, tws_6, tws_7, tws_8, tws_9, tws_10, tws_11, tws_12, tws_13, tws_14, tws_15, tws_16, tws_17, tws_18, tws_19, tws_20, tws_21, tws_22, tws_23, tws_24, tws_25, tws_26, tws_27, tws_28, tws_29, tws_30, tws_31, obs_0, obs_2, obs_3, obs_4, obs_5, obs_12, obs_13, obs_14, obs_15, obs_16, obs_17, obs_18, obs_19, obs_20, obs_21, obs_22, obs_26, obs_31, obs_32, obs_33, obs_34, obs_35, obs_41, obs_42, obs_44, obs_48, obs_50, obs_51, obs_52, obs_55, obs_57, obs_58, obs_59, obs_60, obs_61, pF7i, pF7z, pF7j, aSi, aSj, aSb1, aSb24, aSb28, aSb31, ts, tg_eq, tg_ne, tg_tg, fset_eq, fset_ne, u, dv]
end
