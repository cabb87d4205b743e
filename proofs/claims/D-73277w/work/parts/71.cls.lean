/-! how far off a row is that goes -/
section
variable (S A : Int → Int)
def closQ (Go : Int → Int) (n r f : Int) : Bool := decide (S (58 + f) = S (249 + r)) && (decide (S (88 + f) = 1) && (decide (0 ≤ A (6 * r + f)) && isInZ (Go (A (6 * r + f))) 0 (n - 1)))
def cloR (n : Int) : Nat → Int → (Int → Int) × Bool → (Int → Int) × Bool
  | 0, _, x => x
  | j + 1, r, x => cloR n j (r + 1) (if S (150 + r) = 0 ∨ 0 ≤ x.1 r then x else if anyF (closQ S A x.1 n r) (S 2).toNat 0 = true then (fset x.1 r n, true) else x)
def closF : Nat → Int → (Int → Int) → Int → Int
  | 0, _, Go => Go
  | k + 1, n, Go => if (cloR S A n 99 0 (Go, false)).2 = true then closF k (n + 1) (cloR S A n 99 0 (Go, false)).1 else (cloR S A n 99 0 (Go, false)).1
end
/-- how many rows don't go -/
def cn (Go : Int → Int) : Nat → Int → Nat
  | 0, _ => 0
  | j + 1, r => (if Go r < 0 then 1 else 0) + cn Go j (r + 1)
theorem cn_out {Go : Int → Int} {i n : Int} : ∀ (j : Nat) (r : Int), (i < r ∨ r + j ≤ i) → cn (fset Go i n) j r = cn Go j r := by
  intro j
  induction j with
  | zero => intro r _; rfl
  | succ j ih =>
    intro r h
    simp only [cn]
    rw [ih (r + 1) (by omega), fset_ne (by omega)]
theorem cn_in {Go : Int → Int} {i n : Int} (hn : 0 ≤ n) (hg : Go i < 0) : ∀ (j : Nat) (r : Int), r ≤ i → i < r + j → cn (fset Go i n) j r + 1 = cn Go j r := by
  intro j
  induction j with
  | zero => intro r _ _; omega
  | succ j ih =>
    intro r h0 h1
    simp only [cn]
    by_cases e : r = i
    · subst e
      rw [cn_out j (r + 1) (by omega), fset_eq, if_neg (by omega), if_pos hg]
      omega
    · have := ih (r + 1) (by omega) (by omega)
      rw [fset_ne e]
      omega
theorem cn_le {Go : Int → Int} : ∀ (j : Nat) (r : Int), cn Go j r ≤ j := by
  intro j
  induction j with
  | zero => intro r; exact Nat.le_refl _
  | succ j ih =>
    intro r
    have := ih (r + 1)
    simp only [cn]
    split <;> omega
theorem cloR_cn {S A : Int → Int} {n : Int} (hn : 0 ≤ n) : ∀ (j : Nat) (r : Int) (x : (Int → Int) × Bool), 0 ≤ r → r + j = 99 → cn (cloR S A n j r x).1 99 0 + (if (cloR S A n j r x).2 = true then 1 else 0) ≤ cn x.1 99 0 + (if x.2 = true then 1 else 0) := by
  intro j
  induction j with
  | zero => intro r x _ _; exact Nat.le_refl _
  | succ j ih =>
    intro r x r0 hr
    have i := ih (r + 1) (if S (150 + r) = 0 ∨ 0 ≤ x.1 r then x else if anyF (closQ S A x.1 n r) (S 2).toNat 0 = true then (fset x.1 r n, true) else x) (by omega) (by omega)
    simp only [cloR]
    refine Nat.le_trans i ?_
    by_cases e1 : S (150 + r) = 0 ∨ 0 ≤ x.1 r
    · rw [if_pos e1]; exact Nat.le_refl _
    · rw [if_neg e1]
      by_cases e2 : anyF (closQ S A x.1 n r) (S 2).toNat 0 = true
      · rw [if_pos e2]
        have := cn_in (Go := x.1) (i := r) (n := n) hn (by omega) 99 0 r0 (by omega)
        show cn (fset x.1 r n) 99 0 + (if true = true then 1 else 0) ≤ _
        rw [if_pos rfl]
        omega
      · rw [if_neg e2]; exact Nat.le_refl _
theorem cloR_G {S A : Int → Int} {n : Int} (hn : 0 ≤ n) (hn2 : n ≤ 100) : ∀ (j : Nat) (r : Int) (x : (Int → Int) × Bool), GoW x.1 → GoW (cloR S A n j r x).1 := by
  intro j
  induction j with
  | zero => intro r x h; exact h
  | succ j ih =>
    intro r x h
    refine ih (r + 1) _ ?_
    split
    · exact h
    · split
      · intro i i0 i1
        show -1 ≤ fset x.1 r n i ∧ fset x.1 r n i ≤ 200
        rw [fset_at]
        split
        · omega
        · exact h i i0 i1
      · exact h
section
variable {d m : Nat} {T : Nat → Int → Int} {h : AH}
theorem anyF_or {F : Int → Bool} {b : Bool} {j : Nat} {k : Int} : (b || anyF F (j + 1) k) = (b || F k || anyF F j (k + 1)) := by simp only [anyF, Bool.or_assoc]
theorem cl_49 {i1 : Int32} {n r : Int} (W : StW (T 2)) (hA : AhW (T 12)) (hG : GoW (T 13)) (n0 : 1 ≤ n) (n1 : n ≤ 100) (r0 : 0 ≤ r) (r1 : r < 99) : ∀ (j : Nat) (f : Int) (b : Bool) (v6 : Value), 0 ≤ f → f + j = T 2 2 →
    ∃ v6', G (d + 1) 7013 49 [.ref m, .int i1, .int (zI n), .int (zI r), .int (zI (bZ b)), .int (zI f), v6] [] (tw m T h) = G (d + 1) 7013 49 [.ref m, .int i1, .int (zI n), .int (zI r), .int (zI (bZ (b || anyF (closQ (T 2) (T 12) (T 13) n r) j f))), .int (zI (T 2 2)), v6'] [] (tw m T h) := by
  have nn := W.n0
  have ta := W.ta r0 r1
  intro j
  induction j with
  | zero =>
    intro f b v6 f0 hf
    obtain rfl : f = T 2 2 := by omega
    exact ⟨v6, by simp only [anyF, Bool.or_false]⟩
  | succ j ih =>
    intro f b v6 f0 hf
    have rf := W.ref f0 (show f < T 2 2 by omega)
    have ky := W.key2 f0 (show f < T 2 2 by omega)
    rw [anyF_or]
    have hstep : ∃ v6', G (d + 1) 7013 49 [.ref m, .int i1, .int (zI n), .int (zI r), .int (zI (bZ b)), .int (zI f), v6] [] (tw m T h) = G (d + 1) 7013 49 [.ref m, .int i1, .int (zI n), .int (zI r), .int (zI (bZ (b || closQ (T 2) (T 12) (T 13) n r f))), .int (zI (f + 1)), v6'] [] (tw m T h) := by
      have hgo : G (d + 1) 7013 49 [.ref m, .int i1, .int (zI n), .int (zI r), .int (zI (bZ b)), .int (zI f), v6] [] (tw m T h) = G (d + 1) 7013 113 [.ref m, .int i1, .int (zI n), .int (zI r), .int (zI (bZ b)), .int (zI f), v6] [.int (zI (if T 2 (58 + f) = T 2 (249 + r) ∧ T 2 (88 + f) = 1 then T 12 (6 * r + f) else -1))] (tw m T h) := by
        by_cases e1 : T 2 (58 + f) = T 2 (249 + r)
        · by_cases e2 : T 2 (88 + f) = 1
          · rw [if_pos ⟨e1, e2⟩]
            conv => lhs; rw [E7013_49]
            simp (disch := omega) only [jc_ref, rI_int, rR_ref, rR_null, rJ_long, ckR_ref, ckR_null, ckr_ref, ckr_null, ckW_int, ckW_ref, ckW_null, cI_ok, cR_ok, cR_null, cV_ok, cJ_ok, qH_eq, qD_in, aG_ref, aS_ref, aL_ref, pF_ref, cK_ref, cK_null, zI_lit, zJ_lit, zI_add, zI_sub, zI_mul, zI_neg, zI_eq, zI_lt, zI_le, Int.reduceLT, Int.reduceLE, Int.reduceAdd, Int.reduceSub, Int.reduceMul, Int.reduceNeg, Int.reduceEq, Int.reduceNe, reduceIte, tw_0, tw_1, tw_2, tw_3, tw_4, tw_5, tw_6, tw_7, tw_8, tw_9, tw_10, tw_11, tw_12, tw_13, tw_14, tw_15, tw_16, tw_17, tw_18, tw_19, tw_20, tw_21, tw_22, tw_23, tw_24, tw_25, tw_26, tw_27, tw_28, tw_29, tw_30, tw_31, ob_0, ob_1, ob_2, ob_3, ob_4, ob_5, ob_6, ob_7, ob_8, ob_9, ob_10, ob_11, ob_12, ob_13, ob_14, ob_15, ob_16, ob_17, ob_18, ob_19, ob_20, ob_21, ob_22, ob_23, ob_24, ob_25, ob_26, ob_27, ob_28, ob_29, ob_30, ob_31, ob_32, ob_33, ob_34, ob_35, ob_36, ob_37, ob_38, ob_39, ob_40, ob_41, ob_42, ob_43, ob_44, ob_45, ob_46, ob_47, ob_48, ob_49, ob_50, ob_51, ob_52, ob_53, ob_54, ob_55, ob_56, ob_57, ob_58, ob_59, ob_60, ob_61, ob_62, ob_63, ob_64, ob_65, jf7, aGi, aGb, aGz, aGj, leT, leF, ltT, ltF, eqT, eqF, e1, e2]
          · rw [if_neg (by simp [e2])]
            conv => lhs; rw [E7013_49]
            simp (disch := omega) only [jc_ref, rI_int, rR_ref, rR_null, rJ_long, ckR_ref, ckR_null, ckr_ref, ckr_null, ckW_int, ckW_ref, ckW_null, cI_ok, cR_ok, cR_null, cV_ok, cJ_ok, qH_eq, qD_in, aG_ref, aS_ref, aL_ref, pF_ref, cK_ref, cK_null, zI_lit, zJ_lit, zI_add, zI_sub, zI_mul, zI_neg, zI_eq, zI_lt, zI_le, Int.reduceLT, Int.reduceLE, Int.reduceAdd, Int.reduceSub, Int.reduceMul, Int.reduceNeg, Int.reduceEq, Int.reduceNe, reduceIte, tw_0, tw_1, tw_2, tw_3, tw_4, tw_5, tw_6, tw_7, tw_8, tw_9, tw_10, tw_11, tw_12, tw_13, tw_14, tw_15, tw_16, tw_17, tw_18, tw_19, tw_20, tw_21, tw_22, tw_23, tw_24, tw_25, tw_26, tw_27, tw_28, tw_29, tw_30, tw_31, ob_0, ob_1, ob_2, ob_3, ob_4, ob_5, ob_6, ob_7, ob_8, ob_9, ob_10, ob_11, ob_12, ob_13, ob_14, ob_15, ob_16, ob_17, ob_18, ob_19, ob_20, ob_21, ob_22, ob_23, ob_24, ob_25, ob_26, ob_27, ob_28, ob_29, ob_30, ob_31, ob_32, ob_33, ob_34, ob_35, ob_36, ob_37, ob_38, ob_39, ob_40, ob_41, ob_42, ob_43, ob_44, ob_45, ob_46, ob_47, ob_48, ob_49, ob_50, ob_51, ob_52, ob_53, ob_54, ob_55, ob_56, ob_57, ob_58, ob_59, ob_60, ob_61, ob_62, ob_63, ob_64, ob_65, jf7, aGi, aGb, aGz, aGj, leT, leF, ltT, ltF, eqT, eqF, e1, e2]
        · rw [if_neg (by simp [e1])]
          conv => lhs; rw [E7013_49]
          simp (disch := omega) only [jc_ref, rI_int, rR_ref, rR_null, rJ_long, ckR_ref, ckR_null, ckr_ref, ckr_null, ckW_int, ckW_ref, ckW_null, cI_ok, cR_ok, cR_null, cV_ok, cJ_ok, qH_eq, qD_in, aG_ref, aS_ref, aL_ref, pF_ref, cK_ref, cK_null, zI_lit, zJ_lit, zI_add, zI_sub, zI_mul, zI_neg, zI_eq, zI_lt, zI_le, Int.reduceLT, Int.reduceLE, Int.reduceAdd, Int.reduceSub, Int.reduceMul, Int.reduceNeg, Int.reduceEq, Int.reduceNe, reduceIte, tw_0, tw_1, tw_2, tw_3, tw_4, tw_5, tw_6, tw_7, tw_8, tw_9, tw_10, tw_11, tw_12, tw_13, tw_14, tw_15, tw_16, tw_17, tw_18, tw_19, tw_20, tw_21, tw_22, tw_23, tw_24, tw_25, tw_26, tw_27, tw_28, tw_29, tw_30, tw_31, ob_0, ob_1, ob_2, ob_3, ob_4, ob_5, ob_6, ob_7, ob_8, ob_9, ob_10, ob_11, ob_12, ob_13, ob_14, ob_15, ob_16, ob_17, ob_18, ob_19, ob_20, ob_21, ob_22, ob_23, ob_24, ob_25, ob_26, ob_27, ob_28, ob_29, ob_30, ob_31, ob_32, ob_33, ob_34, ob_35, ob_36, ob_37, ob_38, ob_39, ob_40, ob_41, ob_42, ob_43, ob_44, ob_45, ob_46, ob_47, ob_48, ob_49, ob_50, ob_51, ob_52, ob_53, ob_54, ob_55, ob_56, ob_57, ob_58, ob_59, ob_60, ob_61, ob_62, ob_63, ob_64, ob_65, jf7, aGi, aGb, aGz, aGj, leT, leF, ltT, ltF, eqT, eqF, e1]
      have hq : -1 ≤ (if T 2 (58 + f) = T 2 (249 + r) ∧ T 2 (88 + f) = 1 then T 12 (6 * r + f) else -1) ∧ (if T 2 (58 + f) = T 2 (249 + r) ∧ T 2 (88 + f) = 1 then T 12 (6 * r + f) else -1) < 99 := by
        split
        · exact hA _ (by omega) (by omega)
        · omega
      have hc : closQ (T 2) (T 12) (T 13) n r f = (decide (0 ≤ (if T 2 (58 + f) = T 2 (249 + r) ∧ T 2 (88 + f) = 1 then T 12 (6 * r + f) else -1)) && isInZ (T 13 (if T 2 (58 + f) = T 2 (249 + r) ∧ T 2 (88 + f) = 1 then T 12 (6 * r + f) else -1)) 0 (n - 1)) := by
        unfold closQ
        by_cases e1 : T 2 (58 + f) = T 2 (249 + r)
        · by_cases e2 : T 2 (88 + f) = 1
          · simp [e1, e2]
          · simp [e1, e2]
        · simp [e1]
      rw [hc, hgo]
      generalize (if T 2 (58 + f) = T 2 (249 + r) ∧ T 2 (88 + f) = 1 then T 12 (6 * r + f) else -1) = q at hq ⊢
      refine ⟨.int (zI q), ?_⟩
      conv => lhs; rw [E7013_113]
      cases b with
      | true => simp (disch := omega) only [jc_ref, rI_int, rR_ref, rR_null, rJ_long, ckR_ref, ckR_null, ckr_ref, ckr_null, ckW_int, ckW_ref, ckW_null, cI_ok, cR_ok, cR_null, cV_ok, cJ_ok, qH_eq, qD_in, aG_ref, aS_ref, aL_ref, pF_ref, cK_ref, cK_null, zI_lit, zJ_lit, zI_add, zI_sub, zI_mul, zI_neg, zI_eq, zI_lt, zI_le, Int.reduceLT, Int.reduceLE, Int.reduceAdd, Int.reduceSub, Int.reduceMul, Int.reduceNeg, Int.reduceEq, Int.reduceNe, reduceIte, tw_0, tw_1, tw_2, tw_3, tw_4, tw_5, tw_6, tw_7, tw_8, tw_9, tw_10, tw_11, tw_12, tw_13, tw_14, tw_15, tw_16, tw_17, tw_18, tw_19, tw_20, tw_21, tw_22, tw_23, tw_24, tw_25, tw_26, tw_27, tw_28, tw_29, tw_30, tw_31, ob_0, ob_1, ob_2, ob_3, ob_4, ob_5, ob_6, ob_7, ob_8, ob_9, ob_10, ob_11, ob_12, ob_13, ob_14, ob_15, ob_16, ob_17, ob_18, ob_19, ob_20, ob_21, ob_22, ob_23, ob_24, ob_25, ob_26, ob_27, ob_28, ob_29, ob_30, ob_31, ob_32, ob_33, ob_34, ob_35, ob_36, ob_37, ob_38, ob_39, ob_40, ob_41, ob_42, ob_43, ob_44, ob_45, ob_46, ob_47, ob_48, ob_49, ob_50, ob_51, ob_52, ob_53, ob_54, ob_55, ob_56, ob_57, ob_58, ob_59, ob_60, ob_61, ob_62, ob_63, ob_64, ob_65, jf7, aGi, aGb, aGz, aGj, leT, leF, ltT, ltF, eqT, eqF, beq_tt, beq_tf, beq_ft, beq_ff, Bool.true_and, Bool.false_and, Bool.and_true, Bool.and_false, Bool.true_or, Bool.false_or, Bool.or_true, Bool.or_false, Bool.true_eq_false, Bool.false_eq_true, Bool.not_true, Bool.not_false, bZ_t, bZ_f, zI_b0, zI_b1, zI_bb, okZ_0, okZ_1]
      | false =>
        by_cases e1 : q < 0
        · rw [decide_eq_false (show ¬ 0 ≤ q by omega)]
          simp (disch := omega) only [jc_ref, rI_int, rR_ref, rR_null, rJ_long, ckR_ref, ckR_null, ckr_ref, ckr_null, ckW_int, ckW_ref, ckW_null, cI_ok, cR_ok, cR_null, cV_ok, cJ_ok, qH_eq, qD_in, aG_ref, aS_ref, aL_ref, pF_ref, cK_ref, cK_null, zI_lit, zJ_lit, zI_add, zI_sub, zI_mul, zI_neg, zI_eq, zI_lt, zI_le, Int.reduceLT, Int.reduceLE, Int.reduceAdd, Int.reduceSub, Int.reduceMul, Int.reduceNeg, Int.reduceEq, Int.reduceNe, reduceIte, tw_0, tw_1, tw_2, tw_3, tw_4, tw_5, tw_6, tw_7, tw_8, tw_9, tw_10, tw_11, tw_12, tw_13, tw_14, tw_15, tw_16, tw_17, tw_18, tw_19, tw_20, tw_21, tw_22, tw_23, tw_24, tw_25, tw_26, tw_27, tw_28, tw_29, tw_30, tw_31, ob_0, ob_1, ob_2, ob_3, ob_4, ob_5, ob_6, ob_7, ob_8, ob_9, ob_10, ob_11, ob_12, ob_13, ob_14, ob_15, ob_16, ob_17, ob_18, ob_19, ob_20, ob_21, ob_22, ob_23, ob_24, ob_25, ob_26, ob_27, ob_28, ob_29, ob_30, ob_31, ob_32, ob_33, ob_34, ob_35, ob_36, ob_37, ob_38, ob_39, ob_40, ob_41, ob_42, ob_43, ob_44, ob_45, ob_46, ob_47, ob_48, ob_49, ob_50, ob_51, ob_52, ob_53, ob_54, ob_55, ob_56, ob_57, ob_58, ob_59, ob_60, ob_61, ob_62, ob_63, ob_64, ob_65, jf7, aGi, aGb, aGz, aGj, leT, leF, ltT, ltF, eqT, eqF, beq_tt, beq_tf, beq_ft, beq_ff, Bool.true_and, Bool.false_and, Bool.and_true, Bool.and_false, Bool.true_or, Bool.false_or, Bool.or_true, Bool.or_false, Bool.true_eq_false, Bool.false_eq_true, Bool.not_true, Bool.not_false, bZ_t, bZ_f, zI_b0, zI_b1, zI_bb, okZ_0, okZ_1, e1]
        · have g := hG q (by omega) (by omega)
          have hi := tm_isIn (d := d) (h := tw m T h) (v := T 13 q) (low := 0) (high := n - 1) ⟨by omega, by omega⟩ ⟨by omega, by omega⟩ ⟨by omega, by omega⟩
          rw [decide_eq_true (show 0 ≤ q by omega)]
          cases e2 : isInZ (T 13 q) 0 (n - 1) with
          | true => simp (disch := omega) only [jc_ref, rI_int, rR_ref, rR_null, rJ_long, ckR_ref, ckR_null, ckr_ref, ckr_null, ckW_int, ckW_ref, ckW_null, cI_ok, cR_ok, cR_null, cV_ok, cJ_ok, qH_eq, qD_in, aG_ref, aS_ref, aL_ref, pF_ref, cK_ref, cK_null, zI_lit, zJ_lit, zI_add, zI_sub, zI_mul, zI_neg, zI_eq, zI_lt, zI_le, Int.reduceLT, Int.reduceLE, Int.reduceAdd, Int.reduceSub, Int.reduceMul, Int.reduceNeg, Int.reduceEq, Int.reduceNe, reduceIte, tw_0, tw_1, tw_2, tw_3, tw_4, tw_5, tw_6, tw_7, tw_8, tw_9, tw_10, tw_11, tw_12, tw_13, tw_14, tw_15, tw_16, tw_17, tw_18, tw_19, tw_20, tw_21, tw_22, tw_23, tw_24, tw_25, tw_26, tw_27, tw_28, tw_29, tw_30, tw_31, ob_0, ob_1, ob_2, ob_3, ob_4, ob_5, ob_6, ob_7, ob_8, ob_9, ob_10, ob_11, ob_12, ob_13, ob_14, ob_15, ob_16, ob_17, ob_18, ob_19, ob_20, ob_21, ob_22, ob_23, ob_24, ob_25, ob_26, ob_27, ob_28, ob_29, ob_30, ob_31, ob_32, ob_33, ob_34, ob_35, ob_36, ob_37, ob_38, ob_39, ob_40, ob_41, ob_42, ob_43, ob_44, ob_45, ob_46, ob_47, ob_48, ob_49, ob_50, ob_51, ob_52, ob_53, ob_54, ob_55, ob_56, ob_57, ob_58, ob_59, ob_60, ob_61, ob_62, ob_63, ob_64, ob_65, jf7, aGi, aGb, aGz, aGj, leT, leF, ltT, ltF, eqT, eqF, beq_tt, beq_tf, beq_ft, beq_ff, Bool.true_and, Bool.false_and, Bool.and_true, Bool.and_false, Bool.true_or, Bool.false_or, Bool.or_true, Bool.or_false, Bool.true_eq_false, Bool.false_eq_true, Bool.not_true, Bool.not_false, bZ_t, bZ_f, zI_b0, zI_b1, zI_bb, okZ_0, okZ_1, e1, hi, e2]
          | false => simp (disch := omega) only [jc_ref, rI_int, rR_ref, rR_null, rJ_long, ckR_ref, ckR_null, ckr_ref, ckr_null, ckW_int, ckW_ref, ckW_null, cI_ok, cR_ok, cR_null, cV_ok, cJ_ok, qH_eq, qD_in, aG_ref, aS_ref, aL_ref, pF_ref, cK_ref, cK_null, zI_lit, zJ_lit, zI_add, zI_sub, zI_mul, zI_neg, zI_eq, zI_lt, zI_le, Int.reduceLT, Int.reduceLE, Int.reduceAdd, Int.reduceSub, Int.reduceMul, Int.reduceNeg, Int.reduceEq, Int.reduceNe, reduceIte, tw_0, tw_1, tw_2, tw_3, tw_4, tw_5, tw_6, tw_7, tw_8, tw_9, tw_10, tw_11, tw_12, tw_13, tw_14, tw_15, tw_16, tw_17, tw_18, tw_19, tw_20, tw_21, tw_22, tw_23, tw_24, tw_25, tw_26, tw_27, tw_28, tw_29, tw_30, tw_31, ob_0, ob_1, ob_2, ob_3, ob_4, ob_5, ob_6, ob_7, ob_8, ob_9, ob_10, ob_11, ob_12, ob_13, ob_14, ob_15, ob_16, ob_17, ob_18, ob_19, ob_20, ob_21, ob_22, ob_23, ob_24, ob_25, ob_26, ob_27, ob_28, ob_29, ob_30, ob_31, ob_32, ob_33, ob_34, ob_35, ob_36, ob_37, ob_38, ob_39, ob_40, ob_41, ob_42, ob_43, ob_44, ob_45, ob_46, ob_47, ob_48, ob_49, ob_50, ob_51, ob_52, ob_53, ob_54, ob_55, ob_56, ob_57, ob_58, ob_59, ob_60, ob_61, ob_62, ob_63, ob_64, ob_65, jf7, aGi, aGb, aGz, aGj, leT, leF, ltT, ltF, eqT, eqF, beq_tt, beq_tf, beq_ft, beq_ff, Bool.true_and, Bool.false_and, Bool.and_true, Bool.and_false, Bool.true_or, Bool.false_or, Bool.or_true, Bool.or_false, Bool.true_eq_false, Bool.false_eq_true, Bool.not_true, Bool.not_false, bZ_t, bZ_f, zI_b0, zI_b1, zI_bb, okZ_0, okZ_1, e1, hi, e2]
    obtain ⟨u6, hs⟩ := hstep
    obtain ⟨v6', ih'⟩ := ih (f + 1) (b || closQ (T 2) (T 12) (T 13) n r f) u6 (by omega) (by omega)
    exact ⟨v6', hs.trans ih'⟩
theorem cl_12 {n : Int} (W : StW (T 2)) (hA : AhW (T 12)) (n0 : 1 ≤ n) (n1 : n ≤ 100) : ∀ (j : Nat) (r : Int) (x : (Int → Int) × Bool) (v4 v5 v6 : Value), GoW x.1 → 0 ≤ r → r + j = 99 →
    ∃ v4' v5' v6', G (d + 1) 7013 12 [.ref m, .int (zI (bZ x.2)), .int (zI n), .int (zI r), v4, v5, v6] [] (tw m (tg T 13 x.1) h) = G (d + 1) 7013 4 [.ref m, .int (zI (bZ (cloR (T 2) (T 12) n j r x).2)), .int (zI (n + 1)), .int (zI 99), v4', v5', v6'] [] (tw m (tg T 13 (cloR (T 2) (T 12) n j r x).1) h) := by
  intro j
  induction j with
  | zero =>
    intro r x v4 v5 v6 hG r0 hr
    obtain rfl : r = 99 := by omega
    refine ⟨v4, v5, v6, ?_⟩
    conv => lhs; rw [E7013_12]
    simp (disch := omega) only [jc_ref, rI_int, rR_ref, rR_null, rJ_long, ckR_ref, ckR_null, ckr_ref, ckr_null, ckW_int, ckW_ref, ckW_null, cI_ok, cR_ok, cR_null, cV_ok, cJ_ok, qH_eq, qD_in, aG_ref, aS_ref, aL_ref, pF_ref, cK_ref, cK_null, zI_lit, zJ_lit, zI_add, zI_sub, zI_mul, zI_neg, zI_eq, zI_lt, zI_le, Int.reduceLT, Int.reduceLE, Int.reduceAdd, Int.reduceSub, Int.reduceMul, Int.reduceNeg, Int.reduceEq, Int.reduceNe, reduceIte, tw_0, tw_1, tw_2, tw_3, tw_4, tw_5, tw_6, tw_7, tw_8, tw_9, tw_10, tw_11, tw_12, tw_13, tw_14, tw_15, tw_16, tw_17, tw_18, tw_19, tw_20, tw_21, tw_22, tw_23, tw_24, tw_25, tw_26, tw_27, tw_28, tw_29, tw_30, tw_31, ob_0, ob_1, ob_2, ob_3, ob_4, ob_5, ob_6, ob_7, ob_8, ob_9, ob_10, ob_11, ob_12, ob_13, ob_14, ob_15, ob_16, ob_17, ob_18, ob_19, ob_20, ob_21, ob_22, ob_23, ob_24, ob_25, ob_26, ob_27, ob_28, ob_29, ob_30, ob_31, ob_32, ob_33, ob_34, ob_35, ob_36, ob_37, ob_38, ob_39, ob_40, ob_41, ob_42, ob_43, ob_44, ob_45, ob_46, ob_47, ob_48, ob_49, ob_50, ob_51, ob_52, ob_53, ob_54, ob_55, ob_56, ob_57, ob_58, ob_59, ob_60, ob_61, ob_62, ob_63, ob_64, ob_65, jf7, aGi, aGb, aGz, aGj, leT, leF, ltT, ltF, eqT, eqF, cloR]
  | succ j ih =>
    intro r x v4 v5 v6 hG r0 hr
    have nn := W.n0
    have al := W.al r0 (show r < 99 by omega)
    have g := hG r r0 (by omega)
    have e2 : (tg T 13 x.1) 2 = T 2 := tg_ne (by decide)
    have e12 : (tg T 13 x.1) 12 = T 12 := tg_ne (by decide)
    have e13 : (tg T 13 x.1) 13 = x.1 := tg_eq
    simp only [cloR]
    by_cases c1 : T 2 (150 + r) = 0
    · rw [if_pos (Or.inl c1)]
      obtain ⟨a, b, c, i⟩ := ih (r + 1) x v4 v5 v6 hG (by omega) (by omega)
      refine ⟨a, b, c, ?_⟩
      rw [← i]
      conv => lhs; rw [E7013_12]
      simp (disch := omega) only [jc_ref, rI_int, rR_ref, rR_null, rJ_long, ckR_ref, ckR_null, ckr_ref, ckr_null, ckW_int, ckW_ref, ckW_null, cI_ok, cR_ok, cR_null, cV_ok, cJ_ok, qH_eq, qD_in, aG_ref, aS_ref, aL_ref, pF_ref, cK_ref, cK_null, zI_lit, zJ_lit, zI_add, zI_sub, zI_mul, zI_neg, zI_eq, zI_lt, zI_le, Int.reduceLT, Int.reduceLE, Int.reduceAdd, Int.reduceSub, Int.reduceMul, Int.reduceNeg, Int.reduceEq, Int.reduceNe, reduceIte, tw_0, tw_1, tw_2, tw_3, tw_4, tw_5, tw_6, tw_7, tw_8, tw_9, tw_10, tw_11, tw_12, tw_13, tw_14, tw_15, tw_16, tw_17, tw_18, tw_19, tw_20, tw_21, tw_22, tw_23, tw_24, tw_25, tw_26, tw_27, tw_28, tw_29, tw_30, tw_31, ob_0, ob_1, ob_2, ob_3, ob_4, ob_5, ob_6, ob_7, ob_8, ob_9, ob_10, ob_11, ob_12, ob_13, ob_14, ob_15, ob_16, ob_17, ob_18, ob_19, ob_20, ob_21, ob_22, ob_23, ob_24, ob_25, ob_26, ob_27, ob_28, ob_29, ob_30, ob_31, ob_32, ob_33, ob_34, ob_35, ob_36, ob_37, ob_38, ob_39, ob_40, ob_41, ob_42, ob_43, ob_44, ob_45, ob_46, ob_47, ob_48, ob_49, ob_50, ob_51, ob_52, ob_53, ob_54, ob_55, ob_56, ob_57, ob_58, ob_59, ob_60, ob_61, ob_62, ob_63, ob_64, ob_65, jf7, aGi, aGb, aGz, aGj, leT, leF, ltT, ltF, eqT, eqF, e2, c1]
    · by_cases c2 : 0 ≤ x.1 r
      · rw [if_pos (Or.inr c2)]
        obtain ⟨a, b, c, i⟩ := ih (r + 1) x v4 v5 v6 hG (by omega) (by omega)
        refine ⟨a, b, c, ?_⟩
        rw [← i]
        conv => lhs; rw [E7013_12]
        simp (disch := omega) only [jc_ref, rI_int, rR_ref, rR_null, rJ_long, ckR_ref, ckR_null, ckr_ref, ckr_null, ckW_int, ckW_ref, ckW_null, cI_ok, cR_ok, cR_null, cV_ok, cJ_ok, qH_eq, qD_in, aG_ref, aS_ref, aL_ref, pF_ref, cK_ref, cK_null, zI_lit, zJ_lit, zI_add, zI_sub, zI_mul, zI_neg, zI_eq, zI_lt, zI_le, Int.reduceLT, Int.reduceLE, Int.reduceAdd, Int.reduceSub, Int.reduceMul, Int.reduceNeg, Int.reduceEq, Int.reduceNe, reduceIte, tw_0, tw_1, tw_2, tw_3, tw_4, tw_5, tw_6, tw_7, tw_8, tw_9, tw_10, tw_11, tw_12, tw_13, tw_14, tw_15, tw_16, tw_17, tw_18, tw_19, tw_20, tw_21, tw_22, tw_23, tw_24, tw_25, tw_26, tw_27, tw_28, tw_29, tw_30, tw_31, ob_0, ob_1, ob_2, ob_3, ob_4, ob_5, ob_6, ob_7, ob_8, ob_9, ob_10, ob_11, ob_12, ob_13, ob_14, ob_15, ob_16, ob_17, ob_18, ob_19, ob_20, ob_21, ob_22, ob_23, ob_24, ob_25, ob_26, ob_27, ob_28, ob_29, ob_30, ob_31, ob_32, ob_33, ob_34, ob_35, ob_36, ob_37, ob_38, ob_39, ob_40, ob_41, ob_42, ob_43, ob_44, ob_45, ob_46, ob_47, ob_48, ob_49, ob_50, ob_51, ob_52, ob_53, ob_54, ob_55, ob_56, ob_57, ob_58, ob_59, ob_60, ob_61, ob_62, ob_63, ob_64, ob_65, jf7, aGi, aGb, aGz, aGj, leT, leF, ltT, ltF, eqT, eqF, e2, e13, c1, c2]
      · rw [if_neg (by omega)]
        obtain ⟨u6, lp⟩ := cl_49 (d := d) (m := m) (h := h) (T := tg T 13 x.1) (i1 := zI (bZ x.2)) (n := n) (r := r) (by rw [e2]; exact W) (by rw [e12]; exact hA) (by rw [e13]; exact hG) n0 n1 r0 (by omega) (T 2 2).toNat 0 false v6 (by omega) (by rw [e2]; omega)
        rw [e2, e12, e13, Bool.false_or] at lp
        have hgo : G (d + 1) 7013 12 [.ref m, .int (zI (bZ x.2)), .int (zI n), .int (zI r), v4, v5, v6] [] (tw m (tg T 13 x.1) h) = G (d + 1) 7013 49 [.ref m, .int (zI (bZ x.2)), .int (zI n), .int (zI r), .int (zI (bZ (anyF (closQ (T 2) (T 12) x.1 n r) (T 2 2).toNat 0))), .int (zI (T 2 2)), u6] [] (tw m (tg T 13 x.1) h) := by
          rw [← lp]
          conv => lhs; rw [E7013_12]
          simp (disch := omega) only [jc_ref, rI_int, rR_ref, rR_null, rJ_long, ckR_ref, ckR_null, ckr_ref, ckr_null, ckW_int, ckW_ref, ckW_null, cI_ok, cR_ok, cR_null, cV_ok, cJ_ok, qH_eq, qD_in, aG_ref, aS_ref, aL_ref, pF_ref, cK_ref, cK_null, zI_lit, zJ_lit, zI_add, zI_sub, zI_mul, zI_neg, zI_eq, zI_lt, zI_le, Int.reduceLT, Int.reduceLE, Int.reduceAdd, Int.reduceSub, Int.reduceMul, Int.reduceNeg, Int.reduceEq, Int.reduceNe, reduceIte, tw_0, tw_1, tw_2, tw_3, tw_4, tw_5, tw_6, tw_7, tw_8, tw_9, tw_10, tw_11, tw_12, tw_13, tw_14, tw_15, tw_16, tw_17, tw_18, tw_19, tw_20, tw_21, tw_22, tw_23, tw_24, tw_25, tw_26, tw_27, tw_28, tw_29, tw_30, tw_31, ob_0, ob_1, ob_2, ob_3, ob_4, ob_5, ob_6, ob_7, ob_8, ob_9, ob_10, ob_11, ob_12, ob_13, ob_14, ob_15, ob_16, ob_17, ob_18, ob_19, ob_20, ob_21, ob_22, ob_23, ob_24, ob_25, ob_26, ob_27, ob_28, ob_29, ob_30, ob_31, ob_32, ob_33, ob_34, ob_35, ob_36, ob_37, ob_38, ob_39, ob_40, ob_41, ob_42, ob_43, ob_44, ob_45, ob_46, ob_47, ob_48, ob_49, ob_50, ob_51, ob_52, ob_53, ob_54, ob_55, ob_56, ob_57, ob_58, ob_59, ob_60, ob_61, ob_62, ob_63, ob_64, ob_65, jf7, aGi, aGb, aGz, aGj, leT, leF, ltT, ltF, eqT, eqF, beq_tt, beq_tf, beq_ft, beq_ff, Bool.true_and, Bool.false_and, Bool.and_true, Bool.and_false, Bool.true_or, Bool.false_or, Bool.or_true, Bool.or_false, Bool.true_eq_false, Bool.false_eq_true, Bool.not_true, Bool.not_false, bZ_t, bZ_f, zI_b0, zI_b1, zI_bb, okZ_0, okZ_1, e2, e13, c1, c2]
        rw [hgo]
        by_cases c3 : anyF (closQ (T 2) (T 12) x.1 n r) (T 2 2).toNat 0 = true
        · rw [if_pos c3]
          have hG2 : GoW (fset x.1 r n) := fun i i0 i1 => by
            rw [fset_at]
            split
            · omega
            · exact hG i i0 i1
          obtain ⟨a, b, c, i⟩ := ih (r + 1) (fset x.1 r n, true) (.int (zI 1)) (.int (zI (T 2 2))) u6 hG2 (by omega) (by omega)
          refine ⟨a, b, c, ?_⟩
          rw [← i]
          conv => lhs; rw [E7013_49]
          simp (disch := omega) only [jc_ref, rI_int, rR_ref, rR_null, rJ_long, ckR_ref, ckR_null, ckr_ref, ckr_null, ckW_int, ckW_ref, ckW_null, cI_ok, cR_ok, cR_null, cV_ok, cJ_ok, qH_eq, qD_in, aG_ref, aS_ref, aL_ref, pF_ref, cK_ref, cK_null, zI_lit, zJ_lit, zI_add, zI_sub, zI_mul, zI_neg, zI_eq, zI_lt, zI_le, Int.reduceLT, Int.reduceLE, Int.reduceAdd, Int.reduceSub, Int.reduceMul, Int.reduceNeg, Int.reduceEq, Int.reduceNe, reduceIte, tw_0, tw_1, tw_2, tw_3, tw_4, tw_5, tw_6, tw_7, tw_8, tw_9, tw_10, tw_11, tw_12, tw_13, tw_14, tw_15, tw_16, tw_17, tw_18, tw_19, tw_20, tw_21, tw_22, tw_23, tw_24, tw_25, tw_26, tw_27, tw_28, tw_29, tw_30, tw_31, ob_0, ob_1, ob_2, ob_3, ob_4, ob_5, ob_6, ob_7, ob_8, ob_9, ob_10, ob_11, ob_12, ob_13, ob_14, ob_15, ob_16, ob_17, ob_18, ob_19, ob_20, ob_21, ob_22, ob_23, ob_24, ob_25, ob_26, ob_27, ob_28, ob_29, ob_30, ob_31, ob_32, ob_33, ob_34, ob_35, ob_36, ob_37, ob_38, ob_39, ob_40, ob_41, ob_42, ob_43, ob_44, ob_45, ob_46, ob_47, ob_48, ob_49, ob_50, ob_51, ob_52, ob_53, ob_54, ob_55, ob_56, ob_57, ob_58, ob_59, ob_60, ob_61, ob_62, ob_63, ob_64, ob_65, jf7, aGi, aGb, aGz, aGj, leT, leF, ltT, ltF, eqT, eqF, tws_0, tws_1, tws_2, tws_3, tws_4, tws_5, tws_6, tws_7, tws_8, tws_9, tws_10, tws_11, tws_12, tws_13, tws_14, tws_15, tws_16, tws_17, tws_18, tws_19, tws_20, tws_21, tws_22, tws_23, tws_24, tws_25, tws_26, tws_27, tws_28, tws_29, tws_30, tws_31, obs_0, obs_2, obs_3, obs_4, obs_5, obs_12, obs_13, obs_14, obs_15, obs_16, obs_17, obs_18, obs_19, obs_20, obs_21, obs_22, obs_26, obs_31, obs_32, obs_33, obs_34, obs_35, obs_41, obs_42, obs_44, obs_48, obs_50, obs_51, obs_52, obs_55, obs_57, obs_58, obs_59, obs_60, obs_61, pF7i, pF7z, pF7j, aSi, aSj, aSb1, aSb24, aSb28, aSb31, ts, tg_eq, tg_ne, tg_tg, fset_eq, fset_ne, beq_tt, beq_tf, beq_ft, beq_ff, Bool.true_and, Bool.false_and, Bool.and_true, Bool.and_false, Bool.true_or, Bool.false_or, Bool.or_true, Bool.or_false, Bool.true_eq_false, Bool.false_eq_true, Bool.not_true, Bool.not_false, bZ_t, bZ_f, zI_b0, zI_b1, zI_bb, okZ_0, okZ_1, e2, e13, c3]
        · rw [if_neg c3]
          obtain ⟨a, b, c, i⟩ := ih (r + 1) x (.int (zI 0)) (.int (zI (T 2 2))) u6 hG (by omega) (by omega)
          refine ⟨a, b, c, ?_⟩
          have c3 := Bool.eq_false_iff.mpr c3
          rw [← i]
          conv => lhs; rw [E7013_49]
          simp (disch := omega) only [jc_ref, rI_int, rR_ref, rR_null, rJ_long, ckR_ref, ckR_null, ckr_ref, ckr_null, ckW_int, ckW_ref, ckW_null, cI_ok, cR_ok, cR_null, cV_ok, cJ_ok, qH_eq, qD_in, aG_ref, aS_ref, aL_ref, pF_ref, cK_ref, cK_null, zI_lit, zJ_lit, zI_add, zI_sub, zI_mul, zI_neg, zI_eq, zI_lt, zI_le, Int.reduceLT, Int.reduceLE, Int.reduceAdd, Int.reduceSub, Int.reduceMul, Int.reduceNeg, Int.reduceEq, Int.reduceNe, reduceIte, tw_0, tw_1, tw_2, tw_3, tw_4, tw_5, tw_6, tw_7, tw_8, tw_9, tw_10, tw_11, tw_12, tw_13, tw_14, tw_15, tw_16, tw_17, tw_18, tw_19, tw_20, tw_21, tw_22, tw_23, tw_24, tw_25, tw_26, tw_27, tw_28, tw_29, tw_30, tw_31, ob_0, ob_1, ob_2, ob_3, ob_4, ob_5, ob_6, ob_7, ob_8, ob_9, ob_10, ob_11, ob_12, ob_13, ob_14, ob_15, ob_16, ob_17, ob_18, ob_19, ob_20, ob_21, ob_22, ob_23, ob_24, ob_25, ob_26, ob_27, ob_28, ob_29, ob_30, ob_31, ob_32, ob_33, ob_34, ob_35, ob_36, ob_37, ob_38, ob_39, ob_40, ob_41, ob_42, ob_43, ob_44, ob_45, ob_46, ob_47, ob_48, ob_49, ob_50, ob_51, ob_52, ob_53, ob_54, ob_55, ob_56, ob_57, ob_58, ob_59, ob_60, ob_61, ob_62, ob_63, ob_64, ob_65, jf7, aGi, aGb, aGz, aGj, leT, leF, ltT, ltF, eqT, eqF, tws_0, tws_1, tws_2, tws_3, tws_4, tws_5, tws_6, tws_7, tws_8, tws_9, tws_10, tws_11, tws_12, tws_13, tws_14, tws_15, tws_16, tws_17, tws_18, tws_19, tws_20, tws_21, tws_22, tws_23, tws_24, tws_25, tws_26, tws_27, tws_28, tws_29, tws_30, tws_31, obs_0, obs_2, obs_3, obs_4, obs_5, obs_12, obs_13, obs_14, obs_15, obs_16, obs_17, obs_18, obs_19, obs_20, obs_21, obs_22, obs_26, obs_31, obs_32, obs_33, obs_34, obs_35, obs_41, obs_42, obs_44, obs_48, obs_50, obs_51, obs_52, obs_55, obs_57, obs_58, obs_59, obs_60, obs_61, pF7i, pF7z, pF7j, aSi, aSj, aSb1, aSb24, aSb28, aSb31, ts, tg_eq, tg_ne, tg_tg, fset_eq, fset_ne, beq_tt, beq_tf, beq_ft, beq_ff, Bool.true_and, Bool.false_and, Bool.and_true, Bool.and_false, Bool.true_or, Bool.false_or, Bool.or_true, Bool.or_false, Bool.true_eq_false, Bool.false_eq_true, Bool.not_true, Bool.not_false, bZ_t, bZ_f, zI_b0, zI_b1, zI_bb, okZ_0, okZ_1, e2, e13, c3]
theorem cl_4 (W : StW (T 2)) (hA : AhW (T 12)) : ∀ (k : Nat) (n : Int) (Go : Int → Int) (v3 v4 v5 v6 : Value), GoW Go → 1 ≤ n → n + cn Go 99 0 ≤ 100 → cn Go 99 0 < k →
    G (d + 1) 7013 4 [.ref m, .int (zI 1), .int (zI n), v3, v4, v5, v6] [] (tw m (tg T 13 Go) h) = some (.inl none, tw m (tg T 13 (closF (T 2) (T 12) k n Go)) h) := by
  intro k
  induction k with
  | zero => intro n Go v3 v4 v5 v6 hG n0 n1 hk; omega
  | succ k ih =>
    intro n Go v3 v4 v5 v6 hG n0 n1 hk
    obtain ⟨a, b, c, l⟩ := cl_12 (d := d) (m := m) (h := h) (n := n) W hA n0 (by omega) 99 0 (Go, false) v4 v5 v6 hG (by omega) (by omega)
    have hc := cloR_cn (S := T 2) (A := T 12) (n := n) (by omega) 99 0 (Go, false) (by omega) (by omega)
    have hG2 := cloR_G (S := T 2) (A := T 12) (n := n) (by omega) (by omega) 99 0 (Go, false) hG
    simp only [closF]
    generalize cloR (T 2) (T 12) n 99 0 (Go, false) = y at l hc hG2 ⊢
    conv => lhs; rw [E7013_4]
    simp only [Bool.false_eq_true, if_false, Nat.add_zero] at hc
    simp (disch := omega) only [jc_ref, rI_int, rR_ref, rR_null, rJ_long, ckR_ref, ckR_null, ckr_ref, ckr_null, ckW_int, ckW_ref, ckW_null, cI_ok, cR_ok, cR_null, cV_ok, cJ_ok, qH_eq, qD_in, aG_ref, aS_ref, aL_ref, pF_ref, cK_ref, cK_null, zI_lit, zJ_lit, zI_add, zI_sub, zI_mul, zI_neg, zI_eq, zI_lt, zI_le, Int.reduceLT, Int.reduceLE, Int.reduceAdd, Int.reduceSub, Int.reduceMul, Int.reduceNeg, Int.reduceEq, Int.reduceNe, reduceIte, tw_0, tw_1, tw_2, tw_3, tw_4, tw_5, tw_6, tw_7, tw_8, tw_9, tw_10, tw_11, tw_12, tw_13, tw_14, tw_15, tw_16, tw_17, tw_18, tw_19, tw_20, tw_21, tw_22, tw_23, tw_24, tw_25, tw_26, tw_27, tw_28, tw_29, tw_30, tw_31, ob_0, ob_1, ob_2, ob_3, ob_4, ob_5, ob_6, ob_7, ob_8, ob_9, ob_10, ob_11, ob_12, ob_13, ob_14, ob_15, ob_16, ob_17, ob_18, ob_19, ob_20, ob_21, ob_22, ob_23, ob_24, ob_25, ob_26, ob_27, ob_28, ob_29, ob_30, ob_31, ob_32, ob_33, ob_34, ob_35, ob_36, ob_37, ob_38, ob_39, ob_40, ob_41, ob_42, ob_43, ob_44, ob_45, ob_46, ob_47, ob_48, ob_49, ob_50, ob_51, ob_52, ob_53, ob_54, ob_55, ob_56, ob_57, ob_58, ob_59, ob_60, ob_61, ob_62, ob_63, ob_64, ob_65, jf7, aGi, aGb, aGz, aGj, leT, leF, ltT, ltF, eqT, eqF, bZ_f] at l ⊢
    rw [l]
    by_cases e : y.2 = true
    · rw [if_pos e] at hc ⊢
      rw [e, bZ_t]
      exact ih (n + 1) y.1 _ _ _ _ hG2 (by omega) (by omega) (by omega)
    · rw [if_neg e] at hc ⊢
      rw [Bool.eq_false_iff.mpr e, bZ_f, E7013_4]
      simp (disch := omega) only [jc_ref, rI_int, rR_ref, rR_null, rJ_long, ckR_ref, ckR_null, ckr_ref, ckr_null, ckW_int, ckW_ref, ckW_null, cI_ok, cR_ok, cR_null, cV_ok, cJ_ok, qH_eq, qD_in, aG_ref, aS_ref, aL_ref, pF_ref, cK_ref, cK_null, zI_lit, zJ_lit, zI_add, zI_sub, zI_mul, zI_neg, zI_eq, zI_lt, zI_le, Int.reduceLT, Int.reduceLE, Int.reduceAdd, Int.reduceSub, Int.reduceMul, Int.reduceNeg, Int.reduceEq, Int.reduceNe, reduceIte, tw_0, tw_1, tw_2, tw_3, tw_4, tw_5, tw_6, tw_7, tw_8, tw_9, tw_10, tw_11, tw_12, tw_13, tw_14, tw_15, tw_16, tw_17, tw_18, tw_19, tw_20, tw_21, tw_22, tw_23, tw_24, tw_25, tw_26, tw_27, tw_28, tw_29, tw_30, tw_31, ob_0, ob_1, ob_2, ob_3, ob_4, ob_5, ob_6, ob_7, ob_8, ob_9, ob_10, ob_11, ob_12, ob_13, ob_14, ob_15, ob_16, ob_17, ob_18, ob_19, ob_20, ob_21, ob_22, ob_23, ob_24, ob_25, ob_26, ob_27, ob_28, ob_29, ob_30, ob_31, ob_32, ob_33, ob_34, ob_35, ob_36, ob_37, ob_38, ob_39, ob_40, ob_41, ob_42, ob_43, ob_44, ob_45, ob_46, ob_47, ob_48, ob_49, ob_50, ob_51, ob_52, ob_53, ob_54, ob_55, ob_56, ob_57, ob_58, ob_59, ob_60, ob_61, ob_62, ob_63, ob_64, ob_65, jf7, aGi, aGb, aGz, aGj, leT, leF, ltT, ltF, eqT, eqF]
theorem tm_closes (W : StW (T 2)) (hA : AhW (T 12)) (hG : GoW (T 13)) : M (d + 2) 7013 [.ref m] (tw m T h) = some (.inl none, tw m (tg T 13 (closF (T 2) (T 12) 100 1 (T 13))) h) := by
  have c := cn_le (Go := T 13) 99 0
  have l := cl_4 (d := d) (m := m) (h := h) W hA 100 1 (T 13) jno jno jno jno hG (by omega) (by omega) (by omega)
  rw [tg_self] at l
  rw [X7013 _ (tw_recv rfl), E7013_0, ← l]
  simp (disch := omega) only [jc_ref, rI_int, rR_ref, rR_null, rJ_long, ckR_ref, ckR_null, ckr_ref, ckr_null, ckW_int, ckW_ref, ckW_null, cI_ok, cR_ok, cR_null, cV_ok, cJ_ok, qH_eq, qD_in, aG_ref, aS_ref, aL_ref, pF_ref, cK_ref, cK_null, zI_lit, zJ_lit, zI_add, zI_sub, zI_mul, zI_neg, zI_eq, zI_lt, zI_le, Int.reduceLT, Int.reduceLE, Int.reduceAdd, Int.reduceSub, Int.reduceMul, Int.reduceNeg, Int.reduceEq, Int.reduceNe, reduceIte, tw_0, tw_1, tw_2, tw_3, tw_4, tw_5, tw_6, tw_7, tw_8, tw_9, tw_10, tw_11, tw_12, tw_13, tw_14, tw_15, tw_16, tw_17, tw_18, tw_19, tw_20, tw_21, tw_22, tw_23, tw_24, tw_25, tw_26, tw_27, tw_28, tw_29, tw_30, tw_31, ob_0, ob_1, ob_2, ob_3, ob_4, ob_5, ob_6, ob_7, ob_8, ob_9, ob_10, ob_11, ob_12, ob_13, ob_14, ob_15, ob_16, ob_17, ob_18, ob_19, ob_20, ob_21, ob_22, ob_23, ob_24, ob_25, ob_26, ob_27, ob_28, ob_29, ob_30, ob_31, ob_32, ob_33, ob_34, ob_35, ob_36, ob_37, ob_38, ob_39, ob_40, ob_41, ob_42, ob_43, ob_44, ob_45, ob_46, ob_47, ob_48, ob_49, ob_50, ob_51, ob_52, ob_53, ob_54, ob_55, ob_56, ob_57, ob_58, ob_59, ob_60, ob_61, ob_62, ob_63, ob_64, ob_65, jf7, aGi, aGb, aGz, aGj, leT, leF, ltT, ltF, eqT, eqF]
end
