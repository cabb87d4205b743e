/-! all is done at once -/
section
variable (w : WS) (Go : Int → Int)
abbrev SB : Type := (Int → Int) × Bool
def doC (r : Int) : Nat → Int → SB → SB
  | 0, _, x => x
  | j + 1, c, x => doC r j (c + 1) (if isOth x.1 w r c = true then (fset x.1 (348 + 4 * r + c) (w.1 (4 * r + c)), true) else x)
def doR : Nat → Int → LQ → LQ
  | 0, _, x => x
  | j + 1, r, x => doR j (r + 1) (if x.1 (150 + r) = 0 then x else if 0 ≤ Go r then (fset x.1 (150 + r) 0, x.2) else ((doC w r (x.1 (4 + x.1 (249 + r))).toNat 0 (x.1, false)).1, x.2 + bZ (doC w r (x.1 (4 + x.1 (249 + r))).toNat 0 (x.1, false)).2))
end
/-- the wants as they lie in the twin -/
abbrev wsT (T : Nat → Int → Int) : WS := (T 11, T 0 34, T 0 35)
section
variable {d m : Nat} {T : Nat → Int → Int} {h : AH} {w : WS}
theorem doC_W {r : Int} (hw : WsW w) (r0 : 0 ≤ r) (r1 : r < 99) : ∀ (j : Nat) (c : Int) (x : SB), StW x.1 → 0 ≤ c → c + j ≤ x.1 (4 + x.1 (249 + r)) → StW (doC w r j c x).1 ∧ (∀ i, i < 348 ∨ 744 ≤ i → (doC w r j c x).1 i = x.1 i) := by
  intro j
  induction j with
  | zero => intro c x W _ _; exact ⟨W, fun _ _ => rfl⟩
  | succ j ih =>
    intro c x W c0 hc
    have ta := W.ta r0 r1
    have co := W.co ta.1 ta.2
    simp only [doC]
    by_cases e : isOth x.1 w r c = true
    · rw [if_pos e]
      have hv := isOth_v hw r0 r1 c0 (by omega) e
      have f1 : fset x.1 (348 + 4 * r + c) (w.1 (4 * r + c)) (4 + fset x.1 (348 + 4 * r + c) (w.1 (4 * r + c)) (249 + r)) = x.1 (4 + x.1 (249 + r)) := by
        rw [fset_ne (show 249 + r ≠ 348 + 4 * r + c by omega), fset_ne (by omega)]
      obtain ⟨a, b⟩ := ih (c + 1) (fset x.1 (348 + 4 * r + c) (w.1 (4 * r + c)), true) (W.put r0 r1 c0 (by omega) hv.1 hv.2) (by omega) (by show c + 1 + (j : Int) ≤ fset x.1 (348 + 4 * r + c) (w.1 (4 * r + c)) (4 + fset x.1 (348 + 4 * r + c) (w.1 (4 * r + c)) (249 + r)); rw [f1]; omega)
      exact ⟨a, fun i hi => (b i hi).trans (fset_ne (by omega))⟩
    · rw [if_neg e]
      exact ih (c + 1) x W (by omega) (by omega)
theorem oth_at {S : Int → Int} {q c : Int} (W : StW S) (hw : WsW (wsT T)) (r0 : 0 ≤ q) (r1 : q < 99) (c0 : 0 ≤ c) (c1 : c < 4) : M (d + 2) 7048 [.ref m, .int (zI q), .int (zI c)] (tw m (tg T 2 S) h) = some (.inl (some (.int (zI (bZ (isOth S (wsT T) q c))))), tw m (tg T 2 S) h) := by
  have t := tm_isOther (d := d) (m := m) (h := h) (T := tg T 2 S) (w := wsT T) (by rw [tg_eq]; exact W) hw r0 r1 c0 c1
  have e : putW (tg T 2 S) (wsT T) = tg T 2 S := by
    have := putW_self (tg T 2 S)
    rw [tg_ne (show (11 : Nat) ≠ 2 by decide), tg_ne (show (0 : Nat) ≠ 2 by decide)] at this
    exact this
  rw [e, tg_eq] at t
  exact t
theorem da_54 {i1 r : Int} (hw : WsW (wsT T)) (r0 : 0 ≤ r) (r1 : r < 99) (i10 : 0 ≤ i1) (i11 : i1 ≤ 99) : ∀ (j : Nat) (c : Int) (x : SB), StW x.1 → 0 ≤ c → c + j = x.1 (4 + x.1 (249 + r)) →
    ∃ v3 v4, G (d + 2) 7020 54 [.ref m, .int (zI i1), .int (zI r), .int (zI (bZ x.2)), .int (zI c)] [] (tw m (tg T 2 x.1) h) = G (d + 2) 7020 4 [.ref m, .int (zI (i1 + bZ (doC (wsT T) r j c x).2)), .int (zI (r + 1)), v3, v4] [] (tw m (tg T 2 (doC (wsT T) r j c x).1) h) := by
  intro j
  induction j with
  | zero =>
    intro c x W c0 hc
    have ta := W.ta r0 r1
    have co := W.co ta.1 ta.2
    refine ⟨.int (zI (bZ x.2)), .int (zI c), ?_⟩
    simp only [doC]
    conv => lhs; rw [E7020_54]
    cases e : x.2 with
    | true => simp (disch := omega) only [jc_ref, rI_int, rR_ref, rR_null, rJ_long, ckR_ref, ckR_null, ckr_ref, ckr_null, ckW_int, ckW_ref, ckW_null, cI_ok, cR_ok, cR_null, cV_ok, cJ_ok, qH_eq, qD_in, aG_ref, aS_ref, aL_ref, pF_ref, cK_ref, cK_null, zI_lit, zJ_lit, zI_add, zI_sub, zI_mul, zI_neg, zI_eq, zI_lt, zI_le, Int.reduceLT, Int.reduceLE, Int.reduceAdd, Int.reduceSub, Int.reduceMul, Int.reduceNeg, Int.reduceEq, Int.reduceNe, reduceIte, tw_0, tw_1, tw_2, tw_3, tw_4, tw_5, tw_6, tw_7, tw_8, tw_9, tw_10, tw_11, tw_12, tw_13, tw_14, tw_15, tw_16, tw_17, tw_18, tw_19, tw_20, tw_21, tw_22, tw_23, tw_24, tw_25, tw_26, tw_27, tw_28, tw_29, tw_30, tw_31, ob_0, ob_1, ob_2, ob_3, ob_4, ob_5, ob_6, ob_7, ob_8, ob_9, ob_10, ob_11, ob_12, ob_13, ob_14, ob_15, ob_16, ob_17, ob_18, ob_19, ob_20, ob_21, ob_22, ob_23, ob_24, ob_25, ob_26, ob_27, ob_28, ob_29, ob_30, ob_31, ob_32, ob_33, ob_34, ob_35, ob_36, ob_37, ob_38, ob_39, ob_40, ob_41, ob_42, ob_43, ob_44, ob_45, ob_46, ob_47, ob_48, ob_49, ob_50, ob_51, ob_52, ob_53, ob_54, ob_55, ob_56, ob_57, ob_58, ob_59, ob_60, ob_61, ob_62, ob_63, ob_64, ob_65, jf7, aGi, aGb, aGz, aGj, leT, leF, ltT, ltF, eqT, eqF, beq_tt, beq_tf, beq_ft, beq_ff, Bool.true_and, Bool.false_and, Bool.and_true, Bool.and_false, Bool.true_or, Bool.false_or, Bool.or_true, Bool.or_false, Bool.true_eq_false, Bool.false_eq_true, Bool.not_true, Bool.not_false, bZ_t, bZ_f, zI_b0, zI_b1, zI_bb, okZ_0, okZ_1, tg_eq, tg_ne]
    | false => simp (disch := omega) only [jc_ref, rI_int, rR_ref, rR_null, rJ_long, ckR_ref, ckR_null, ckr_ref, ckr_null, ckW_int, ckW_ref, ckW_null, cI_ok, cR_ok, cR_null, cV_ok, cJ_ok, qH_eq, qD_in, aG_ref, aS_ref, aL_ref, pF_ref, cK_ref, cK_null, zI_lit, zJ_lit, zI_add, zI_sub, zI_mul, zI_neg, zI_eq, zI_lt, zI_le, Int.reduceLT, Int.reduceLE, Int.reduceAdd, Int.reduceSub, Int.reduceMul, Int.reduceNeg, Int.reduceEq, Int.reduceNe, reduceIte, tw_0, tw_1, tw_2, tw_3, tw_4, tw_5, tw_6, tw_7, tw_8, tw_9, tw_10, tw_11, tw_12, tw_13, tw_14, tw_15, tw_16, tw_17, tw_18, tw_19, tw_20, tw_21, tw_22, tw_23, tw_24, tw_25, tw_26, tw_27, tw_28, tw_29, tw_30, tw_31, ob_0, ob_1, ob_2, ob_3, ob_4, ob_5, ob_6, ob_7, ob_8, ob_9, ob_10, ob_11, ob_12, ob_13, ob_14, ob_15, ob_16, ob_17, ob_18, ob_19, ob_20, ob_21, ob_22, ob_23, ob_24, ob_25, ob_26, ob_27, ob_28, ob_29, ob_30, ob_31, ob_32, ob_33, ob_34, ob_35, ob_36, ob_37, ob_38, ob_39, ob_40, ob_41, ob_42, ob_43, ob_44, ob_45, ob_46, ob_47, ob_48, ob_49, ob_50, ob_51, ob_52, ob_53, ob_54, ob_55, ob_56, ob_57, ob_58, ob_59, ob_60, ob_61, ob_62, ob_63, ob_64, ob_65, jf7, aGi, aGb, aGz, aGj, leT, leF, ltT, ltF, eqT, eqF, beq_tt, beq_tf, beq_ft, beq_ff, Bool.true_and, Bool.false_and, Bool.and_true, Bool.and_false, Bool.true_or, Bool.false_or, Bool.or_true, Bool.or_false, Bool.true_eq_false, Bool.false_eq_true, Bool.not_true, Bool.not_false, bZ_t, bZ_f, zI_b0, zI_b1, zI_bb, okZ_0, okZ_1, tg_eq, tg_ne, Int.add_zero]
  | succ j ih =>
    intro c x W c0 hc
    have ta := W.ta r0 r1
    have co := W.co ta.1 ta.2
    have o := oth_at (d := d) (m := m) (h := h) (T := T) W hw r0 r1 c0 (show c < 4 by omega)
    simp only [doC]
    by_cases e : isOth x.1 (wsT T) r c = true
    · rw [if_pos e]
      have hv := isOth_v hw r0 r1 c0 (by omega) e
      have f1 : fset x.1 (348 + 4 * r + c) ((wsT T).1 (4 * r + c)) (4 + fset x.1 (348 + 4 * r + c) ((wsT T).1 (4 * r + c)) (249 + r)) = x.1 (4 + x.1 (249 + r)) := by
        rw [fset_ne (show 249 + r ≠ 348 + 4 * r + c by omega), fset_ne (by omega)]
      obtain ⟨v3, v4, i⟩ := ih (c + 1) (fset x.1 (348 + 4 * r + c) ((wsT T).1 (4 * r + c)), true) (W.put r0 r1 c0 (by omega) hv.1 hv.2) (by omega) (by show c + 1 + (j : Int) = fset x.1 (348 + 4 * r + c) ((wsT T).1 (4 * r + c)) (4 + fset x.1 (348 + 4 * r + c) ((wsT T).1 (4 * r + c)) (249 + r)); rw [f1]; omega)
      refine ⟨v3, v4, ?_⟩
      rw [← i]
      conv => lhs; rw [E7020_54]
      simp (disch := omega) only [jc_ref, rI_int, rR_ref, rR_null, rJ_long, ckR_ref, ckR_null, ckr_ref, ckr_null, ckW_int, ckW_ref, ckW_null, cI_ok, cR_ok, cR_null, cV_ok, cJ_ok, qH_eq, qD_in, aG_ref, aS_ref, aL_ref, pF_ref, cK_ref, cK_null, zI_lit, zJ_lit, zI_add, zI_sub, zI_mul, zI_neg, zI_eq, zI_lt, zI_le, Int.reduceLT, Int.reduceLE, Int.reduceAdd, Int.reduceSub, Int.reduceMul, Int.reduceNeg, Int.reduceEq, Int.reduceNe, reduceIte, tw_0, tw_1, tw_2, tw_3, tw_4, tw_5, tw_6, tw_7, tw_8, tw_9, tw_10, tw_11, tw_12, tw_13, tw_14, tw_15, tw_16, tw_17, tw_18, tw_19, tw_20, tw_21, tw_22, tw_23, tw_24, tw_25, tw_26, tw_27, tw_28, tw_29, tw_30, tw_31, ob_0, ob_1, ob_2, ob_3, ob_4, ob_5, ob_6, ob_7, ob_8, ob_9, ob_10, ob_11, ob_12, ob_13, ob_14, ob_15, ob_16, ob_17, ob_18, ob_19, ob_20, ob_21, ob_22, ob_23, ob_24, ob_25, ob_26, ob_27, ob_28, ob_29, ob_30, ob_31, ob_32, ob_33, ob_34, ob_35, ob_36, ob_37, ob_38, ob_39, ob_40, ob_41, ob_42, ob_43, ob_44, ob_45, ob_46, ob_47, ob_48, ob_49, ob_50, ob_51, ob_52, ob_53, ob_54, ob_55, ob_56, ob_57, ob_58, ob_59, ob_60, ob_61, ob_62, ob_63, ob_64, ob_65, jf7, aGi, aGb, aGz, aGj, leT, leF, ltT, ltF, eqT, eqF, tws_0, tws_1, tws_2, tws_3, tws_4, tws_5, tws_6, tws_7, tws_8, tws_9, tws_10, tws_11, tws_12, tws_13, tws_14, tws_15, tws_16, tws_17, tws_18, tws_19, tws_20, tws_21, tws_22, tws_23, tws_24, tws_25, tws_26, tws_27, tws_28, tws_29, tws_30, tws_31, obs_0, obs_2, obs_3, obs_4, obs_5, obs_12, obs_13, obs_14, obs_15, obs_16, obs_17, obs_18, obs_19, obs_20, obs_21, obs_22, obs_26, obs_31, obs_32, obs_33, obs_34, obs_35, obs_41, obs_42, obs_44, obs_48, obs_50, obs_51, obs_52, obs_55, obs_57, obs_58, obs_59, obs_60, obs_61, pF7i, pF7z, pF7j, aSi, aSj, aSb1, aSb24, aSb28, aSb31, ts, tg_eq, tg_ne, tg_tg, fset_eq, fset_ne, beq_tt, beq_tf, beq_ft, beq_ff, Bool.true_and, Bool.false_and, Bool.and_true, Bool.and_false, Bool.true_or, Bool.false_or, Bool.or_true, Bool.or_false, Bool.true_eq_false, Bool.false_eq_true, Bool.not_true, Bool.not_false, bZ_t, bZ_f, zI_b0, zI_b1, zI_bb, okZ_0, okZ_1, o, e]
    · rw [if_neg e]
      obtain ⟨v3, v4, i⟩ := ih (c + 1) x W (by omega) (by omega)
      refine ⟨v3, v4, ?_⟩
      have e := Bool.eq_false_iff.mpr e
      rw [← i]
      conv => lhs; rw [E7020_54]
      simp (disch := omega) only [jc_ref, rI_int, rR_ref, rR_null, rJ_long, ckR_ref, ckR_null, ckr_ref, ckr_null, ckW_int, ckW_ref, ckW_null, cI_ok, cR_ok, cR_null, cV_ok, cJ_ok, qH_eq, qD_in, aG_ref, aS_ref, aL_ref, pF_ref, cK_ref, cK_null, zI_lit, zJ_lit, zI_add, zI_sub, zI_mul, zI_neg, zI_eq, zI_lt, zI_le, Int.reduceLT, Int.reduceLE, Int.reduceAdd, Int.reduceSub, Int.reduceMul, Int.reduceNeg, Int.reduceEq, Int.reduceNe, reduceIte, tw_0, tw_1, tw_2, tw_3, tw_4, tw_5, tw_6, tw_7, tw_8, tw_9, tw_10, tw_11, tw_12, tw_13, tw_14, tw_15, tw_16, tw_17, tw_18, tw_19, tw_20, tw_21, tw_22, tw_23, tw_24, tw_25, tw_26, tw_27, tw_28, tw_29, tw_30, tw_31, ob_0, ob_1, ob_2, ob_3, ob_4, ob_5, ob_6, ob_7, ob_8, ob_9, ob_10, ob_11, ob_12, ob_13, ob_14, ob_15, ob_16, ob_17, ob_18, ob_19, ob_20, ob_21, ob_22, ob_23, ob_24, ob_25, ob_26, ob_27, ob_28, ob_29, ob_30, ob_31, ob_32, ob_33, ob_34, ob_35, ob_36, ob_37, ob_38, ob_39, ob_40, ob_41, ob_42, ob_43, ob_44, ob_45, ob_46, ob_47, ob_48, ob_49, ob_50, ob_51, ob_52, ob_53, ob_54, ob_55, ob_56, ob_57, ob_58, ob_59, ob_60, ob_61, ob_62, ob_63, ob_64, ob_65, jf7, aGi, aGb, aGz, aGj, leT, leF, ltT, ltF, eqT, eqF, tws_0, tws_1, tws_2, tws_3, tws_4, tws_5, tws_6, tws_7, tws_8, tws_9, tws_10, tws_11, tws_12, tws_13, tws_14, tws_15, tws_16, tws_17, tws_18, tws_19, tws_20, tws_21, tws_22, tws_23, tws_24, tws_25, tws_26, tws_27, tws_28, tws_29, tws_30, tws_31, obs_0, obs_2, obs_3, obs_4, obs_5, obs_12, obs_13, obs_14, obs_15, obs_16, obs_17, obs_18, obs_19, obs_20, obs_21, obs_22, obs_26, obs_31, obs_32, obs_33, obs_34, obs_35, obs_41, obs_42, obs_44, obs_48, obs_50, obs_51, obs_52, obs_55, obs_57, obs_58, obs_59, obs_60, obs_61, pF7i, pF7z, pF7j, aSi, aSj, aSb1, aSb24, aSb28, aSb31, ts, tg_eq, tg_ne, tg_tg, fset_eq, fset_ne, beq_tt, beq_tf, beq_ft, beq_ff, Bool.true_and, Bool.false_and, Bool.and_true, Bool.and_false, Bool.true_or, Bool.false_or, Bool.or_true, Bool.or_false, Bool.true_eq_false, Bool.false_eq_true, Bool.not_true, Bool.not_false, bZ_t, bZ_f, zI_b0, zI_b1, zI_bb, okZ_0, okZ_1, o, e]
theorem bZ_rg {b : Bool} : 0 ≤ bZ b ∧ bZ b ≤ 1 := by cases b <;> decide
theorem doR_W {Go : Int → Int} (hw : WsW w) : ∀ (j : Nat) (r : Int) (x : LQ), StW x.1 → 0 ≤ r → r + j = 99 → StW (doR w Go j r x).1 ∧ (∀ i, i < 150 ∨ 249 ≤ i ∧ i < 348 ∨ 744 ≤ i → (doR w Go j r x).1 i = x.1 i) ∧ x.2 ≤ (doR w Go j r x).2 ∧ (doR w Go j r x).2 ≤ x.2 + j := by
  intro j
  induction j with
  | zero => intro r x W _ _; exact ⟨W, fun _ _ => rfl, Int.le_refl _, by simp [doR]⟩
  | succ j ih =>
    intro r x W r0 hr
    have ta := W.ta r0 (show r < 99 by omega)
    have co := W.co ta.1 ta.2
    simp only [doR]
    by_cases e1 : x.1 (150 + r) = 0
    · rw [if_pos e1]
      obtain ⟨a, b, c1, c2⟩ := ih (r + 1) x W (by omega) (by omega)
      exact ⟨a, b, c1, by omega⟩
    · rw [if_neg e1]
      by_cases e2 : 0 ≤ Go r
      · rw [if_pos e2]
        obtain ⟨a, b, c1, c2⟩ := ih (r + 1) (fset x.1 (150 + r) 0, x.2) (W.kill r0 (by omega)) (by omega) (by omega)
        exact ⟨a, fun i hi => (b i hi).trans (fset_ne (by omega)), c1, by simp only at c2; omega⟩
      · rw [if_neg e2]
        obtain ⟨p1, p2⟩ := doC_W hw r0 (show r < 99 by omega) (x.1 (4 + x.1 (249 + r))).toNat 0 (x.1, false) W (by omega) (by simp only; omega)
        have bb := bZ_rg (b := (doC w r (x.1 (4 + x.1 (249 + r))).toNat 0 (x.1, false)).2)
        obtain ⟨a, b, c1, c2⟩ := ih (r + 1) ((doC w r (x.1 (4 + x.1 (249 + r))).toNat 0 (x.1, false)).1, x.2 + bZ (doC w r (x.1 (4 + x.1 (249 + r))).toNat 0 (x.1, false)).2) p1 (by omega) (by omega)
        simp only at c1 c2
        exact ⟨a, fun i hi => (b i hi).trans (p2 i (by omega)), by omega, by omega⟩
theorem da_4 (hw : WsW (wsT T)) (hG : GoW (T 13)) : ∀ (j : Nat) (r : Int) (x : LQ) (v3 v4 : Value), StW x.1 → 0 ≤ r → r + j = 99 → 0 ≤ x.2 → x.2 ≤ r →
    G (d + 2) 7020 4 [.ref m, .int (zI x.2), .int (zI r), v3, v4] [] (tw m (tg T 2 x.1) h) = some (.inl (some (.int (zI (doR (wsT T) (T 13) j r x).2))), tw m (tg T 2 (doR (wsT T) (T 13) j r x).1) h) := by
  intro j
  induction j with
  | zero =>
    intro r x v3 v4 W r0 hr n0 n1
    obtain rfl : r = 99 := by omega
    rw [E7020_4]
    simp (disch := omega) only [jc_ref, rI_int, rR_ref, rR_null, rJ_long, ckR_ref, ckR_null, ckr_ref, ckr_null, ckW_int, ckW_ref, ckW_null, cI_ok, cR_ok, cR_null, cV_ok, cJ_ok, qH_eq, qD_in, aG_ref, aS_ref, aL_ref, pF_ref, cK_ref, cK_null, zI_lit, zJ_lit, zI_add, zI_sub, zI_mul, zI_neg, zI_eq, zI_lt, zI_le, Int.reduceLT, Int.reduceLE, Int.reduceAdd, Int.reduceSub, Int.reduceMul, Int.reduceNeg, Int.reduceEq, Int.reduceNe, reduceIte, tw_0, tw_1, tw_2, tw_3, tw_4, tw_5, tw_6, tw_7, tw_8, tw_9, tw_10, tw_11, tw_12, tw_13, tw_14, tw_15, tw_16, tw_17, tw_18, tw_19, tw_20, tw_21, tw_22, tw_23, tw_24, tw_25, tw_26, tw_27, tw_28, tw_29, tw_30, tw_31, ob_0, ob_1, ob_2, ob_3, ob_4, ob_5, ob_6, ob_7, ob_8, ob_9, ob_10, ob_11, ob_12, ob_13, ob_14, ob_15, ob_16, ob_17, ob_18, ob_19, ob_20, ob_21, ob_22, ob_23, ob_24, ob_25, ob_26, ob_27, ob_28, ob_29, ob_30, ob_31, ob_32, ob_33, ob_34, ob_35, ob_36, ob_37, ob_38, ob_39, ob_40, ob_41, ob_42, ob_43, ob_44, ob_45, ob_46, ob_47, ob_48, ob_49, ob_50, ob_51, ob_52, ob_53, ob_54, ob_55, ob_56, ob_57, ob_58, ob_59, ob_60, ob_61, ob_62, ob_63, ob_64, ob_65, jf7, aGi, aGb, aGz, aGj, leT, leF, ltT, ltF, eqT, eqF, doR]
  | succ j ih =>
    intro r x v3 v4 W r0 hr n0 n1
    have al := W.al r0 (show r < 99 by omega)
    have ta := W.ta r0 (show r < 99 by omega)
    have co := W.co ta.1 ta.2
    have g := hG r r0 (by omega)
    simp only [doR]
    by_cases e1 : x.1 (150 + r) = 0
    · rw [if_pos e1, ← ih (r + 1) x v3 v4 W (by omega) (by omega) n0 (by omega)]
      conv => lhs; rw [E7020_4]
      simp (disch := omega) only [jc_ref, rI_int, rR_ref, rR_null, rJ_long, ckR_ref, ckR_null, ckr_ref, ckr_null, ckW_int, ckW_ref, ckW_null, cI_ok, cR_ok, cR_null, cV_ok, cJ_ok, qH_eq, qD_in, aG_ref, aS_ref, aL_ref, pF_ref, cK_ref, cK_null, zI_lit, zJ_lit, zI_add, zI_sub, zI_mul, zI_neg, zI_eq, zI_lt, zI_le, Int.reduceLT, Int.reduceLE, Int.reduceAdd, Int.reduceSub, Int.reduceMul, Int.reduceNeg, Int.reduceEq, Int.reduceNe, reduceIte, tw_0, tw_1, tw_2, tw_3, tw_4, tw_5, tw_6, tw_7, tw_8, tw_9, tw_10, tw_11, tw_12, tw_13, tw_14, tw_15, tw_16, tw_17, tw_18, tw_19, tw_20, tw_21, tw_22, tw_23, tw_24, tw_25, tw_26, tw_27, tw_28, tw_29, tw_30, tw_31, ob_0, ob_1, ob_2, ob_3, ob_4, ob_5, ob_6, ob_7, ob_8, ob_9, ob_10, ob_11, ob_12, ob_13, ob_14, ob_15, ob_16, ob_17, ob_18, ob_19, ob_20, ob_21, ob_22, ob_23, ob_24, ob_25, ob_26, ob_27, ob_28, ob_29, ob_30, ob_31, ob_32, ob_33, ob_34, ob_35, ob_36, ob_37, ob_38, ob_39, ob_40, ob_41, ob_42, ob_43, ob_44, ob_45, ob_46, ob_47, ob_48, ob_49, ob_50, ob_51, ob_52, ob_53, ob_54, ob_55, ob_56, ob_57, ob_58, ob_59, ob_60, ob_61, ob_62, ob_63, ob_64, ob_65, jf7, aGi, aGb, aGz, aGj, leT, leF, ltT, ltF, eqT, eqF, tg_eq, tg_ne, e1]
    · rw [if_neg e1]
      by_cases e2 : 0 ≤ T 13 r
      · rw [if_pos e2, ← ih (r + 1) (fset x.1 (150 + r) 0, x.2) v3 v4 (W.kill r0 (by omega)) (by omega) (by omega) n0 (by simp only; omega)]
        conv => lhs; rw [E7020_4]
        simp (disch := omega) only [jc_ref, rI_int, rR_ref, rR_null, rJ_long, ckR_ref, ckR_null, ckr_ref, ckr_null, ckW_int, ckW_ref, ckW_null, cI_ok, cR_ok, cR_null, cV_ok, cJ_ok, qH_eq, qD_in, aG_ref, aS_ref, aL_ref, pF_ref, cK_ref, cK_null, zI_lit, zJ_lit, zI_add, zI_sub, zI_mul, zI_neg, zI_eq, zI_lt, zI_le, Int.reduceLT, Int.reduceLE, Int.reduceAdd, Int.reduceSub, Int.reduceMul, Int.reduceNeg, Int.reduceEq, Int.reduceNe, reduceIte, tw_0, tw_1, tw_2, tw_3, tw_4, tw_5, tw_6, tw_7, tw_8, tw_9, tw_10, tw_11, tw_12, tw_13, tw_14, tw_15, tw_16, tw_17, tw_18, tw_19, tw_20, tw_21, tw_22, tw_23, tw_24, tw_25, tw_26, tw_27, tw_28, tw_29, tw_30, tw_31, ob_0, ob_1, ob_2, ob_3, ob_4, ob_5, ob_6, ob_7, ob_8, ob_9, ob_10, ob_11, ob_12, ob_13, ob_14, ob_15, ob_16, ob_17, ob_18, ob_19, ob_20, ob_21, ob_22, ob_23, ob_24, ob_25, ob_26, ob_27, ob_28, ob_29, ob_30, ob_31, ob_32, ob_33, ob_34, ob_35, ob_36, ob_37, ob_38, ob_39, ob_40, ob_41, ob_42, ob_43, ob_44, ob_45, ob_46, ob_47, ob_48, ob_49, ob_50, ob_51, ob_52, ob_53, ob_54, ob_55, ob_56, ob_57, ob_58, ob_59, ob_60, ob_61, ob_62, ob_63, ob_64, ob_65, jf7, aGi, aGb, aGz, aGj, leT, leF, ltT, ltF, eqT, eqF, tws_0, tws_1, tws_2, tws_3, tws_4, tws_5, tws_6, tws_7, tws_8, tws_9, tws_10, tws_11, tws_12, tws_13, tws_14, tws_15, tws_16, tws_17, tws_18, tws_19, tws_20, tws_21, tws_22, tws_23, tws_24, tws_25, tws_26, tws_27, tws_28, tws_29, tws_30, tws_31, obs_0, obs_2, obs_3, obs_4, obs_5, obs_12, obs_13, obs_14, obs_15, obs_16, obs_17, obs_18, obs_19, obs_20, obs_21, obs_22, obs_26, obs_31, obs_32, obs_33, obs_34, obs_35, obs_41, obs_42, obs_44, obs_48, obs_50, obs_51, obs_52, obs_55, obs_57, obs_58, obs_59, obs_60, obs_61, pF7i, pF7z, pF7j, aSi, aSj, aSb1, aSb24, aSb28, aSb31, ts, tg_eq, tg_ne, tg_tg, fset_eq, fset_ne, e1, e2]
      · rw [if_neg e2]
        obtain ⟨p1, p2⟩ := doC_W hw r0 (show r < 99 by omega) (x.1 (4 + x.1 (249 + r))).toNat 0 (x.1, false) W (by omega) (by simp only; omega)
        obtain ⟨u3, u4, l⟩ := da_54 (d := d) (m := m) (h := h) (i1 := x.2) hw r0 (show r < 99 by omega) n0 (by omega) (x.1 (4 + x.1 (249 + r))).toNat 0 (x.1, false) W (by omega) (by simp only; omega)
        have bb := bZ_rg (b := (doC (wsT T) r (x.1 (4 + x.1 (249 + r))).toNat 0 (x.1, false)).2)
        rw [← ih (r + 1) ((doC (wsT T) r (x.1 (4 + x.1 (249 + r))).toNat 0 (x.1, false)).1, x.2 + bZ (doC (wsT T) r (x.1 (4 + x.1 (249 + r))).toNat 0 (x.1, false)).2) u3 u4 p1 (by omega) (by omega) (by simp only; omega) (by simp only; omega)]
        simp only
        rw [← l]
        conv => lhs; rw [E7020_4]
        simp (disch := omega) only [jc_ref, rI_int, rR_ref, rR_null, rJ_long, ckR_ref, ckR_null, ckr_ref, ckr_null, ckW_int, ckW_ref, ckW_null, cI_ok, cR_ok, cR_null, cV_ok, cJ_ok, qH_eq, qD_in, aG_ref, aS_ref, aL_ref, pF_ref, cK_ref, cK_null, zI_lit, zJ_lit, zI_add, zI_sub, zI_mul, zI_neg, zI_eq, zI_lt, zI_le, Int.reduceLT, Int.reduceLE, Int.reduceAdd, Int.reduceSub, Int.reduceMul, Int.reduceNeg, Int.reduceEq, Int.reduceNe, reduceIte, tw_0, tw_1, tw_2, tw_3, tw_4, tw_5, tw_6, tw_7, tw_8, tw_9, tw_10, tw_11, tw_12, tw_13, tw_14, tw_15, tw_16, tw_17, tw_18, tw_19, tw_20, tw_21, tw_22, tw_23, tw_24, tw_25, tw_26, tw_27, tw_28, tw_29, tw_30, tw_31, ob_0, ob_1, ob_2, ob_3, ob_4, ob_5, ob_6, ob_7, ob_8, ob_9, ob_10, ob_11, ob_12, ob_13, ob_14, ob_15, ob_16, ob_17, ob_18, ob_19, ob_20, ob_21, ob_22, ob_23, ob_24, ob_25, ob_26, ob_27, ob_28, ob_29, ob_30, ob_31, ob_32, ob_33, ob_34, ob_35, ob_36, ob_37, ob_38, ob_39, ob_40, ob_41, ob_42, ob_43, ob_44, ob_45, ob_46, ob_47, ob_48, ob_49, ob_50, ob_51, ob_52, ob_53, ob_54, ob_55, ob_56, ob_57, ob_58, ob_59, ob_60, ob_61, ob_62, ob_63, ob_64, ob_65, jf7, aGi, aGb, aGz, aGj, leT, leF, ltT, ltF, eqT, eqF, tws_0, tws_1, tws_2, tws_3, tws_4, tws_5, tws_6, tws_7, tws_8, tws_9, tws_10, tws_11, tws_12, tws_13, tws_14, tws_15, tws_16, tws_17, tws_18, tws_19, tws_20, tws_21, tws_22, tws_23, tws_24, tws_25, tws_26, tws_27, tws_28, tws_29, tws_30, tws_31, obs_0, obs_2, obs_3, obs_4, obs_5, obs_12, obs_13, obs_14, obs_15, obs_16, obs_17, obs_18, obs_19, obs_20, obs_21, obs_22, obs_26, obs_31, obs_32, obs_33, obs_34, obs_35, obs_41, obs_42, obs_44, obs_48, obs_50, obs_51, obs_52, obs_55, obs_57, obs_58, obs_59, obs_60, obs_61, pF7i, pF7z, pF7j, aSi, aSj, aSb1, aSb24, aSb28, aSb31, ts, tg_eq, tg_ne, tg_tg, fset_eq, fset_ne, beq_tt, beq_tf, beq_ft, beq_ff, Bool.true_and, Bool.false_and, Bool.and_true, Bool.and_false, Bool.true_or, Bool.false_or, Bool.or_true, Bool.or_false, Bool.true_eq_false, Bool.false_eq_true, Bool.not_true, Bool.not_false, bZ_t, bZ_f, zI_b0, zI_b1, zI_bb, okZ_0, okZ_1, e1, e2]
theorem tm_doesAll (W : StW (T 2)) (hw : WsW (wsT T)) (hG : GoW (T 13)) : M (d + 3) 7020 [.ref m] (tw m T h) = some (.inl (some (.int (zI (doR (wsT T) (T 13) 99 0 (T 2, 0)).2))), tw m (tg T 2 (doR (wsT T) (T 13) 99 0 (T 2, 0)).1) h) := by
  have l := da_4 (d := d) (m := m) (h := h) (T := T) hw hG 99 0 (T 2, 0) jno jno W (by omega) (by omega) (by simp only; omega) (by simp only; omega)
  rw [tg_self] at l
  rw [X7020 _ (tw_recv rfl), E7020_0, ← l]
  simp (disch := omega) only [jc_ref, rI_int, rR_ref, rR_null, rJ_long, ckR_ref, ckR_null, ckr_ref, ckr_null, ckW_int, ckW_ref, ckW_null, cI_ok, cR_ok, cR_null, cV_ok, cJ_ok, qH_eq, qD_in, aG_ref, aS_ref, aL_ref, pF_ref, cK_ref, cK_null, zI_lit, zJ_lit, zI_add, zI_sub, zI_mul, zI_neg, zI_eq, zI_lt, zI_le, Int.reduceLT, Int.reduceLE, Int.reduceAdd, Int.reduceSub, Int.reduceMul, Int.reduceNeg, Int.reduceEq, Int.reduceNe, reduceIte, tw_0, tw_1, tw_2, tw_3, tw_4, tw_5, tw_6, tw_7, tw_8, tw_9, tw_10, tw_11, tw_12, tw_13, tw_14, tw_15, tw_16, tw_17, tw_18, tw_19, tw_20, tw_21, tw_22, tw_23, tw_24, tw_25, tw_26, tw_27, tw_28, tw_29, tw_30, tw_31, ob_0, ob_1, ob_2, ob_3, ob_4, ob_5, ob_6, ob_7, ob_8, ob_9, ob_10, ob_11, ob_12, ob_13, ob_14, ob_15, ob_16, ob_17, ob_18, ob_19, ob_20, ob_21, ob_22, ob_23, ob_24, ob_25, ob_26, ob_27, ob_28, ob_29, ob_30, ob_31, ob_32, ob_33, ob_34, ob_35, ob_36, ob_37, ob_38, ob_39, ob_40, ob_41, ob_42, ob_43, ob_44, ob_45, ob_46, ob_47, ob_48, ob_49, ob_50, ob_51, ob_52, ob_53, ob_54, ob_55, ob_56, ob_57, ob_58, ob_59, ob_60, ob_61, ob_62, ob_63, ob_64, ob_65, jf7, aGi, aGb, aGz, aGj, leT, leF, ltT, ltF, eqT, eqF]
end
