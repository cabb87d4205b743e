/-! the twin reads conditions -/
section
variable {g : Int → Int} {z l : Int} {d m : Nat} {T : Nat → Int → Int} {h : AH} {q : Int} {S nm : Int → Int}
/-- the conditions of a line are well made -/
def CnW (S L : Int → Int) (to : Int) : Prop := (0 ≤ L (to + 7) ∧ L (to + 7) ≤ 4) ∧ ∀ k, 0 ≤ k → k < L (to + 7) → (0 ≤ L (to + 8 + 3 * k) ∧ L (to + 8 + 3 * k) < S (4 + L (to + 1))) ∧ (60 ≤ L (to + 8 + 3 * k + 1) ∧ L (to + 8 + 3 * k + 1) ≤ 62) ∧ -1 ≤ L (to + 8 + 3 * k + 2) ∧ L (to + 8 + 3 * k + 2) ≤ 99
theorem lookP_rg {nm : Int → Int} {n a q : Int} (h : lookP g z l nm n.toNat q = .ok a) : 0 ≤ a ∧ a < n := by
  unfold lookP at h
  split at h
  · cases h
  · have f := fnd_rg (f := fun k => decide (nm k = wdv g z q)) n.toNat 0
    split at h
    · cases h
    · cases h; omega
theorem isInZ_t {v a b : Int} (h : isInZ v a b = true) : a ≤ v ∧ v ≤ b := by simpa only [isInZ, decide_eq_true_eq] using h
theorem cond_W {to : Int} : ∀ (n : Nat) (L : Int → Int) (q : Int) {b : LQ}, CnW S L to → condF g z l S nm to n L q = .ok b → CnW S b.1 to ∧ ∀ j, j < to + 7 → b.1 j = L j := by
  intro n
  induction n with
  | zero => intro L q b hw hb; cases hb; exact ⟨hw, fun _ _ => rfl⟩
  | succ n ih =>
    intro L q b hw hb
    obtain ⟨⟨w1, w2⟩, w3⟩ := id hw
    simp only [condF] at hb
    obtain ⟨a, h1, hb⟩ := eb_inv hb
    have ha := lookP_rg h1
    split at hb
    · cases hb
    · rename_i h4
      split at hb
      · rename_i h5
        have hi := isInZ_t h5.2
        obtain ⟨v, h6, hb⟩ := eb_inv hb
        obtain ⟨v1, v2⟩ := val_at h6
        have e7 : v.1 (to + 7) = L (to + 7) := by rw [v1 _ (by omega)]; simp (disch := omega) only [fset_ne]
        have e1 : ∀ j, j < to + 7 → v.1 j = L j := fun j hj => by rw [v1 _ (by omega)]; simp (disch := omega) only [fset_ne]
        have hW : CnW S (fset v.1 (to + 7) (v.1 (to + 7) + 1)) to := by
          refine ⟨by rw [fset_eq, e7]; omega, ?_⟩
          rw [fset_eq, e7, fset_ne (show to + 1 ≠ to + 7 by omega), e1 _ (by omega)]
          intro k k0 k1
          rw [fset_ne (show to + 8 + 3 * k ≠ to + 7 by omega), fset_ne (show to + 8 + 3 * k + 1 ≠ to + 7 by omega), fset_ne (show to + 8 + 3 * k + 2 ≠ to + 7 by omega)]
          by_cases hk : k = L (to + 7)
          · rw [hk, v1 _ (by omega), v1 _ (by omega), fset_eq, fset_ne (by omega), fset_eq]
            exact ⟨ha, hi, v2⟩
          · rw [v1 _ (by omega), v1 _ (by omega), v1 _ (by omega)]
            simp (disch := omega) only [fset_ne]
            exact w3 k k0 (by omega)
        have hE : ∀ j, j < to + 7 → fset v.1 (to + 7) (v.1 (to + 7) + 1) j = L j := fun j hj => by rw [fset_ne (by omega), e1 j hj]
        split at hb
        · obtain ⟨i1, i2⟩ := ih _ _ hW hb
          exact ⟨i1, fun j hj => (i2 j hj).trans (hE j hj)⟩
        · cases hb
          exact ⟨hW, hE⟩
      · cases hb
theorem cond_14 {to : Int} (h0 : 0 ≤ to) (h1 : to ≤ 780) : ∀ (n : Nat) (T : Nat → Int → Int) (q : Int) (v3 v4 : Value), Rd g z l T q → (0 ≤ T 5 (to + 1) ∧ T 5 (to + 1) < 4) → (0 ≤ T 2 (4 + T 5 (to + 1)) ∧ T 2 (4 + T 5 (to + 1)) ≤ 4) → 0 ≤ T 5 (to + 7) → T 5 (to + 7) + n = 5 → n ≠ 0 → kd g z l q = 1 →
    TL to (condF g z l (T 2) (T 6) to n (T 5) q) m T h (G (d + 5) 7114 14 [.ref m, .int (zI to), .int (zI 1), v3, v4] [] (tw m T h)) (fun a T' => T' 5 = a.1 ∧ Rd g z l T' a.2) := by
  intro n
  induction n with
  | zero => intro T q v3 v4 R t0 t1 t2 t3 hn; omega
  | succ n ih =>
    intro T q v3 v4 R t0 t1 t2 t3 _ hk1
    simp only [condF]
    obtain ⟨T1, n1, n2, n3, R1⟩ := rd_next (d := d + 3) (m := m) (h := h) R
    have e2 : T1 2 = T 2 := n2.1 2 (by decide)
    have e5 : T1 5 = T 5 := n2.1 5 (by decide)
    have e6 : T1 6 = T 6 := n2.1 6 (by decide)
    obtain ⟨T2, a1, a2, a3⟩ := tm_looksCol (d := d + 2) (m := m) (h := h) R1 (t := T 5 (to + 1)) t0.1 t0.2 (by rw [e2]; exact t1)
    rw [e2, e6] at a1 a3
    rw [← e5] at t0 t1 t2 t3
    cases hr : lookC g z l (T 2) (T 6) (T 5 (to + 1)) (nxt g z l q) with
    | error e =>
      rw [hr] at a1 a3
      refine ⟨T2, ?_, (LF.of n2).tr (LF.of a2), a3⟩
      rw [E7114_14]
      rw [← e5] at a1
      simp (disch := omega) only [jc_ref, rI_int, rR_ref, rR_null, rJ_long, ckR_ref, ckR_null, ckr_ref, ckr_null, ckW_int, ckW_ref, ckW_null, cI_ok, cR_ok, cR_null, cV_ok, cJ_ok, qH_eq, qD_in, aG_ref, aS_ref, aL_ref, pF_ref, cK_ref, cK_null, zI_lit, zJ_lit, zI_add, zI_sub, zI_mul, zI_neg, zI_eq, zI_lt, zI_le, Int.reduceLT, Int.reduceLE, Int.reduceAdd, Int.reduceSub, Int.reduceMul, Int.reduceNeg, Int.reduceEq, Int.reduceNe, reduceIte, tw_0, tw_1, tw_2, tw_3, tw_4, tw_5, tw_6, tw_7, tw_8, tw_9, tw_10, tw_11, tw_12, tw_13, tw_14, tw_15, tw_16, tw_17, tw_18, tw_19, tw_20, tw_21, tw_22, tw_23, tw_24, tw_25, tw_26, tw_27, tw_28, tw_29, tw_30, tw_31, ob_0, ob_1, ob_2, ob_3, ob_4, ob_5, ob_6, ob_7, ob_8, ob_9, ob_10, ob_11, ob_12, ob_13, ob_14, ob_15, ob_16, ob_17, ob_18, ob_19, ob_20, ob_21, ob_22, ob_23, ob_24, ob_25, ob_26, ob_27, ob_28, ob_29, ob_30, ob_31, ob_32, ob_33, ob_34, ob_35, ob_36, ob_37, ob_38, ob_39, ob_40, ob_41, ob_42, ob_43, ob_44, ob_45, ob_46, ob_47, ob_48, ob_49, ob_50, ob_51, ob_52, ob_53, ob_54, ob_55, ob_56, ob_57, ob_58, ob_59, ob_60, ob_61, ob_62, ob_63, ob_64, ob_65, jf7, aGi, aGb, aGz, aGj, leT, leF, ltT, ltF, eqT, eqF, beq_tt, beq_tf, beq_ft, beq_ff, Bool.true_and, Bool.false_and, Bool.and_true, Bool.and_false, Bool.true_or, Bool.false_or, Bool.or_true, Bool.or_false, Bool.true_eq_false, Bool.false_eq_true, Bool.not_true, Bool.not_false, bZ_t, bZ_f, zI_b0, zI_b1, zI_bb, okZ_0, okZ_1, n1, a1, isK, eb]
    | ok a =>
      rw [hr] at a1 a3
      obtain ⟨b1, R2, b2, b3⟩ := a3
      rw [eb_ok]
      rw [← e5] at a1
      have f5 : T2 5 = T1 5 := a2.1 5 (by decide)
      have f2 : T2 2 = T 2 := (a2.1 2 (by decide)).trans e2
      have f6 : T2 6 = T 6 := (a2.1 6 (by decide)).trans e6
      have hk2 : kd g z l (nxt g z l q) = 1 := by
        simp only [lookC, lookP] at hr
        split at hr
        · cases hr
        · rename_i hn
          simp only [isNm, Bool.and_eq_false_iff, not_or, decide_eq_false_iff_not, Classical.not_not] at hn
          exact hn.1
      rw [← f5] at t0 t1 t2 t3
      have g5 : T 5 = T2 5 := by rw [f5, e5]
      rw [g5]
      by_cases h4 : T2 5 (to + 7) = 4
      · rw [if_pos h4]
        refine ⟨bdT T2 4, ?_, (LF.of n2).tr ((LF.of a2).tr (LF.of bd_pf)), rd_fl R2 (by omega)⟩
        rw [E7114_14]
        simp (disch := omega) only [jc_ref, rI_int, rR_ref, rR_null, rJ_long, ckR_ref, ckR_null, ckr_ref, ckr_null, ckW_int, ckW_ref, ckW_null, cI_ok, cR_ok, cR_null, cV_ok, cJ_ok, qH_eq, qD_in, aG_ref, aS_ref, aL_ref, pF_ref, cK_ref, cK_null, zI_lit, zJ_lit, zI_add, zI_sub, zI_mul, zI_neg, zI_eq, zI_lt, zI_le, Int.reduceLT, Int.reduceLE, Int.reduceAdd, Int.reduceSub, Int.reduceMul, Int.reduceNeg, Int.reduceEq, Int.reduceNe, reduceIte, tw_0, tw_1, tw_2, tw_3, tw_4, tw_5, tw_6, tw_7, tw_8, tw_9, tw_10, tw_11, tw_12, tw_13, tw_14, tw_15, tw_16, tw_17, tw_18, tw_19, tw_20, tw_21, tw_22, tw_23, tw_24, tw_25, tw_26, tw_27, tw_28, tw_29, tw_30, tw_31, ob_0, ob_1, ob_2, ob_3, ob_4, ob_5, ob_6, ob_7, ob_8, ob_9, ob_10, ob_11, ob_12, ob_13, ob_14, ob_15, ob_16, ob_17, ob_18, ob_19, ob_20, ob_21, ob_22, ob_23, ob_24, ob_25, ob_26, ob_27, ob_28, ob_29, ob_30, ob_31, ob_32, ob_33, ob_34, ob_35, ob_36, ob_37, ob_38, ob_39, ob_40, ob_41, ob_42, ob_43, ob_44, ob_45, ob_46, ob_47, ob_48, ob_49, ob_50, ob_51, ob_52, ob_53, ob_54, ob_55, ob_56, ob_57, ob_58, ob_59, ob_60, ob_61, ob_62, ob_63, ob_64, ob_65, jf7, aGi, aGb, aGz, aGj, leT, leF, ltT, ltF, eqT, eqF, beq_tt, beq_tf, beq_ft, beq_ff, Bool.true_and, Bool.false_and, Bool.and_true, Bool.and_false, Bool.true_or, Bool.false_or, Bool.or_true, Bool.or_false, Bool.true_eq_false, Bool.false_eq_true, Bool.not_true, Bool.not_false, bZ_t, bZ_f, zI_b0, zI_b1, zI_bb, okZ_0, okZ_1, n1, a1, h4, tm_bad, isK, eb]
      · rw [if_neg h4]
        have R3 : Rd g z l (ts T2 5 (to + 8 + 3 * T2 5 (to + 7)) a) (nxt g z l q) := R2.tg (by decide) (by decide) (by decide) (by decide)
        obtain ⟨T3, c1, c2, -, R4⟩ := rd_next (d := d + 3) (m := m) (h := h) R3
        have k5 : T3 5 = fset (T2 5) (to + 8 + 3 * T2 5 (to + 7)) a := by rw [c2.1 5 (by decide), ts_eq]
        have k2 : T3 2 = T 2 := by rw [c2.1 2 (by decide), ts_ne (by decide), f2]
        have k6 : T3 6 = T 6 := by rw [c2.1 6 (by decide), ts_ne (by decide), f6]
        have fr3 : LF to T T3 := (LF.of n2).tr ((LF.of a2).tr ((LF.s (i := to + 8 + 3 * T2 5 (to + 7)) (v := a) (by omega) (by omega)).tr (LF.of c2)))
        have hk3 := R4.k12
        obtain ⟨kr1, kr2⟩ : 0 ≤ kd g z l (nxt g z l (nxt g z l q)) ∧ kd g z l (nxt g z l (nxt g z l q)) ≤ 4 := kd_rg _
        simp (disch := omega) only [jc_ref, rI_int, rR_ref, rR_null, rJ_long, ckR_ref, ckR_null, ckr_ref, ckr_null, ckW_int, ckW_ref, ckW_null, cI_ok, cR_ok, cR_null, cV_ok, cJ_ok, qH_eq, qD_in, aG_ref, aS_ref, aL_ref, pF_ref, cK_ref, cK_null, zI_lit, zJ_lit, zI_add, zI_sub, zI_mul, zI_neg, zI_eq, zI_lt, zI_le, Int.reduceLT, Int.reduceLE, Int.reduceAdd, Int.reduceSub, Int.reduceMul, Int.reduceNeg, Int.reduceEq, Int.reduceNe, reduceIte, tw_0, tw_1, tw_2, tw_3, tw_4, tw_5, tw_6, tw_7, tw_8, tw_9, tw_10, tw_11, tw_12, tw_13, tw_14, tw_15, tw_16, tw_17, tw_18, tw_19, tw_20, tw_21, tw_22, tw_23, tw_24, tw_25, tw_26, tw_27, tw_28, tw_29, tw_30, tw_31, ob_0, ob_1, ob_2, ob_3, ob_4, ob_5, ob_6, ob_7, ob_8, ob_9, ob_10, ob_11, ob_12, ob_13, ob_14, ob_15, ob_16, ob_17, ob_18, ob_19, ob_20, ob_21, ob_22, ob_23, ob_24, ob_25, ob_26, ob_27, ob_28, ob_29, ob_30, ob_31, ob_32, ob_33, ob_34, ob_35, ob_36, ob_37, ob_38, ob_39, ob_40, ob_41, ob_42, ob_43, ob_44, ob_45, ob_46, ob_47, ob_48, ob_49, ob_50, ob_51, ob_52, ob_53, ob_54, ob_55, ob_56, ob_57, ob_58, ob_59, ob_60, ob_61, ob_62, ob_63, ob_64, ob_65, jf7, aGi, aGb, aGz, aGj, leT, leF, ltT, ltF, eqT, eqF, tws_0, tws_1, tws_2, tws_3, tws_4, tws_5, tws_6, tws_7, tws_8, tws_9, tws_10, tws_11, tws_12, tws_13, tws_14, tws_15, tws_16, tws_17, tws_18, tws_19, tws_20, tws_21, tws_22, tws_23, tws_24, tws_25, tws_26, tws_27, tws_28, tws_29, tws_30, tws_31, obs_0, obs_2, obs_3, obs_4, obs_5, obs_12, obs_13, obs_14, obs_15, obs_16, obs_17, obs_18, obs_19, obs_20, obs_21, obs_22, obs_26, obs_31, obs_32, obs_33, obs_34, obs_35, obs_41, obs_42, obs_44, obs_48, obs_50, obs_51, obs_52, obs_55, obs_57, obs_58, obs_59, obs_60, obs_61, pF7i, pF7z, pF7j, aSi, aSj, aSb1, aSb24, aSb28, aSb31, ts, tg_eq, tg_ne, tg_tg, fset_eq, fset_ne] at c1
        by_cases h5 : kd g z l (nxt g z l (nxt g z l q)) = 3
        · have hn3 := R4.n15 (by omega)
          obtain ⟨v1, v2⟩ := nmv_rg3 h5
          have hi := tm_isIn (d := d + 4) (h := tw m T3 h) (v := nmv g z (nxt g z l (nxt g z l q))) (low := 60) (high := 62) ⟨by omega, by omega⟩ ⟨by omega, by omega⟩ ⟨by omega, by omega⟩
          cases h6 : isInZ (nmv g z (nxt g z l (nxt g z l q))) 60 62 with
          | false =>
            rw [if_neg (by simp)]
            refine ⟨bdT T3 1, ?_, fr3.tr (LF.of bd_pf), rd_fl R4 (fun _ => rfl)⟩
            rw [E7114_14]
            simp (disch := omega) only [jc_ref, rI_int, rR_ref, rR_null, rJ_long, ckR_ref, ckR_null, ckr_ref, ckr_null, ckW_int, ckW_ref, ckW_null, cI_ok, cR_ok, cR_null, cV_ok, cJ_ok, qH_eq, qD_in, aG_ref, aS_ref, aL_ref, pF_ref, cK_ref, cK_null, zI_lit, zJ_lit, zI_add, zI_sub, zI_mul, zI_neg, zI_eq, zI_lt, zI_le, Int.reduceLT, Int.reduceLE, Int.reduceAdd, Int.reduceSub, Int.reduceMul, Int.reduceNeg, Int.reduceEq, Int.reduceNe, reduceIte, tw_0, tw_1, tw_2, tw_3, tw_4, tw_5, tw_6, tw_7, tw_8, tw_9, tw_10, tw_11, tw_12, tw_13, tw_14, tw_15, tw_16, tw_17, tw_18, tw_19, tw_20, tw_21, tw_22, tw_23, tw_24, tw_25, tw_26, tw_27, tw_28, tw_29, tw_30, tw_31, ob_0, ob_1, ob_2, ob_3, ob_4, ob_5, ob_6, ob_7, ob_8, ob_9, ob_10, ob_11, ob_12, ob_13, ob_14, ob_15, ob_16, ob_17, ob_18, ob_19, ob_20, ob_21, ob_22, ob_23, ob_24, ob_25, ob_26, ob_27, ob_28, ob_29, ob_30, ob_31, ob_32, ob_33, ob_34, ob_35, ob_36, ob_37, ob_38, ob_39, ob_40, ob_41, ob_42, ob_43, ob_44, ob_45, ob_46, ob_47, ob_48, ob_49, ob_50, ob_51, ob_52, ob_53, ob_54, ob_55, ob_56, ob_57, ob_58, ob_59, ob_60, ob_61, ob_62, ob_63, ob_64, ob_65, jf7, aGi, aGb, aGz, aGj, leT, leF, ltT, ltF, eqT, eqF, tws_0, tws_1, tws_2, tws_3, tws_4, tws_5, tws_6, tws_7, tws_8, tws_9, tws_10, tws_11, tws_12, tws_13, tws_14, tws_15, tws_16, tws_17, tws_18, tws_19, tws_20, tws_21, tws_22, tws_23, tws_24, tws_25, tws_26, tws_27, tws_28, tws_29, tws_30, tws_31, obs_0, obs_2, obs_3, obs_4, obs_5, obs_12, obs_13, obs_14, obs_15, obs_16, obs_17, obs_18, obs_19, obs_20, obs_21, obs_22, obs_26, obs_31, obs_32, obs_33, obs_34, obs_35, obs_41, obs_42, obs_44, obs_48, obs_50, obs_51, obs_52, obs_55, obs_57, obs_58, obs_59, obs_60, obs_61, pF7i, pF7z, pF7j, aSi, aSj, aSb1, aSb24, aSb28, aSb31, ts, tg_eq, tg_ne, tg_tg, fset_eq, fset_ne, beq_tt, beq_tf, beq_ft, beq_ff, Bool.true_and, Bool.false_and, Bool.and_true, Bool.and_false, Bool.true_or, Bool.false_or, Bool.or_true, Bool.or_false, Bool.true_eq_false, Bool.false_eq_true, Bool.not_true, Bool.not_false, bZ_t, bZ_f, zI_b0, zI_b1, zI_bb, okZ_0, okZ_1, n1, a1, b1, h4, c1, hk3, h5, hn3, hi, h6, tm_bad, isK, eb, okZ_b]
          | true =>
            rw [if_pos ⟨h5, rfl⟩]
            have R5 : Rd g z l (ts T3 5 (to + 8 + 3 * T2 5 (to + 7) + 1) (nmv g z (nxt g z l (nxt g z l q)))) (nxt g z l (nxt g z l q)) := R4.tg (by decide) (by decide) (by decide) (by decide)
            obtain ⟨T4, p1, p2, -, R6⟩ := rd_next (d := d + 3) (m := m) (h := h) R5
            have l5 : T4 5 = fset (fset (T2 5) (to + 8 + 3 * T2 5 (to + 7)) a) (to + 8 + 3 * T2 5 (to + 7) + 1) (nmv g z (nxt g z l (nxt g z l q))) := by rw [p2.1 5 (by decide), ts_eq, k5]
            have l2 : T4 2 = T 2 := by rw [p2.1 2 (by decide), ts_ne (by decide), k2]
            have l6 : T4 6 = T 6 := by rw [p2.1 6 (by decide), ts_ne (by decide), k6]
            have fr4 : LF to T T4 := fr3.tr ((LF.s (i := to + 8 + 3 * T2 5 (to + 7) + 1) (v := nmv g z (nxt g z l (nxt g z l q))) (by omega) (by omega)).tr (LF.of p2))
            simp (disch := omega) only [jc_ref, rI_int, rR_ref, rR_null, rJ_long, ckR_ref, ckR_null, ckr_ref, ckr_null, ckW_int, ckW_ref, ckW_null, cI_ok, cR_ok, cR_null, cV_ok, cJ_ok, qH_eq, qD_in, aG_ref, aS_ref, aL_ref, pF_ref, cK_ref, cK_null, zI_lit, zJ_lit, zI_add, zI_sub, zI_mul, zI_neg, zI_eq, zI_lt, zI_le, Int.reduceLT, Int.reduceLE, Int.reduceAdd, Int.reduceSub, Int.reduceMul, Int.reduceNeg, Int.reduceEq, Int.reduceNe, reduceIte, tw_0, tw_1, tw_2, tw_3, tw_4, tw_5, tw_6, tw_7, tw_8, tw_9, tw_10, tw_11, tw_12, tw_13, tw_14, tw_15, tw_16, tw_17, tw_18, tw_19, tw_20, tw_21, tw_22, tw_23, tw_24, tw_25, tw_26, tw_27, tw_28, tw_29, tw_30, tw_31, ob_0, ob_1, ob_2, ob_3, ob_4, ob_5, ob_6, ob_7, ob_8, ob_9, ob_10, ob_11, ob_12, ob_13, ob_14, ob_15, ob_16, ob_17, ob_18, ob_19, ob_20, ob_21, ob_22, ob_23, ob_24, ob_25, ob_26, ob_27, ob_28, ob_29, ob_30, ob_31, ob_32, ob_33, ob_34, ob_35, ob_36, ob_37, ob_38, ob_39, ob_40, ob_41, ob_42, ob_43, ob_44, ob_45, ob_46, ob_47, ob_48, ob_49, ob_50, ob_51, ob_52, ob_53, ob_54, ob_55, ob_56, ob_57, ob_58, ob_59, ob_60, ob_61, ob_62, ob_63, ob_64, ob_65, jf7, aGi, aGb, aGz, aGj, leT, leF, ltT, ltF, eqT, eqF, tws_0, tws_1, tws_2, tws_3, tws_4, tws_5, tws_6, tws_7, tws_8, tws_9, tws_10, tws_11, tws_12, tws_13, tws_14, tws_15, tws_16, tws_17, tws_18, tws_19, tws_20, tws_21, tws_22, tws_23, tws_24, tws_25, tws_26, tws_27, tws_28, tws_29, tws_30, tws_31, obs_0, obs_2, obs_3, obs_4, obs_5, obs_12, obs_13, obs_14, obs_15, obs_16, obs_17, obs_18, obs_19, obs_20, obs_21, obs_22, obs_26, obs_31, obs_32, obs_33, obs_34, obs_35, obs_41, obs_42, obs_44, obs_48, obs_50, obs_51, obs_52, obs_55, obs_57, obs_58, obs_59, obs_60, obs_61, pF7i, pF7z, pF7j, aSi, aSj, aSb1, aSb24, aSb28, aSb31, ts, tg_eq, tg_ne, tg_tg, fset_eq, fset_ne] at p1
            obtain ⟨T5, r1, r2, r3⟩ := tm_takesValue (d := d + 1) (m := m) (h := h) (to := to) (i := to + 8 + 3 * T2 5 (to + 7) + 2) R6 (by omega) (by omega) (by omega) (by omega)
            rw [l5] at r1 r3
            cases hv : valP g z l (fset (fset (T2 5) (to + 8 + 3 * T2 5 (to + 7)) a) (to + 8 + 3 * T2 5 (to + 7) + 1) (nmv g z (nxt g z l (nxt g z l q)))) (to + 8 + 3 * T2 5 (to + 7) + 2) (nxt g z l (nxt g z l (nxt g z l q))) with
            | error e =>
              rw [hv] at r1 r3
              refine ⟨T5, ?_, fr4.tr r2, r3⟩
              rw [E7114_14]
              simp (disch := omega) only [jc_ref, rI_int, rR_ref, rR_null, rJ_long, ckR_ref, ckR_null, ckr_ref, ckr_null, ckW_int, ckW_ref, ckW_null, cI_ok, cR_ok, cR_null, cV_ok, cJ_ok, qH_eq, qD_in, aG_ref, aS_ref, aL_ref, pF_ref, cK_ref, cK_null, zI_lit, zJ_lit, zI_add, zI_sub, zI_mul, zI_neg, zI_eq, zI_lt, zI_le, Int.reduceLT, Int.reduceLE, Int.reduceAdd, Int.reduceSub, Int.reduceMul, Int.reduceNeg, Int.reduceEq, Int.reduceNe, reduceIte, tw_0, tw_1, tw_2, tw_3, tw_4, tw_5, tw_6, tw_7, tw_8, tw_9, tw_10, tw_11, tw_12, tw_13, tw_14, tw_15, tw_16, tw_17, tw_18, tw_19, tw_20, tw_21, tw_22, tw_23, tw_24, tw_25, tw_26, tw_27, tw_28, tw_29, tw_30, tw_31, ob_0, ob_1, ob_2, ob_3, ob_4, ob_5, ob_6, ob_7, ob_8, ob_9, ob_10, ob_11, ob_12, ob_13, ob_14, ob_15, ob_16, ob_17, ob_18, ob_19, ob_20, ob_21, ob_22, ob_23, ob_24, ob_25, ob_26, ob_27, ob_28, ob_29, ob_30, ob_31, ob_32, ob_33, ob_34, ob_35, ob_36, ob_37, ob_38, ob_39, ob_40, ob_41, ob_42, ob_43, ob_44, ob_45, ob_46, ob_47, ob_48, ob_49, ob_50, ob_51, ob_52, ob_53, ob_54, ob_55, ob_56, ob_57, ob_58, ob_59, ob_60, ob_61, ob_62, ob_63, ob_64, ob_65, jf7, aGi, aGb, aGz, aGj, leT, leF, ltT, ltF, eqT, eqF, tws_0, tws_1, tws_2, tws_3, tws_4, tws_5, tws_6, tws_7, tws_8, tws_9, tws_10, tws_11, tws_12, tws_13, tws_14, tws_15, tws_16, tws_17, tws_18, tws_19, tws_20, tws_21, tws_22, tws_23, tws_24, tws_25, tws_26, tws_27, tws_28, tws_29, tws_30, tws_31, obs_0, obs_2, obs_3, obs_4, obs_5, obs_12, obs_13, obs_14, obs_15, obs_16, obs_17, obs_18, obs_19, obs_20, obs_21, obs_22, obs_26, obs_31, obs_32, obs_33, obs_34, obs_35, obs_41, obs_42, obs_44, obs_48, obs_50, obs_51, obs_52, obs_55, obs_57, obs_58, obs_59, obs_60, obs_61, pF7i, pF7z, pF7j, aSi, aSj, aSb1, aSb24, aSb28, aSb31, ts, tg_eq, tg_ne, tg_tg, fset_eq, fset_ne, beq_tt, beq_tf, beq_ft, beq_ff, Bool.true_and, Bool.false_and, Bool.and_true, Bool.and_false, Bool.true_or, Bool.false_or, Bool.or_true, Bool.or_false, Bool.true_eq_false, Bool.false_eq_true, Bool.not_true, Bool.not_false, bZ_t, bZ_f, zI_b0, zI_b1, zI_bb, okZ_0, okZ_1, n1, a1, b1, h4, c1, hk3, h5, hn3, hi, h6, p1, r1, isK, eb]
            | ok b =>
              rw [hv] at r1 r3
              obtain ⟨s5, R7⟩ := r3
              obtain ⟨v3', v4'⟩ := val_at hv
              have R8 : Rd g z l (ts T5 5 (to + 7) (T5 5 (to + 7) + 1)) b.2 := R7.tg (by decide) (by decide) (by decide) (by decide)
              have w := rd_isW (d := d + 4) (m := m) (h := h) R8 (w := 6385252) (by omega) (by omega)
              have u2 : (ts T5 5 (to + 7) (T5 5 (to + 7) + 1)) 2 = T 2 := by rw [ts_ne (by decide), r2.1 2 (by decide) (by decide), l2]
              have u6 : (ts T5 5 (to + 7) (T5 5 (to + 7) + 1)) 6 = T 6 := by rw [ts_ne (by decide), r2.1 6 (by decide) (by decide), l6]
              have u5 : (ts T5 5 (to + 7) (T5 5 (to + 7) + 1)) 5 = fset b.1 (to + 7) (b.1 (to + 7) + 1) := by rw [ts_eq, s5]
              have fr5 : LF to T (ts T5 5 (to + 7) (T5 5 (to + 7) + 1)) := fr4.tr (r2.tr (LF.s (by omega) (by omega)))
              have e7 : b.1 (to + 7) = T2 5 (to + 7) := by rw [v3' _ (by omega)]; simp (disch := omega) only [fset_ne]
              have e1 : b.1 (to + 1) = T2 5 (to + 1) := by rw [v3' _ (by omega)]; simp (disch := omega) only [fset_ne]
              rw [eb_ok]
              cases hA : isW g z l b.2 wAND with
              | true =>
                rw [if_pos rfl]
                have hkA := isW_k hA
                have ih' := ih (ts T5 5 (to + 7) (T5 5 (to + 7) + 1)) b.2 (.int (zI (T2 5 (to + 7)))) (.int (zI (to + 8 + 3 * T2 5 (to + 7)))) R8
                  (by rw [u5, fset_ne (by omega), e1]; exact t0) (by rw [u5, u2, fset_ne (by omega), e1]; exact t1) (by rw [u5, fset_eq, e7]; omega) (by rw [u5, fset_eq, e7]; omega) (by omega) hkA
                rw [u2, u5, u6] at ih'
                refine TL.of ?_ fr5 ih'
                rw [E7114_14]
                simp (disch := omega) only [jc_ref, rI_int, rR_ref, rR_null, rJ_long, ckR_ref, ckR_null, ckr_ref, ckr_null, ckW_int, ckW_ref, ckW_null, cI_ok, cR_ok, cR_null, cV_ok, cJ_ok, qH_eq, qD_in, aG_ref, aS_ref, aL_ref, pF_ref, cK_ref, cK_null, zI_lit, zJ_lit, zI_add, zI_sub, zI_mul, zI_neg, zI_eq, zI_lt, zI_le, Int.reduceLT, Int.reduceLE, Int.reduceAdd, Int.reduceSub, Int.reduceMul, Int.reduceNeg, Int.reduceEq, Int.reduceNe, reduceIte, tw_0, tw_1, tw_2, tw_3, tw_4, tw_5, tw_6, tw_7, tw_8, tw_9, tw_10, tw_11, tw_12, tw_13, tw_14, tw_15, tw_16, tw_17, tw_18, tw_19, tw_20, tw_21, tw_22, tw_23, tw_24, tw_25, tw_26, tw_27, tw_28, tw_29, tw_30, tw_31, ob_0, ob_1, ob_2, ob_3, ob_4, ob_5, ob_6, ob_7, ob_8, ob_9, ob_10, ob_11, ob_12, ob_13, ob_14, ob_15, ob_16, ob_17, ob_18, ob_19, ob_20, ob_21, ob_22, ob_23, ob_24, ob_25, ob_26, ob_27, ob_28, ob_29, ob_30, ob_31, ob_32, ob_33, ob_34, ob_35, ob_36, ob_37, ob_38, ob_39, ob_40, ob_41, ob_42, ob_43, ob_44, ob_45, ob_46, ob_47, ob_48, ob_49, ob_50, ob_51, ob_52, ob_53, ob_54, ob_55, ob_56, ob_57, ob_58, ob_59, ob_60, ob_61, ob_62, ob_63, ob_64, ob_65, jf7, aGi, aGb, aGz, aGj, leT, leF, ltT, ltF, eqT, eqF, tws_0, tws_1, tws_2, tws_3, tws_4, tws_5, tws_6, tws_7, tws_8, tws_9, tws_10, tws_11, tws_12, tws_13, tws_14, tws_15, tws_16, tws_17, tws_18, tws_19, tws_20, tws_21, tws_22, tws_23, tws_24, tws_25, tws_26, tws_27, tws_28, tws_29, tws_30, tws_31, obs_0, obs_2, obs_3, obs_4, obs_5, obs_12, obs_13, obs_14, obs_15, obs_16, obs_17, obs_18, obs_19, obs_20, obs_21, obs_22, obs_26, obs_31, obs_32, obs_33, obs_34, obs_35, obs_41, obs_42, obs_44, obs_48, obs_50, obs_51, obs_52, obs_55, obs_57, obs_58, obs_59, obs_60, obs_61, pF7i, pF7z, pF7j, aSi, aSj, aSb1, aSb24, aSb28, aSb31, ts, tg_eq, tg_ne, tg_tg, fset_eq, fset_ne] at w
                simp (disch := omega) only [jc_ref, rI_int, rR_ref, rR_null, rJ_long, ckR_ref, ckR_null, ckr_ref, ckr_null, ckW_int, ckW_ref, ckW_null, cI_ok, cR_ok, cR_null, cV_ok, cJ_ok, qH_eq, qD_in, aG_ref, aS_ref, aL_ref, pF_ref, cK_ref, cK_null, zI_lit, zJ_lit, zI_add, zI_sub, zI_mul, zI_neg, zI_eq, zI_lt, zI_le, Int.reduceLT, Int.reduceLE, Int.reduceAdd, Int.reduceSub, Int.reduceMul, Int.reduceNeg, Int.reduceEq, Int.reduceNe, reduceIte, tw_0, tw_1, tw_2, tw_3, tw_4, tw_5, tw_6, tw_7, tw_8, tw_9, tw_10, tw_11, tw_12, tw_13, tw_14, tw_15, tw_16, tw_17, tw_18, tw_19, tw_20, tw_21, tw_22, tw_23, tw_24, tw_25, tw_26, tw_27, tw_28, tw_29, tw_30, tw_31, ob_0, ob_1, ob_2, ob_3, ob_4, ob_5, ob_6, ob_7, ob_8, ob_9, ob_10, ob_11, ob_12, ob_13, ob_14, ob_15, ob_16, ob_17, ob_18, ob_19, ob_20, ob_21, ob_22, ob_23, ob_24, ob_25, ob_26, ob_27, ob_28, ob_29, ob_30, ob_31, ob_32, ob_33, ob_34, ob_35, ob_36, ob_37, ob_38, ob_39, ob_40, ob_41, ob_42, ob_43, ob_44, ob_45, ob_46, ob_47, ob_48, ob_49, ob_50, ob_51, ob_52, ob_53, ob_54, ob_55, ob_56, ob_57, ob_58, ob_59, ob_60, ob_61, ob_62, ob_63, ob_64, ob_65, jf7, aGi, aGb, aGz, aGj, leT, leF, ltT, ltF, eqT, eqF, tws_0, tws_1, tws_2, tws_3, tws_4, tws_5, tws_6, tws_7, tws_8, tws_9, tws_10, tws_11, tws_12, tws_13, tws_14, tws_15, tws_16, tws_17, tws_18, tws_19, tws_20, tws_21, tws_22, tws_23, tws_24, tws_25, tws_26, tws_27, tws_28, tws_29, tws_30, tws_31, obs_0, obs_2, obs_3, obs_4, obs_5, obs_12, obs_13, obs_14, obs_15, obs_16, obs_17, obs_18, obs_19, obs_20, obs_21, obs_22, obs_26, obs_31, obs_32, obs_33, obs_34, obs_35, obs_41, obs_42, obs_44, obs_48, obs_50, obs_51, obs_52, obs_55, obs_57, obs_58, obs_59, obs_60, obs_61, pF7i, pF7z, pF7j, aSi, aSj, aSb1, aSb24, aSb28, aSb31, ts, tg_eq, tg_ne, tg_tg, fset_eq, fset_ne, beq_tt, beq_tf, beq_ft, beq_ff, Bool.true_and, Bool.false_and, Bool.and_true, Bool.and_false, Bool.true_or, Bool.false_or, Bool.or_true, Bool.or_false, Bool.true_eq_false, Bool.false_eq_true, Bool.not_true, Bool.not_false, bZ_t, bZ_f, zI_b0, zI_b1, zI_bb, okZ_0, okZ_1, n1, a1, b1, h4, c1, hk3, h5, hn3, hi, h6, p1, r1, w, hA, isK, eb]
              | false =>
                rw [if_neg (by decide)]
                refine ⟨ts T5 5 (to + 7) (T5 5 (to + 7) + 1), ?_, fr5, u5, R8⟩
                rw [E7114_14]
                simp (disch := omega) only [jc_ref, rI_int, rR_ref, rR_null, rJ_long, ckR_ref, ckR_null, ckr_ref, ckr_null, ckW_int, ckW_ref, ckW_null, cI_ok, cR_ok, cR_null, cV_ok, cJ_ok, qH_eq, qD_in, aG_ref, aS_ref, aL_ref, pF_ref, cK_ref, cK_null, zI_lit, zJ_lit, zI_add, zI_sub, zI_mul, zI_neg, zI_eq, zI_lt, zI_le, Int.reduceLT, Int.reduceLE, Int.reduceAdd, Int.reduceSub, Int.reduceMul, Int.reduceNeg, Int.reduceEq, Int.reduceNe, reduceIte, tw_0, tw_1, tw_2, tw_3, tw_4, tw_5, tw_6, tw_7, tw_8, tw_9, tw_10, tw_11, tw_12, tw_13, tw_14, tw_15, tw_16, tw_17, tw_18, tw_19, tw_20, tw_21, tw_22, tw_23, tw_24, tw_25, tw_26, tw_27, tw_28, tw_29, tw_30, tw_31, ob_0, ob_1, ob_2, ob_3, ob_4, ob_5, ob_6, ob_7, ob_8, ob_9, ob_10, ob_11, ob_12, ob_13, ob_14, ob_15, ob_16, ob_17, ob_18, ob_19, ob_20, ob_21, ob_22, ob_23, ob_24, ob_25, ob_26, ob_27, ob_28, ob_29, ob_30, ob_31, ob_32, ob_33, ob_34, ob_35, ob_36, ob_37, ob_38, ob_39, ob_40, ob_41, ob_42, ob_43, ob_44, ob_45, ob_46, ob_47, ob_48, ob_49, ob_50, ob_51, ob_52, ob_53, ob_54, ob_55, ob_56, ob_57, ob_58, ob_59, ob_60, ob_61, ob_62, ob_63, ob_64, ob_65, jf7, aGi, aGb, aGz, aGj, leT, leF, ltT, ltF, eqT, eqF, tws_0, tws_1, tws_2, tws_3, tws_4, tws_5, tws_6, tws_7, tws_8, tws_9, tws_10, tws_11, tws_12, tws_13, tws_14, tws_15, tws_16, tws_17, tws_18, tws_19, tws_20, tws_21, tws_22, tws_23, tws_24, tws_25, tws_26, tws_27, tws_28, tws_29, tws_30, tws_31, obs_0, obs_2, obs_3, obs_4, obs_5, obs_12, obs_13, obs_14, obs_15, obs_16, obs_17, obs_18, obs_19, obs_20, obs_21, obs_22, obs_26, obs_31, obs_32, obs_33, obs_34, obs_35, obs_41, obs_42, obs_44, obs_48, obs_50, obs_51, obs_52, obs_55, obs_57, obs_58, obs_59, obs_60, obs_61, pF7i, pF7z, pF7j, aSi, aSj, aSb1, aSb24, aSb28, aSb31, ts, tg_eq, tg_ne, tg_tg, fset_eq, fset_ne] at w
                simp (disch := omega) only [jc_ref, rI_int, rR_ref, rR_null, rJ_long, ckR_ref, ckR_null, ckr_ref, ckr_null, ckW_int, ckW_ref, ckW_null, cI_ok, cR_ok, cR_null, cV_ok, cJ_ok, qH_eq, qD_in, aG_ref, aS_ref, aL_ref, pF_ref, cK_ref, cK_null, zI_lit, zJ_lit, zI_add, zI_sub, zI_mul, zI_neg, zI_eq, zI_lt, zI_le, Int.reduceLT, Int.reduceLE, Int.reduceAdd, Int.reduceSub, Int.reduceMul, Int.reduceNeg, Int.reduceEq, Int.reduceNe, reduceIte, tw_0, tw_1, tw_2, tw_3, tw_4, tw_5, tw_6, tw_7, tw_8, tw_9, tw_10, tw_11, tw_12, tw_13, tw_14, tw_15, tw_16, tw_17, tw_18, tw_19, tw_20, tw_21, tw_22, tw_23, tw_24, tw_25, tw_26, tw_27, tw_28, tw_29, tw_30, tw_31, ob_0, ob_1, ob_2, ob_3, ob_4, ob_5, ob_6, ob_7, ob_8, ob_9, ob_10, ob_11, ob_12, ob_13, ob_14, ob_15, ob_16, ob_17, ob_18, ob_19, ob_20, ob_21, ob_22, ob_23, ob_24, ob_25, ob_26, ob_27, ob_28, ob_29, ob_30, ob_31, ob_32, ob_33, ob_34, ob_35, ob_36, ob_37, ob_38, ob_39, ob_40, ob_41, ob_42, ob_43, ob_44, ob_45, ob_46, ob_47, ob_48, ob_49, ob_50, ob_51, ob_52, ob_53, ob_54, ob_55, ob_56, ob_57, ob_58, ob_59, ob_60, ob_61, ob_62, ob_63, ob_64, ob_65, jf7, aGi, aGb, aGz, aGj, leT, leF, ltT, ltF, eqT, eqF, tws_0, tws_1, tws_2, tws_3, tws_4, tws_5, tws_6, tws_7, tws_8, tws_9, tws_10, tws_11, tws_12, tws_13, tws_14, tws_15, tws_16, tws_17, tws_18, tws_19, tws_20, tws_21, tws_22, tws_23, tws_24, tws_25, tws_26, tws_27, tws_28, tws_29, tws_30, tws_31, obs_0, obs_2, obs_3, obs_4, obs_5, obs_12, obs_13, obs_14, obs_15, obs_16, obs_17, obs_18, obs_19, obs_20, obs_21, obs_22, obs_26, obs_31, obs_32, obs_33, obs_34, obs_35, obs_41, obs_42, obs_44, obs_48, obs_50, obs_51, obs_52, obs_55, obs_57, obs_58, obs_59, obs_60, obs_61, pF7i, pF7z, pF7j, aSi, aSj, aSb1, aSb24, aSb28, aSb31, ts, tg_eq, tg_ne, tg_tg, fset_eq, fset_ne, beq_tt, beq_tf, beq_ft, beq_ff, Bool.true_and, Bool.false_and, Bool.and_true, Bool.and_false, Bool.true_or, Bool.false_or, Bool.or_true, Bool.or_false, Bool.true_eq_false, Bool.false_eq_true, Bool.not_true, Bool.not_false, bZ_t, bZ_f, zI_b0, zI_b1, zI_bb, okZ_0, okZ_1, n1, a1, b1, h4, c1, hk3, h5, hn3, hi, h6, p1, r1, w, hA, isK, eb, E7114_14]
        · rw [if_neg (by simp [h5])]
          refine ⟨bdT T3 1, ?_, fr3.tr (LF.of bd_pf), rd_fl R4 (fun _ => rfl)⟩
          rw [E7114_14]
          simp (disch := omega) only [jc_ref, rI_int, rR_ref, rR_null, rJ_long, ckR_ref, ckR_null, ckr_ref, ckr_null, ckW_int, ckW_ref, ckW_null, cI_ok, cR_ok, cR_null, cV_ok, cJ_ok, qH_eq, qD_in, aG_ref, aS_ref, aL_ref, pF_ref, cK_ref, cK_null, zI_lit, zJ_lit, zI_add, zI_sub, zI_mul, zI_neg, zI_eq, zI_lt, zI_le, Int.reduceLT, Int.reduceLE, Int.reduceAdd, Int.reduceSub, Int.reduceMul, Int.reduceNeg, Int.reduceEq, Int.reduceNe, reduceIte, tw_0, tw_1, tw_2, tw_3, tw_4, tw_5, tw_6, tw_7, tw_8, tw_9, tw_10, tw_11, tw_12, tw_13, tw_14, tw_15, tw_16, tw_17, tw_18, tw_19, tw_20, tw_21, tw_22, tw_23, tw_24, tw_25, tw_26, tw_27, tw_28, tw_29, tw_30, tw_31, ob_0, ob_1, ob_2, ob_3, ob_4, ob_5, ob_6, ob_7, ob_8, ob_9, ob_10, ob_11, ob_12, ob_13, ob_14, ob_15, ob_16, ob_17, ob_18, ob_19, ob_20, ob_21, ob_22, ob_23, ob_24, ob_25, ob_26, ob_27, ob_28, ob_29, ob_30, ob_31, ob_32, ob_33, ob_34, ob_35, ob_36, ob_37, ob_38, ob_39, ob_40, ob_41, ob_42, ob_43, ob_44, ob_45, ob_46, ob_47, ob_48, ob_49, ob_50, ob_51, ob_52, ob_53, ob_54, ob_55, ob_56, ob_57, ob_58, ob_59, ob_60, ob_61, ob_62, ob_63, ob_64, ob_65, jf7, aGi, aGb, aGz, aGj, leT, leF, ltT, ltF, eqT, eqF, tws_0, tws_1, tws_2, tws_3, tws_4, tws_5, tws_6, tws_7, tws_8, tws_9, tws_10, tws_11, tws_12, tws_13, tws_14, tws_15, tws_16, tws_17, tws_18, tws_19, tws_20, tws_21, tws_22, tws_23, tws_24, tws_25, tws_26, tws_27, tws_28, tws_29, tws_30, tws_31, obs_0, obs_2, obs_3, obs_4, obs_5, obs_12, obs_13, obs_14, obs_15, obs_16, obs_17, obs_18, obs_19, obs_20, obs_21, obs_22, obs_26, obs_31, obs_32, obs_33, obs_34, obs_35, obs_41, obs_42, obs_44, obs_48, obs_50, obs_51, obs_52, obs_55, obs_57, obs_58, obs_59, obs_60, obs_61, pF7i, pF7z, pF7j, aSi, aSj, aSb1, aSb24, aSb28, aSb31, ts, tg_eq, tg_ne, tg_tg, fset_eq, fset_ne, beq_tt, beq_tf, beq_ft, beq_ff, Bool.true_and, Bool.false_and, Bool.and_true, Bool.and_false, Bool.true_or, Bool.false_or, Bool.or_true, Bool.or_false, Bool.true_eq_false, Bool.false_eq_true, Bool.not_true, Bool.not_false, bZ_t, bZ_f, zI_b0, zI_b1, zI_bb, okZ_0, okZ_1, n1, a1, b1, h4, c1, hk3, h5, tm_bad, isK, eb, okZ_b]
end
