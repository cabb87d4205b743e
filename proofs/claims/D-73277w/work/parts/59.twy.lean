/-! the twin's schema(), feed, end, fault, count -/
/-- f from lo to hi, g elsewhere -/
def bl (lo hi : Int) (f g : Int → Int) : Int → Int := fun x => if lo ≤ x ∧ x < hi then f x else g x
theorem bl_end {lo hi : Int} {f g : Int → Int} (h : hi ≤ lo) : bl lo hi f g = g := by
  funext x; unfold bl; rw [if_neg (by omega)]
theorem bl_step {i hi : Int} {f g : Int → Int} (h : i < hi) : bl (i + 1) hi f (fset g i (f i)) = bl i hi f g := by
  funext x
  unfold bl
  by_cases h1 : i + 1 ≤ x ∧ x < hi
  · rw [if_pos h1, if_pos (by omega)]
  · rw [if_neg h1]
    by_cases h2 : x = i
    · subst h2; rw [fset_eq, if_pos (by omega)]
    · rw [fset_ne h2, if_neg (by omega)]
def SG (T T' : Nat → Int → Int) : Prop := (∀ k, k ≠ 0 → k ≠ 3 → k ≠ 6 → T' k = T k) ∧ (∀ i : Int, (i ≤ 3 ∨ i = 5 ∨ 23 ≤ i) → T' 0 i = T 0 i) ∧ (∀ i : Int, (i < 20 ∨ 40 ≤ i) → T' 6 i = T 6 i) ∧ (NmOk T → NmOk T')
theorem SG.of {T T' : Nat → Int → Int} (p : SF T T') : SG T T' := ⟨p.1, fun i hi => p.2.1 i (by omega), p.2.2⟩
theorem SG.tr {T T' T'' : Nat → Int → Int} (a : SG T T') (b : SG T' T'') : SG T T'' := ⟨fun k h0 h3 h6 => (b.1 k h0 h3 h6).trans (a.1 k h0 h3 h6), fun i hi => (b.2.1 i hi).trans (a.2.1 i hi), fun i hi => (b.2.2.1 i hi).trans (a.2.2.1 i hi), fun h => b.2.2.2 (a.2.2.2 h)⟩
theorem SG.l {T : Nat → Int → Int} {v : Int} : SG T (ts T 0 20 v) := ⟨fun k h0 _ _ => ts_ne h0, fun i hi => by rw [ts_eq, fset_ne (by omega)], fun i _ => by rw [ts_ne (by decide)], fun hN i => by rw [ts_ne (by decide)]; exact hN i⟩
section
variable {g : Int → Int} {z l : Int} {d m : Nat} {T : Nat → Int → Int} {h : AH} {q : Int}
theorem nxt_gt3 (h : kd g z l q = 3) : q < nxt g z l q := by
  obtain ⟨h1, h2, h3, -⟩ := kd3 h
  have b := sk_le_self (g := g) (z := z) (p := q)
  unfold nxt
  rw [if_neg (by rw [h1]; decide), if_neg (by omega), if_pos h3]
  omega
theorem sch_loop {i1 : Int32} : ∀ (n : Nat) (T : Nat → Int → Int) (q ln : Int), Rd g z l T q → HsW (T 3) → T 0 20 = ln → (z - q).toNat + 1 ≤ n →
    ∃ T', SG T T' ∧ match linesP g z l n (T 3) (T 6) ln q with
      | .error e => G (d + 8) 7099 64 [.ref m, .int i1] [] (tw m T h) = some (.inl (some (.int (zI (-1 - e.2)))), tw m T' h) ∧ Fl T' e
      | .ok a => G (d + 8) 7099 64 [.ref m, .int i1] [] (tw m T h) = G (d + 8) 7099 109 [.ref m, .int (zI 0)] [] (tw m T' h) ∧ T' 3 = a.1 ∧ T' 6 = a.2.1 ∧ T' 0 20 = a.2.2 ∧ T' 0 16 = 0 ∧ HsW a.1 ∧ NmOk T' := by
  intro n
  induction n with
  | zero => intro T q ln R W hl hn; omega
  | succ n ih =>
    intro T q ln R W hl hn
    have hk := R.k12
    obtain ⟨r1, r2⟩ : 0 ≤ kd g z l q ∧ kd g z l q ≤ 4 := kd_rg _
    simp only [linesP]
    rw [E7099_64]
    by_cases h0 : kd g z l q = 0
    · rw [if_pos h0]
      refine ⟨T, ⟨fun _ _ _ _ => rfl, fun _ _ => rfl, fun _ _ => rfl, fun h => h⟩, ?_, rfl, rfl, hl, R.2.2.2.2.2, W, R.2.2.2.1⟩
      simp (disch := omega) only [jc_ref, rI_int, rR_ref, rR_null, rJ_long, ckR_ref, ckR_null, ckr_ref, ckr_null, ckW_int, ckW_ref, ckW_null, cI_ok, cR_ok, cR_null, cV_ok, cJ_ok, qH_eq, qD_in, aG_ref, aS_ref, aL_ref, pF_ref, cK_ref, cK_null, zI_lit, zJ_lit, zI_add, zI_sub, zI_mul, zI_neg, zI_eq, zI_lt, zI_le, Int.reduceLT, Int.reduceLE, Int.reduceAdd, Int.reduceSub, Int.reduceMul, Int.reduceNeg, Int.reduceEq, Int.reduceNe, reduceIte, tw_0, tw_1, tw_2, tw_3, tw_4, tw_5, tw_6, tw_7, tw_8, tw_9, tw_10, tw_11, tw_12, tw_13, tw_14, tw_15, tw_16, tw_17, tw_18, tw_19, tw_20, tw_21, tw_22, tw_23, tw_24, tw_25, tw_26, tw_27, tw_28, tw_29, tw_30, tw_31, ob_0, ob_1, ob_2, ob_3, ob_4, ob_5, ob_6, ob_7, ob_8, ob_9, ob_10, ob_11, ob_12, ob_13, ob_14, ob_15, ob_16, ob_17, ob_18, ob_19, ob_20, ob_21, ob_22, ob_23, ob_24, ob_25, ob_26, ob_27, ob_28, ob_29, ob_30, ob_31, ob_32, ob_33, ob_34, ob_35, ob_36, ob_37, ob_38, ob_39, ob_40, ob_41, ob_42, ob_43, ob_44, ob_45, ob_46, ob_47, ob_48, ob_49, ob_50, ob_51, ob_52, ob_53, ob_54, ob_55, ob_56, ob_57, ob_58, ob_59, ob_60, ob_61, ob_62, ob_63, ob_64, ob_65, jf7, aGi, aGb, aGz, aGj, leT, leF, ltT, ltF, eqT, eqF, hk, h0]
    · rw [if_neg h0]
      obtain ⟨T1, a1, a2, a3⟩ := tm_readLine (d := d + 1) (m := m) (h := h) R W.1
      cases hr : lineP g z l (T 3) (T 6) q with
      | error e =>
        rw [hr] at a1 a3
        refine ⟨T1, SG.of a2, ?_, a3⟩
        have := a3.2
        simp (disch := omega) only [jc_ref, rI_int, rR_ref, rR_null, rJ_long, ckR_ref, ckR_null, ckr_ref, ckr_null, ckW_int, ckW_ref, ckW_null, cI_ok, cR_ok, cR_null, cV_ok, cJ_ok, qH_eq, qD_in, aG_ref, aS_ref, aL_ref, pF_ref, cK_ref, cK_null, zI_lit, zJ_lit, zI_add, zI_sub, zI_mul, zI_neg, zI_eq, zI_lt, zI_le, Int.reduceLT, Int.reduceLE, Int.reduceAdd, Int.reduceSub, Int.reduceMul, Int.reduceNeg, Int.reduceEq, Int.reduceNe, reduceIte, tw_0, tw_1, tw_2, tw_3, tw_4, tw_5, tw_6, tw_7, tw_8, tw_9, tw_10, tw_11, tw_12, tw_13, tw_14, tw_15, tw_16, tw_17, tw_18, tw_19, tw_20, tw_21, tw_22, tw_23, tw_24, tw_25, tw_26, tw_27, tw_28, tw_29, tw_30, tw_31, ob_0, ob_1, ob_2, ob_3, ob_4, ob_5, ob_6, ob_7, ob_8, ob_9, ob_10, ob_11, ob_12, ob_13, ob_14, ob_15, ob_16, ob_17, ob_18, ob_19, ob_20, ob_21, ob_22, ob_23, ob_24, ob_25, ob_26, ob_27, ob_28, ob_29, ob_30, ob_31, ob_32, ob_33, ob_34, ob_35, ob_36, ob_37, ob_38, ob_39, ob_40, ob_41, ob_42, ob_43, ob_44, ob_45, ob_46, ob_47, ob_48, ob_49, ob_50, ob_51, ob_52, ob_53, ob_54, ob_55, ob_56, ob_57, ob_58, ob_59, ob_60, ob_61, ob_62, ob_63, ob_64, ob_65, jf7, aGi, aGb, aGz, aGj, leT, leF, ltT, ltF, eqT, eqF, hk, h0, a1, isK, beq_tt, beq_tf, beq_ft, beq_ff, Bool.true_and, Bool.false_and, Bool.and_true, Bool.and_false, Bool.true_or, Bool.false_or, Bool.or_true, Bool.or_false, Bool.true_eq_false, Bool.false_eq_true, Bool.not_true, Bool.not_false, bZ_t, bZ_f, zI_b0, zI_b1, zI_bb, okZ_0, okZ_1, this]
      | ok a =>
        rw [hr] at a1 a3
        obtain ⟨c1, c2, R1⟩ := a3
        obtain ⟨W1, hq⟩ := line_W W hr
        rw [eb_ok]
        obtain ⟨T2, b1, b2, b3⟩ := rd_sign (d := d + 5) (m := m) (h := h) (c := 59) R1 (by omega) (by omega)
        cases hr2 : signP g z l 59 a.2.2 with
        | error e =>
          rw [hr2] at b1 b3
          refine ⟨T2, (SG.of a2).tr (SG.of (SF.of b2)), ?_, b3⟩
          have := b3.2
          simp (disch := omega) only [jc_ref, rI_int, rR_ref, rR_null, rJ_long, ckR_ref, ckR_null, ckr_ref, ckr_null, ckW_int, ckW_ref, ckW_null, cI_ok, cR_ok, cR_null, cV_ok, cJ_ok, qH_eq, qD_in, aG_ref, aS_ref, aL_ref, pF_ref, cK_ref, cK_null, zI_lit, zJ_lit, zI_add, zI_sub, zI_mul, zI_neg, zI_eq, zI_lt, zI_le, Int.reduceLT, Int.reduceLE, Int.reduceAdd, Int.reduceSub, Int.reduceMul, Int.reduceNeg, Int.reduceEq, Int.reduceNe, reduceIte, tw_0, tw_1, tw_2, tw_3, tw_4, tw_5, tw_6, tw_7, tw_8, tw_9, tw_10, tw_11, tw_12, tw_13, tw_14, tw_15, tw_16, tw_17, tw_18, tw_19, tw_20, tw_21, tw_22, tw_23, tw_24, tw_25, tw_26, tw_27, tw_28, tw_29, tw_30, tw_31, ob_0, ob_1, ob_2, ob_3, ob_4, ob_5, ob_6, ob_7, ob_8, ob_9, ob_10, ob_11, ob_12, ob_13, ob_14, ob_15, ob_16, ob_17, ob_18, ob_19, ob_20, ob_21, ob_22, ob_23, ob_24, ob_25, ob_26, ob_27, ob_28, ob_29, ob_30, ob_31, ob_32, ob_33, ob_34, ob_35, ob_36, ob_37, ob_38, ob_39, ob_40, ob_41, ob_42, ob_43, ob_44, ob_45, ob_46, ob_47, ob_48, ob_49, ob_50, ob_51, ob_52, ob_53, ob_54, ob_55, ob_56, ob_57, ob_58, ob_59, ob_60, ob_61, ob_62, ob_63, ob_64, ob_65, jf7, aGi, aGb, aGz, aGj, leT, leF, ltT, ltF, eqT, eqF, hk, h0, a1, isK, beq_tt, beq_tf, beq_ft, beq_ff, Bool.true_and, Bool.false_and, Bool.and_true, Bool.and_false, Bool.true_or, Bool.false_or, Bool.or_true, Bool.or_false, Bool.true_eq_false, Bool.false_eq_true, Bool.not_true, Bool.not_false, bZ_t, bZ_f, zI_b0, zI_b1, zI_bb, okZ_0, okZ_1, b1, this]
        | ok q' =>
          rw [hr2] at b1 b3
          obtain ⟨e1, R2⟩ := b3
          rw [eb_ok]
          have hq2 : a.2.2 < q' := by
            unfold signP at hr2
            split at hr2
            · rename_i hs
              rw [e1]
              exact nxt_gt3 (by simp only [isS, decide_eq_true_eq] at hs; exact hs.1)
            · cases hr2
          have hz := R2.q0
          have k20 : T2 0 20 = ln := by rw [b2.2 20 (by omega), a2.2.1 20 (by omega), hl]
          have R3 : Rd g z l (ts T2 0 20 (ln + 1)) q' := R2.st (by omega)
          have e3 : (ts T2 0 20 (ln + 1)) 3 = a.1 := by rw [ts_ne (by decide), b2.1 3 (by decide), c1]
          have e6 : (ts T2 0 20 (ln + 1)) 6 = a.2.1 := by rw [ts_ne (by decide), b2.1 6 (by decide), c2]
          obtain ⟨T', s1, s2⟩ := ih (ts T2 0 20 (ln + 1)) q' (ln + 1) R3 (by rw [e3]; exact W1) (by rw [ts_eq, fset_eq]) (by omega)
          rw [e3, e6] at s2
          refine ⟨T', (SG.of (a2.tr (SF.of b2))).tr (SG.l.tr s1), ?_⟩
          have key : ∀ X : Rz, G (d + 8) 7099 64 [.ref m, .int i1] [] (tw m (ts T2 0 20 (ln + 1)) h) = X → (zpI (jf (jc (tw m T h) (.ref m)) [7] 12) (fun x1 => if x1 = 0 then (G (d + 8) 7099 109 [.ref m, .int 0] [] (tw m T h)) else (zcI (M (d + 8) 7084 [.ref m] (tw m T h)) (fun x2 h3 => if x2 = 0 then (zpI (jf (jc h3 (.ref m)) [7] 17) (fun x4 => some (.inl (some (.int ((-1) - x4))), h3)) ()) else (zcI (M (d + 8) 7102 [.ref m, .int 59] h3) (fun x5 h6 => if x5 = 0 then (zpI (jf (jc h6 (.ref m)) [7] 17) (fun x7 => some (.inl (some (.int ((-1) - x7))), h6)) ()) else (zpI (jf (jc h6 (.ref m)) [7] 20) (fun x8 => zqF h6 (.ref m) [7] 20 0 (.int (x8 + 1)) (fun h9 => G (d + 8) 7099 64 [.ref m, .int i1] [] h9) ()) ())) ())) ())) ()) = X := by
            intro X hX
            rw [← hX]
            simp (disch := omega) only [jc_ref, rI_int, rR_ref, rR_null, rJ_long, ckR_ref, ckR_null, ckr_ref, ckr_null, ckW_int, ckW_ref, ckW_null, cI_ok, cR_ok, cR_null, cV_ok, cJ_ok, qH_eq, qD_in, aG_ref, aS_ref, aL_ref, pF_ref, cK_ref, cK_null, zI_lit, zJ_lit, zI_add, zI_sub, zI_mul, zI_neg, zI_eq, zI_lt, zI_le, Int.reduceLT, Int.reduceLE, Int.reduceAdd, Int.reduceSub, Int.reduceMul, Int.reduceNeg, Int.reduceEq, Int.reduceNe, reduceIte, tw_0, tw_1, tw_2, tw_3, tw_4, tw_5, tw_6, tw_7, tw_8, tw_9, tw_10, tw_11, tw_12, tw_13, tw_14, tw_15, tw_16, tw_17, tw_18, tw_19, tw_20, tw_21, tw_22, tw_23, tw_24, tw_25, tw_26, tw_27, tw_28, tw_29, tw_30, tw_31, ob_0, ob_1, ob_2, ob_3, ob_4, ob_5, ob_6, ob_7, ob_8, ob_9, ob_10, ob_11, ob_12, ob_13, ob_14, ob_15, ob_16, ob_17, ob_18, ob_19, ob_20, ob_21, ob_22, ob_23, ob_24, ob_25, ob_26, ob_27, ob_28, ob_29, ob_30, ob_31, ob_32, ob_33, ob_34, ob_35, ob_36, ob_37, ob_38, ob_39, ob_40, ob_41, ob_42, ob_43, ob_44, ob_45, ob_46, ob_47, ob_48, ob_49, ob_50, ob_51, ob_52, ob_53, ob_54, ob_55, ob_56, ob_57, ob_58, ob_59, ob_60, ob_61, ob_62, ob_63, ob_64, ob_65, jf7, aGi, aGb, aGz, aGj, leT, leF, ltT, ltF, eqT, eqF, tws_0, tws_1, tws_2, tws_3, tws_4, tws_5, tws_6, tws_7, tws_8, tws_9, tws_10, tws_11, tws_12, tws_13, tws_14, tws_15, tws_16, tws_17, tws_18, tws_19, tws_20, tws_21, tws_22, tws_23, tws_24, tws_25, tws_26, tws_27, tws_28, tws_29, tws_30, tws_31, obs_0, obs_2, obs_3, obs_4, obs_5, obs_12, obs_13, obs_14, obs_15, obs_16, obs_17, obs_18, obs_19, obs_20, obs_21, obs_22, obs_26, obs_31, obs_32, obs_33, obs_34, obs_35, obs_41, obs_42, obs_44, obs_48, obs_50, obs_51, obs_52, obs_55, obs_57, obs_58, obs_59, obs_60, obs_61, pF7i, pF7z, pF7j, aSi, aSj, aSb1, aSb24, aSb28, aSb31, ts, tg_eq, tg_ne, tg_tg, fset_eq, fset_ne, hk, h0, a1, isK, beq_tt, beq_tf, beq_ft, beq_ff, Bool.true_and, Bool.false_and, Bool.and_true, Bool.and_false, Bool.true_or, Bool.false_or, Bool.or_true, Bool.or_false, Bool.true_eq_false, Bool.false_eq_true, Bool.not_true, Bool.not_false, bZ_t, bZ_f, zI_b0, zI_b1, zI_bb, okZ_0, okZ_1, b1, k20]
          cases hr3 : linesP g z l n a.1 a.2.1 (ln + 1) q' with
          | error e => rw [hr3] at s2; exact ⟨key _ s2.1, s2.2⟩
          | ok b => rw [hr3] at s2; exact ⟨key _ s2.1, s2.2⟩
theorem sch_109 : ∀ (j : Nat) (i : Int) (T : Nat → Int → Int), 0 ≤ i → i + j = 1420 → G d 7099 109 [.ref m, .int (zI i)] [] (tw m T h) = G d 7099 147 [.ref m, .int (zI 0)] [] (tw m (tg T 2 (bl i 1420 (fun x => if x < 148 then T 3 x else 0) (T 2))) h) := by
  intro j
  induction j with
  | zero =>
    intro i T h0 hj
    rw [E7099_109, bl_end (by omega), tg_self]
    simp (disch := omega) only [jc_ref, rI_int, rR_ref, rR_null, rJ_long, ckR_ref, ckR_null, ckr_ref, ckr_null, ckW_int, ckW_ref, ckW_null, cI_ok, cR_ok, cR_null, cV_ok, cJ_ok, qH_eq, qD_in, aG_ref, aS_ref, aL_ref, pF_ref, cK_ref, cK_null, zI_lit, zJ_lit, zI_add, zI_sub, zI_mul, zI_neg, zI_eq, zI_lt, zI_le, Int.reduceLT, Int.reduceLE, Int.reduceAdd, Int.reduceSub, Int.reduceMul, Int.reduceNeg, Int.reduceEq, Int.reduceNe, reduceIte, tw_0, tw_1, tw_2, tw_3, tw_4, tw_5, tw_6, tw_7, tw_8, tw_9, tw_10, tw_11, tw_12, tw_13, tw_14, tw_15, tw_16, tw_17, tw_18, tw_19, tw_20, tw_21, tw_22, tw_23, tw_24, tw_25, tw_26, tw_27, tw_28, tw_29, tw_30, tw_31, ob_0, ob_1, ob_2, ob_3, ob_4, ob_5, ob_6, ob_7, ob_8, ob_9, ob_10, ob_11, ob_12, ob_13, ob_14, ob_15, ob_16, ob_17, ob_18, ob_19, ob_20, ob_21, ob_22, ob_23, ob_24, ob_25, ob_26, ob_27, ob_28, ob_29, ob_30, ob_31, ob_32, ob_33, ob_34, ob_35, ob_36, ob_37, ob_38, ob_39, ob_40, ob_41, ob_42, ob_43, ob_44, ob_45, ob_46, ob_47, ob_48, ob_49, ob_50, ob_51, ob_52, ob_53, ob_54, ob_55, ob_56, ob_57, ob_58, ob_59, ob_60, ob_61, ob_62, ob_63, ob_64, ob_65, jf7, aGi, aGb, aGz, aGj, leT, leF, ltT, ltF, eqT, eqF]
  | succ j ih =>
    intro i T h0 hj
    have ih' := ih (i + 1) (tg T 2 (fset (T 2) i (if i < 148 then T 3 i else 0))) (by omega) (by omega)
    rw [tg_tg, tg_eq, tg_ne (show (3 : Nat) ≠ 2 by decide), bl_step (f := fun x => if x < 148 then T 3 x else 0) (by omega)] at ih'
    rw [← ih', E7099_109]
    by_cases h1 : i < 148
    · simp (disch := omega) only [jc_ref, rI_int, rR_ref, rR_null, rJ_long, ckR_ref, ckR_null, ckr_ref, ckr_null, ckW_int, ckW_ref, ckW_null, cI_ok, cR_ok, cR_null, cV_ok, cJ_ok, qH_eq, qD_in, aG_ref, aS_ref, aL_ref, pF_ref, cK_ref, cK_null, zI_lit, zJ_lit, zI_add, zI_sub, zI_mul, zI_neg, zI_eq, zI_lt, zI_le, Int.reduceLT, Int.reduceLE, Int.reduceAdd, Int.reduceSub, Int.reduceMul, Int.reduceNeg, Int.reduceEq, Int.reduceNe, reduceIte, tw_0, tw_1, tw_2, tw_3, tw_4, tw_5, tw_6, tw_7, tw_8, tw_9, tw_10, tw_11, tw_12, tw_13, tw_14, tw_15, tw_16, tw_17, tw_18, tw_19, tw_20, tw_21, tw_22, tw_23, tw_24, tw_25, tw_26, tw_27, tw_28, tw_29, tw_30, tw_31, ob_0, ob_1, ob_2, ob_3, ob_4, ob_5, ob_6, ob_7, ob_8, ob_9, ob_10, ob_11, ob_12, ob_13, ob_14, ob_15, ob_16, ob_17, ob_18, ob_19, ob_20, ob_21, ob_22, ob_23, ob_24, ob_25, ob_26, ob_27, ob_28, ob_29, ob_30, ob_31, ob_32, ob_33, ob_34, ob_35, ob_36, ob_37, ob_38, ob_39, ob_40, ob_41, ob_42, ob_43, ob_44, ob_45, ob_46, ob_47, ob_48, ob_49, ob_50, ob_51, ob_52, ob_53, ob_54, ob_55, ob_56, ob_57, ob_58, ob_59, ob_60, ob_61, ob_62, ob_63, ob_64, ob_65, jf7, aGi, aGb, aGz, aGj, leT, leF, ltT, ltF, eqT, eqF, tws_0, tws_1, tws_2, tws_3, tws_4, tws_5, tws_6, tws_7, tws_8, tws_9, tws_10, tws_11, tws_12, tws_13, tws_14, tws_15, tws_16, tws_17, tws_18, tws_19, tws_20, tws_21, tws_22, tws_23, tws_24, tws_25, tws_26, tws_27, tws_28, tws_29, tws_30, tws_31, obs_0, obs_2, obs_3, obs_4, obs_5, obs_12, obs_13, obs_14, obs_15, obs_16, obs_17, obs_18, obs_19, obs_20, obs_21, obs_22, obs_26, obs_31, obs_32, obs_33, obs_34, obs_35, obs_41, obs_42, obs_44, obs_48, obs_50, obs_51, obs_52, obs_55, obs_57, obs_58, obs_59, obs_60, obs_61, pF7i, pF7z, pF7j, aSi, aSj, aSb1, aSb24, aSb28, aSb31, ts, tg_eq, tg_ne, tg_tg, fset_eq, fset_ne, h1, if_true]
    · simp (disch := omega) only [jc_ref, rI_int, rR_ref, rR_null, rJ_long, ckR_ref, ckR_null, ckr_ref, ckr_null, ckW_int, ckW_ref, ckW_null, cI_ok, cR_ok, cR_null, cV_ok, cJ_ok, qH_eq, qD_in, aG_ref, aS_ref, aL_ref, pF_ref, cK_ref, cK_null, zI_lit, zJ_lit, zI_add, zI_sub, zI_mul, zI_neg, zI_eq, zI_lt, zI_le, Int.reduceLT, Int.reduceLE, Int.reduceAdd, Int.reduceSub, Int.reduceMul, Int.reduceNeg, Int.reduceEq, Int.reduceNe, reduceIte, tw_0, tw_1, tw_2, tw_3, tw_4, tw_5, tw_6, tw_7, tw_8, tw_9, tw_10, tw_11, tw_12, tw_13, tw_14, tw_15, tw_16, tw_17, tw_18, tw_19, tw_20, tw_21, tw_22, tw_23, tw_24, tw_25, tw_26, tw_27, tw_28, tw_29, tw_30, tw_31, ob_0, ob_1, ob_2, ob_3, ob_4, ob_5, ob_6, ob_7, ob_8, ob_9, ob_10, ob_11, ob_12, ob_13, ob_14, ob_15, ob_16, ob_17, ob_18, ob_19, ob_20, ob_21, ob_22, ob_23, ob_24, ob_25, ob_26, ob_27, ob_28, ob_29, ob_30, ob_31, ob_32, ob_33, ob_34, ob_35, ob_36, ob_37, ob_38, ob_39, ob_40, ob_41, ob_42, ob_43, ob_44, ob_45, ob_46, ob_47, ob_48, ob_49, ob_50, ob_51, ob_52, ob_53, ob_54, ob_55, ob_56, ob_57, ob_58, ob_59, ob_60, ob_61, ob_62, ob_63, ob_64, ob_65, jf7, aGi, aGb, aGz, aGj, leT, leF, ltT, ltF, eqT, eqF, tws_0, tws_1, tws_2, tws_3, tws_4, tws_5, tws_6, tws_7, tws_8, tws_9, tws_10, tws_11, tws_12, tws_13, tws_14, tws_15, tws_16, tws_17, tws_18, tws_19, tws_20, tws_21, tws_22, tws_23, tws_24, tws_25, tws_26, tws_27, tws_28, tws_29, tws_30, tws_31, obs_0, obs_2, obs_3, obs_4, obs_5, obs_12, obs_13, obs_14, obs_15, obs_16, obs_17, obs_18, obs_19, obs_20, obs_21, obs_22, obs_26, obs_31, obs_32, obs_33, obs_34, obs_35, obs_41, obs_42, obs_44, obs_48, obs_50, obs_51, obs_52, obs_55, obs_57, obs_58, obs_59, obs_60, obs_61, pF7i, pF7z, pF7j, aSi, aSj, aSb1, aSb24, aSb28, aSb31, ts, tg_eq, tg_ne, tg_tg, fset_eq, fset_ne, h1, if_false]
theorem sch_147 : ∀ (j : Nat) (i : Int) (T : Nat → Int → Int), 0 ≤ i → i + j = 20 → G d 7099 147 [.ref m, .int (zI i)] [] (tw m T h) = some (.inl (some (.int (zI (T 0 20)))), tw m (ts (tg T 6 (bl i 20 (fun x => T 6 (20 + x)) (T 6))) 0 44 0) h) := by
  intro j
  induction j with
  | zero =>
    intro i T h0 hj
    rw [E7099_147, bl_end (by omega), tg_self]
    simp (disch := omega) only [jc_ref, rI_int, rR_ref, rR_null, rJ_long, ckR_ref, ckR_null, ckr_ref, ckr_null, ckW_int, ckW_ref, ckW_null, cI_ok, cR_ok, cR_null, cV_ok, cJ_ok, qH_eq, qD_in, aG_ref, aS_ref, aL_ref, pF_ref, cK_ref, cK_null, zI_lit, zJ_lit, zI_add, zI_sub, zI_mul, zI_neg, zI_eq, zI_lt, zI_le, Int.reduceLT, Int.reduceLE, Int.reduceAdd, Int.reduceSub, Int.reduceMul, Int.reduceNeg, Int.reduceEq, Int.reduceNe, reduceIte, tw_0, tw_1, tw_2, tw_3, tw_4, tw_5, tw_6, tw_7, tw_8, tw_9, tw_10, tw_11, tw_12, tw_13, tw_14, tw_15, tw_16, tw_17, tw_18, tw_19, tw_20, tw_21, tw_22, tw_23, tw_24, tw_25, tw_26, tw_27, tw_28, tw_29, tw_30, tw_31, ob_0, ob_1, ob_2, ob_3, ob_4, ob_5, ob_6, ob_7, ob_8, ob_9, ob_10, ob_11, ob_12, ob_13, ob_14, ob_15, ob_16, ob_17, ob_18, ob_19, ob_20, ob_21, ob_22, ob_23, ob_24, ob_25, ob_26, ob_27, ob_28, ob_29, ob_30, ob_31, ob_32, ob_33, ob_34, ob_35, ob_36, ob_37, ob_38, ob_39, ob_40, ob_41, ob_42, ob_43, ob_44, ob_45, ob_46, ob_47, ob_48, ob_49, ob_50, ob_51, ob_52, ob_53, ob_54, ob_55, ob_56, ob_57, ob_58, ob_59, ob_60, ob_61, ob_62, ob_63, ob_64, ob_65, jf7, aGi, aGb, aGz, aGj, leT, leF, ltT, ltF, eqT, eqF, tws_0, tws_1, tws_2, tws_3, tws_4, tws_5, tws_6, tws_7, tws_8, tws_9, tws_10, tws_11, tws_12, tws_13, tws_14, tws_15, tws_16, tws_17, tws_18, tws_19, tws_20, tws_21, tws_22, tws_23, tws_24, tws_25, tws_26, tws_27, tws_28, tws_29, tws_30, tws_31, obs_0, obs_2, obs_3, obs_4, obs_5, obs_12, obs_13, obs_14, obs_15, obs_16, obs_17, obs_18, obs_19, obs_20, obs_21, obs_22, obs_26, obs_31, obs_32, obs_33, obs_34, obs_35, obs_41, obs_42, obs_44, obs_48, obs_50, obs_51, obs_52, obs_55, obs_57, obs_58, obs_59, obs_60, obs_61, pF7i, pF7z, pF7j, aSi, aSj, aSb1, aSb24, aSb28, aSb31, ts, tg_eq, tg_ne, tg_tg, fset_eq, fset_ne]
  | succ j ih =>
    intro i T h0 hj
    have ih' := ih (i + 1) (tg T 6 (fset (T 6) i (T 6 (20 + i)))) (by omega) (by omega)
    have e : bl (i + 1) 20 (fun x => fset (T 6) i (T 6 (20 + i)) (20 + x)) (fset (T 6) i (T 6 (20 + i))) = bl i 20 (fun x => T 6 (20 + x)) (T 6) := by
      rw [← bl_step (f := fun x => T 6 (20 + x)) (show i < 20 by omega)]
      funext x
      unfold bl
      by_cases hx : i + 1 ≤ x ∧ x < 20
      · rw [if_pos hx, if_pos hx]; exact fset_ne (by omega)
      · rw [if_neg hx, if_neg hx]
    rw [tg_tg, tg_eq, tg_ne (show (0 : Nat) ≠ 6 by decide), e] at ih'
    rw [← ih', E7099_147]
    simp (disch := omega) only [jc_ref, rI_int, rR_ref, rR_null, rJ_long, ckR_ref, ckR_null, ckr_ref, ckr_null, ckW_int, ckW_ref, ckW_null, cI_ok, cR_ok, cR_null, cV_ok, cJ_ok, qH_eq, qD_in, aG_ref, aS_ref, aL_ref, pF_ref, cK_ref, cK_null, zI_lit, zJ_lit, zI_add, zI_sub, zI_mul, zI_neg, zI_eq, zI_lt, zI_le, Int.reduceLT, Int.reduceLE, Int.reduceAdd, Int.reduceSub, Int.reduceMul, Int.reduceNeg, Int.reduceEq, Int.reduceNe, reduceIte, tw_0, tw_1, tw_2, tw_3, tw_4, tw_5, tw_6, tw_7, tw_8, tw_9, tw_10, tw_11, tw_12, tw_13, tw_14, tw_15, tw_16, tw_17, tw_18, tw_19, tw_20, tw_21, tw_22, tw_23, tw_24, tw_25, tw_26, tw_27, tw_28, tw_29, tw_30, tw_31, ob_0, ob_1, ob_2, ob_3, ob_4, ob_5, ob_6, ob_7, ob_8, ob_9, ob_10, ob_11, ob_12, ob_13, ob_14, ob_15, ob_16, ob_17, ob_18, ob_19, ob_20, ob_21, ob_22, ob_23, ob_24, ob_25, ob_26, ob_27, ob_28, ob_29, ob_30, ob_31, ob_32, ob_33, ob_34, ob_35, ob_36, ob_37, ob_38, ob_39, ob_40, ob_41, ob_42, ob_43, ob_44, ob_45, ob_46, ob_47, ob_48, ob_49, ob_50, ob_51, ob_52, ob_53, ob_54, ob_55, ob_56, ob_57, ob_58, ob_59, ob_60, ob_61, ob_62, ob_63, ob_64, ob_65, jf7, aGi, aGb, aGz, aGj, leT, leF, ltT, ltF, eqT, eqF, tws_0, tws_1, tws_2, tws_3, tws_4, tws_5, tws_6, tws_7, tws_8, tws_9, tws_10, tws_11, tws_12, tws_13, tws_14, tws_15, tws_16, tws_17, tws_18, tws_19, tws_20, tws_21, tws_22, tws_23, tws_24, tws_25, tws_26, tws_27, tws_28, tws_29, tws_30, tws_31, obs_0, obs_2, obs_3, obs_4, obs_5, obs_12, obs_13, obs_14, obs_15, obs_16, obs_17, obs_18, obs_19, obs_20, obs_21, obs_22, obs_26, obs_31, obs_32, obs_33, obs_34, obs_35, obs_41, obs_42, obs_44, obs_48, obs_50, obs_51, obs_52, obs_55, obs_57, obs_58, obs_59, obs_60, obs_61, pF7i, pF7z, pF7j, aSi, aSj, aSb1, aSb24, aSb28, aSb31, ts, tg_eq, tg_ne, tg_tg, fset_eq, fset_ne]
theorem sch_24 : ∀ (j : Nat) (i : Int) (T : Nat → Int → Int), 0 ≤ i → i + j = 148 → G d 7099 24 [.ref m, .int (zI i)] [] (tw m T h) = G d 7099 24 [.ref m, .int (zI 148)] [] (tw m (tg T 3 (bl i 148 hs0 (T 3))) h) := by
  intro j
  induction j with
  | zero =>
    intro i T h0 hj
    rw [bl_end (by omega), tg_self, show i = 148 by omega]
  | succ j ih =>
    intro i T h0 hj
    have ih' := ih (i + 1) (tg T 3 (fset (T 3) i (hs0 i))) (by omega) (by omega)
    rw [tg_tg, tg_eq, bl_step (f := hs0) (by omega)] at ih'
    rw [← ih']
    conv => lhs; rw [E7099_24]
    by_cases h1 : i < 8
    · rw [show hs0 i = 0 by unfold hs0; rw [if_neg (by omega)]]
      simp (disch := omega) only [jc_ref, rI_int, rR_ref, rR_null, rJ_long, ckR_ref, ckR_null, ckr_ref, ckr_null, ckW_int, ckW_ref, ckW_null, cI_ok, cR_ok, cR_null, cV_ok, cJ_ok, qH_eq, qD_in, aG_ref, aS_ref, aL_ref, pF_ref, cK_ref, cK_null, zI_lit, zJ_lit, zI_add, zI_sub, zI_mul, zI_neg, zI_eq, zI_lt, zI_le, Int.reduceLT, Int.reduceLE, Int.reduceAdd, Int.reduceSub, Int.reduceMul, Int.reduceNeg, Int.reduceEq, Int.reduceNe, reduceIte, tw_0, tw_1, tw_2, tw_3, tw_4, tw_5, tw_6, tw_7, tw_8, tw_9, tw_10, tw_11, tw_12, tw_13, tw_14, tw_15, tw_16, tw_17, tw_18, tw_19, tw_20, tw_21, tw_22, tw_23, tw_24, tw_25, tw_26, tw_27, tw_28, tw_29, tw_30, tw_31, ob_0, ob_1, ob_2, ob_3, ob_4, ob_5, ob_6, ob_7, ob_8, ob_9, ob_10, ob_11, ob_12, ob_13, ob_14, ob_15, ob_16, ob_17, ob_18, ob_19, ob_20, ob_21, ob_22, ob_23, ob_24, ob_25, ob_26, ob_27, ob_28, ob_29, ob_30, ob_31, ob_32, ob_33, ob_34, ob_35, ob_36, ob_37, ob_38, ob_39, ob_40, ob_41, ob_42, ob_43, ob_44, ob_45, ob_46, ob_47, ob_48, ob_49, ob_50, ob_51, ob_52, ob_53, ob_54, ob_55, ob_56, ob_57, ob_58, ob_59, ob_60, ob_61, ob_62, ob_63, ob_64, ob_65, jf7, aGi, aGb, aGz, aGj, leT, leF, ltT, ltF, eqT, eqF, tws_0, tws_1, tws_2, tws_3, tws_4, tws_5, tws_6, tws_7, tws_8, tws_9, tws_10, tws_11, tws_12, tws_13, tws_14, tws_15, tws_16, tws_17, tws_18, tws_19, tws_20, tws_21, tws_22, tws_23, tws_24, tws_25, tws_26, tws_27, tws_28, tws_29, tws_30, tws_31, obs_0, obs_2, obs_3, obs_4, obs_5, obs_12, obs_13, obs_14, obs_15, obs_16, obs_17, obs_18, obs_19, obs_20, obs_21, obs_22, obs_26, obs_31, obs_32, obs_33, obs_34, obs_35, obs_41, obs_42, obs_44, obs_48, obs_50, obs_51, obs_52, obs_55, obs_57, obs_58, obs_59, obs_60, obs_61, pF7i, pF7z, pF7j, aSi, aSj, aSb1, aSb24, aSb28, aSb31, ts, tg_eq, tg_ne, tg_tg, fset_eq, fset_ne]
    · by_cases h2 : 24 ≤ i
      · rw [show hs0 i = 0 by unfold hs0; rw [if_neg (by omega)]]
        simp (disch := omega) only [jc_ref, rI_int, rR_ref, rR_null, rJ_long, ckR_ref, ckR_null, ckr_ref, ckr_null, ckW_int, ckW_ref, ckW_null, cI_ok, cR_ok, cR_null, cV_ok, cJ_ok, qH_eq, qD_in, aG_ref, aS_ref, aL_ref, pF_ref, cK_ref, cK_null, zI_lit, zJ_lit, zI_add, zI_sub, zI_mul, zI_neg, zI_eq, zI_lt, zI_le, Int.reduceLT, Int.reduceLE, Int.reduceAdd, Int.reduceSub, Int.reduceMul, Int.reduceNeg, Int.reduceEq, Int.reduceNe, reduceIte, tw_0, tw_1, tw_2, tw_3, tw_4, tw_5, tw_6, tw_7, tw_8, tw_9, tw_10, tw_11, tw_12, tw_13, tw_14, tw_15, tw_16, tw_17, tw_18, tw_19, tw_20, tw_21, tw_22, tw_23, tw_24, tw_25, tw_26, tw_27, tw_28, tw_29, tw_30, tw_31, ob_0, ob_1, ob_2, ob_3, ob_4, ob_5, ob_6, ob_7, ob_8, ob_9, ob_10, ob_11, ob_12, ob_13, ob_14, ob_15, ob_16, ob_17, ob_18, ob_19, ob_20, ob_21, ob_22, ob_23, ob_24, ob_25, ob_26, ob_27, ob_28, ob_29, ob_30, ob_31, ob_32, ob_33, ob_34, ob_35, ob_36, ob_37, ob_38, ob_39, ob_40, ob_41, ob_42, ob_43, ob_44, ob_45, ob_46, ob_47, ob_48, ob_49, ob_50, ob_51, ob_52, ob_53, ob_54, ob_55, ob_56, ob_57, ob_58, ob_59, ob_60, ob_61, ob_62, ob_63, ob_64, ob_65, jf7, aGi, aGb, aGz, aGj, leT, leF, ltT, ltF, eqT, eqF, tws_0, tws_1, tws_2, tws_3, tws_4, tws_5, tws_6, tws_7, tws_8, tws_9, tws_10, tws_11, tws_12, tws_13, tws_14, tws_15, tws_16, tws_17, tws_18, tws_19, tws_20, tws_21, tws_22, tws_23, tws_24, tws_25, tws_26, tws_27, tws_28, tws_29, tws_30, tws_31, obs_0, obs_2, obs_3, obs_4, obs_5, obs_12, obs_13, obs_14, obs_15, obs_16, obs_17, obs_18, obs_19, obs_20, obs_21, obs_22, obs_26, obs_31, obs_32, obs_33, obs_34, obs_35, obs_41, obs_42, obs_44, obs_48, obs_50, obs_51, obs_52, obs_55, obs_57, obs_58, obs_59, obs_60, obs_61, pF7i, pF7z, pF7j, aSi, aSj, aSb1, aSb24, aSb28, aSb31, ts, tg_eq, tg_ne, tg_tg, fset_eq, fset_ne]
      · rw [show hs0 i = -1 by unfold hs0; rw [if_pos (by omega)]]
        simp (disch := omega) only [jc_ref, rI_int, rR_ref, rR_null, rJ_long, ckR_ref, ckR_null, ckr_ref, ckr_null, ckW_int, ckW_ref, ckW_null, cI_ok, cR_ok, cR_null, cV_ok, cJ_ok, qH_eq, qD_in, aG_ref, aS_ref, aL_ref, pF_ref, cK_ref, cK_null, zI_lit, zJ_lit, zI_add, zI_sub, zI_mul, zI_neg, zI_eq, zI_lt, zI_le, Int.reduceLT, Int.reduceLE, Int.reduceAdd, Int.reduceSub, Int.reduceMul, Int.reduceNeg, Int.reduceEq, Int.reduceNe, reduceIte, tw_0, tw_1, tw_2, tw_3, tw_4, tw_5, tw_6, tw_7, tw_8, tw_9, tw_10, tw_11, tw_12, tw_13, tw_14, tw_15, tw_16, tw_17, tw_18, tw_19, tw_20, tw_21, tw_22, tw_23, tw_24, tw_25, tw_26, tw_27, tw_28, tw_29, tw_30, tw_31, ob_0, ob_1, ob_2, ob_3, ob_4, ob_5, ob_6, ob_7, ob_8, ob_9, ob_10, ob_11, ob_12, ob_13, ob_14, ob_15, ob_16, ob_17, ob_18, ob_19, ob_20, ob_21, ob_22, ob_23, ob_24, ob_25, ob_26, ob_27, ob_28, ob_29, ob_30, ob_31, ob_32, ob_33, ob_34, ob_35, ob_36, ob_37, ob_38, ob_39, ob_40, ob_41, ob_42, ob_43, ob_44, ob_45, ob_46, ob_47, ob_48, ob_49, ob_50, ob_51, ob_52, ob_53, ob_54, ob_55, ob_56, ob_57, ob_58, ob_59, ob_60, ob_61, ob_62, ob_63, ob_64, ob_65, jf7, aGi, aGb, aGz, aGj, leT, leF, ltT, ltF, eqT, eqF, tws_0, tws_1, tws_2, tws_3, tws_4, tws_5, tws_6, tws_7, tws_8, tws_9, tws_10, tws_11, tws_12, tws_13, tws_14, tws_15, tws_16, tws_17, tws_18, tws_19, tws_20, tws_21, tws_22, tws_23, tws_24, tws_25, tws_26, tws_27, tws_28, tws_29, tws_30, tws_31, obs_0, obs_2, obs_3, obs_4, obs_5, obs_12, obs_13, obs_14, obs_15, obs_16, obs_17, obs_18, obs_19, obs_20, obs_21, obs_22, obs_26, obs_31, obs_32, obs_33, obs_34, obs_35, obs_41, obs_42, obs_44, obs_48, obs_50, obs_51, obs_52, obs_55, obs_57, obs_58, obs_59, obs_60, obs_61, pF7i, pF7z, pF7j, aSi, aSj, aSb1, aSb24, aSb28, aSb31, ts, tg_eq, tg_ne, tg_tg, fset_eq, fset_ne]
theorem tm_taken {lim : Int} : M (d + 1) 7110 [.ref m, .int (zI lim)] (tw m T h) = some (.inl none, tw m (ts (ts (ts (ts T 0 3 (T 0 2)) 0 2 0) 0 4 0) 0 5 lim) h) := by
  rw [X7110 _ (tw_recv rfl), E7110_0]
  simp (disch := omega) only [jc_ref, rI_int, rR_ref, rR_null, rJ_long, ckR_ref, ckR_null, ckr_ref, ckr_null, ckW_int, ckW_ref, ckW_null, cI_ok, cR_ok, cR_null, cV_ok, cJ_ok, qH_eq, qD_in, aG_ref, aS_ref, aL_ref, pF_ref, cK_ref, cK_null, zI_lit, zJ_lit, zI_add, zI_sub, zI_mul, zI_neg, zI_eq, zI_lt, zI_le, Int.reduceLT, Int.reduceLE, Int.reduceAdd, Int.reduceSub, Int.reduceMul, Int.reduceNeg, Int.reduceEq, Int.reduceNe, reduceIte, tw_0, tw_1, tw_2, tw_3, tw_4, tw_5, tw_6, tw_7, tw_8, tw_9, tw_10, tw_11, tw_12, tw_13, tw_14, tw_15, tw_16, tw_17, tw_18, tw_19, tw_20, tw_21, tw_22, tw_23, tw_24, tw_25, tw_26, tw_27, tw_28, tw_29, tw_30, tw_31, ob_0, ob_1, ob_2, ob_3, ob_4, ob_5, ob_6, ob_7, ob_8, ob_9, ob_10, ob_11, ob_12, ob_13, ob_14, ob_15, ob_16, ob_17, ob_18, ob_19, ob_20, ob_21, ob_22, ob_23, ob_24, ob_25, ob_26, ob_27, ob_28, ob_29, ob_30, ob_31, ob_32, ob_33, ob_34, ob_35, ob_36, ob_37, ob_38, ob_39, ob_40, ob_41, ob_42, ob_43, ob_44, ob_45, ob_46, ob_47, ob_48, ob_49, ob_50, ob_51, ob_52, ob_53, ob_54, ob_55, ob_56, ob_57, ob_58, ob_59, ob_60, ob_61, ob_62, ob_63, ob_64, ob_65, jf7, aGi, aGb, aGz, aGj, leT, leF, ltT, ltF, eqT, eqF, tws_0, tws_1, tws_2, tws_3, tws_4, tws_5, tws_6, tws_7, tws_8, tws_9, tws_10, tws_11, tws_12, tws_13, tws_14, tws_15, tws_16, tws_17, tws_18, tws_19, tws_20, tws_21, tws_22, tws_23, tws_24, tws_25, tws_26, tws_27, tws_28, tws_29, tws_30, tws_31, obs_0, obs_2, obs_3, obs_4, obs_5, obs_12, obs_13, obs_14, obs_15, obs_16, obs_17, obs_18, obs_19, obs_20, obs_21, obs_22, obs_26, obs_31, obs_32, obs_33, obs_34, obs_35, obs_41, obs_42, obs_44, obs_48, obs_50, obs_51, obs_52, obs_55, obs_57, obs_58, obs_59, obs_60, obs_61, pF7i, pF7z, pF7j, aSi, aSj, aSb1, aSb24, aSb28, aSb31, ts, tg_eq, tg_ne, tg_tg, fset_eq, fset_ne]
end
/-- what a schema's text comes to (hx, nm: what lay there before) -/
def schR (g : Int → Int) (L : Int) (hx nm : Int → Int) : Except Er ((Int → Int) × (Int → Int) × Int) := linesP g L 900 (L.toNat + 2) (bl 0 148 hs0 hx) nm 0 0
theorem HsW_bl {hx : Int → Int} : HsW (bl 0 148 hs0 hx) := by
  have e : ∀ i, 0 ≤ i → i < 148 → bl 0 148 hs0 hx i = hs0 i := fun i i0 i1 => by unfold bl; rw [if_pos ⟨i0, i1⟩]
  have e0 : ∀ i, 0 ≤ i → i < 4 → bl 0 148 hs0 hx i = 0 := fun i i0 i1 => by rw [e i i0 (by omega)]; unfold hs0; rw [if_neg (by omega)]
  refine ⟨⟨fun i i0 i1 => by rw [e i i0 i1]; unfold hs0; split <;> omega, by rw [e0 0 (by omega) (by omega)]; omega, fun t t0 t1 => by rw [e _ (by omega) (by omega)]; unfold hs0; rw [if_neg (by omega)]; omega, by rw [e0 1 (by omega) (by omega)]; omega, by rw [e0 2 (by omega) (by omega)]; omega, by rw [e0 3 (by omega) (by omega)]; omega⟩, fun t t0 t1 => ?_, fun k k0 k1 => ?_, fun f f0 f1 => ?_, fun k k0 k1 => ?_, fun i i0 i1 => by rw [e i (by omega) (by omega)]; unfold hs0; rw [if_neg (by omega)]; exact Or.inl rfl, fun i i0 i1 => by rw [e i (by omega) (by omega)]; unfold hs0; rw [if_neg (by omega)]; exact Int.le_refl 0⟩
  · rw [e0 0 (by omega) (by omega)] at t1; omega
  · rw [e0 1 (by omega) (by omega)] at k1; omega
  · rw [e0 2 (by omega) (by omega)] at f1; omega
  · rw [e0 3 (by omega) (by omega)] at k1; omega
/-- what holds of the twin's constants and of its tape -/
def TwC (T : Nat → Int → Int) : Prop := (∀ i, -128 ≤ T 1 i ∧ T 1 i < 128) ∧ RsOk T ∧ NmOk T ∧ 0 ≤ T 0 2 ∧ T 0 2 ≤ 940
section
variable {d m : Nat} {T : Nat → Int → Int} {h : AH}
theorem tm_schema (hC : TwC T) : ∃ T', M (d + 9) 7099 [.ref m] (tw m T h) = some (.inl (some (.int (zI (match schR (T 1) (T 0 2) (T 3) (T 6) with
      | .error e => -1 - e.2
      | .ok a => a.2.2)))), tw m T' h) ∧ T' 0 0 = 0 ∧ T' 0 2 = 0 ∧ (∀ k, k ≠ 0 → k ≠ 2 → k ≠ 3 → k ≠ 6 → T' k = T k) ∧ (∀ i, 23 ≤ i → i ≠ 44 → T' 0 i = T 0 i) ∧ NmOk T' ∧ match schR (T 1) (T 0 2) (T 3) (T 6) with
      | .error e => T' 0 16 = e.1 ∧ T' 2 = T 2 ∧ (∀ i, i < 20 → T' 6 i = T 6 i) ∧ T' 0 44 = T 0 44
      | .ok a => T' 0 16 = 0 ∧ T' 2 = bl 0 1420 (fun x => if x < 148 then a.1 x else 0) (T 2) ∧ (∀ i, 0 ≤ i → i < 20 → T' 6 i = a.2.1 (20 + i)) ∧ T' 0 44 = 0 ∧ HsW a.1 := by
  obtain ⟨c1, c2, c3, c4, c5⟩ := hC
  rw [X7099 _ (tw_recv rfl), E7099_0]
  have hTA : ∃ TA, TA = tg (tg T 0 (fset (fset (fset (fset (fset (fset (fset (T 0) 0 0) 3 (T 0 2)) 2 0) 4 0) 5 900) 16 0) 20 0)) 3 (bl 0 148 hs0 (T 3)) := ⟨_, rfl⟩
  obtain ⟨TA, hTA⟩ := hTA
  have tk := tm_taken (d := d + 7) (m := m) (h := h) (T := tg T 0 (fset (T 0) 0 0)) (lim := 900)
  simp (disch := omega) only [ts, tg_eq, tg_tg, fset_ne] at tk
  have s24 := sch_24 (d := d + 8) (m := m) (h := h) 148 0 (tg T 0 (fset (fset (fset (fset (fset (fset (fset (T 0) 0 0) 3 (T 0 2)) 2 0) 4 0) 5 900) 16 0) 20 0)) (by omega) (by omega)
  rw [tg_ne (show (3 : Nat) ≠ 0 by decide), ← hTA] at s24
  have A0 : ∀ i, TA 0 i = fset (fset (fset (fset (fset (fset (fset (T 0) 0 0) 3 (T 0 2)) 2 0) 4 0) 5 900) 16 0) 20 0 i := fun i => by rw [hTA, tg_ne (by decide), tg_eq]
  have A3 : TA 3 = bl 0 148 hs0 (T 3) := by rw [hTA, tg_eq]
  have Ak : ∀ k, k ≠ 0 → k ≠ 3 → TA k = T k := fun k k0 k3 => by rw [hTA, tg_ne k3, tg_ne k0]
  have A03 : TA 0 3 = T 0 2 := by rw [A0]; simp (disch := omega) only [fset_eq, fset_ne]
  have A04 : TA 0 4 = 0 := by rw [A0]; simp (disch := omega) only [fset_eq, fset_ne]
  have A05 : TA 0 5 = 900 := by rw [A0]; simp (disch := omega) only [fset_eq, fset_ne]
  have A016 : TA 0 16 = 0 := by rw [A0]; simp (disch := omega) only [fset_eq, fset_ne]
  have A020 : TA 0 20 = 0 := by rw [A0]; simp (disch := omega) only [fset_eq, fset_ne]
  have A00 : TA 0 0 = 0 := by rw [A0]; simp (disch := omega) only [fset_eq, fset_ne]
  have A02 : TA 0 2 = 0 := by rw [A0]; simp (disch := omega) only [fset_eq, fset_ne]
  have A023 : ∀ i, 23 ≤ i → TA 0 i = T 0 i := fun i hi => by rw [A0]; simp (disch := omega) only [fset_ne]
  have hTp : TpOk TA := ⟨fun i => by rw [Ak 1 (by decide) (by decide)]; exact c1 i, by rw [A03]; omega, by rw [A03]; omega, by rw [A05]; omega, by rw [A05]; omega⟩
  have hN : NmOk TA := fun i => by rw [Ak 6 (by decide) (by decide)]; exact c3 i
  obtain ⟨T1, n1, n2, n3, n4⟩ := tm_next (d := d + 6) (m := m) (h := h) hTp (by rw [A04]; omega) (by rw [A04, A03]; omega)
  rw [A04] at n4
  have R1 : Rd (T 1) (T 0 2) 900 T1 0 := ⟨⟨by rw [n2.1 1 (by decide), Ak 1 (by decide) (by decide)], by rw [n2.2 3 (by omega), A03], by rw [n2.2 5 (by omega), A05]⟩, hTp.pf n2, fun k hk => by rw [n2.1 7 (by decide), Ak 7 (by decide) (by decide)]; exact c2 k hk, hN.pf n2, n4, by rw [n3 16 (by omega), A016]⟩
  have f3 : T1 3 = bl 0 148 hs0 (T 3) := by rw [n2.1 3 (by decide), A3]
  have f6 : T1 6 = T 6 := by rw [n2.1 6 (by decide), Ak 6 (by decide) (by decide)]
  obtain ⟨T2, s1, s2⟩ := sch_loop (d := d) (m := m) (h := h) (i1 := zI 148) ((T 0 2).toNat + 2) T1 0 0 R1 (by rw [f3]; exact HsW_bl) (by rw [n2.2 20 (by omega), A020]) (by omega)
  rw [f3, f6] at s2
  have hgo : G (d + 8) 7099 24 [.ref m, .int (zI 148)] [] (tw m TA h) = G (d + 8) 7099 64 [.ref m, .int (zI 148)] [] (tw m T1 h) := by
    rw [E7099_24]
    simp (disch := omega) only [jc_ref, rI_int, rR_ref, rR_null, rJ_long, ckR_ref, ckR_null, ckr_ref, ckr_null, ckW_int, ckW_ref, ckW_null, cI_ok, cR_ok, cR_null, cV_ok, cJ_ok, qH_eq, qD_in, aG_ref, aS_ref, aL_ref, pF_ref, cK_ref, cK_null, zI_lit, zJ_lit, zI_add, zI_sub, zI_mul, zI_neg, zI_eq, zI_lt, zI_le, Int.reduceLT, Int.reduceLE, Int.reduceAdd, Int.reduceSub, Int.reduceMul, Int.reduceNeg, Int.reduceEq, Int.reduceNe, reduceIte, tw_0, tw_1, tw_2, tw_3, tw_4, tw_5, tw_6, tw_7, tw_8, tw_9, tw_10, tw_11, tw_12, tw_13, tw_14, tw_15, tw_16, tw_17, tw_18, tw_19, tw_20, tw_21, tw_22, tw_23, tw_24, tw_25, tw_26, tw_27, tw_28, tw_29, tw_30, tw_31, ob_0, ob_1, ob_2, ob_3, ob_4, ob_5, ob_6, ob_7, ob_8, ob_9, ob_10, ob_11, ob_12, ob_13, ob_14, ob_15, ob_16, ob_17, ob_18, ob_19, ob_20, ob_21, ob_22, ob_23, ob_24, ob_25, ob_26, ob_27, ob_28, ob_29, ob_30, ob_31, ob_32, ob_33, ob_34, ob_35, ob_36, ob_37, ob_38, ob_39, ob_40, ob_41, ob_42, ob_43, ob_44, ob_45, ob_46, ob_47, ob_48, ob_49, ob_50, ob_51, ob_52, ob_53, ob_54, ob_55, ob_56, ob_57, ob_58, ob_59, ob_60, ob_61, ob_62, ob_63, ob_64, ob_65, jf7, aGi, aGb, aGz, aGj, leT, leF, ltT, ltF, eqT, eqF, n1]
  have hst : ∀ X : Rz, G (d + 8) 7099 64 [.ref m, .int (zI 148)] [] (tw m T1 h) = X → (zqF (tw m T h) (.ref m) [7] 0 0 (.int 0) (fun h1 => zcV (M (d + 8) 7110 [.ref m, .int 900] h1) (fun h3 => zqF h3 (.ref m) [7] 16 0 (.int 0) (fun h4 => zqF h4 (.ref m) [7] 20 0 (.int 0) (fun h5 => G (d + 8) 7099 24 [.ref m, .int 0] [] h5) ()) ()) ()) ()) = X := by
    intro X hX
    rw [← hX, ← hgo, ← s24]
    simp (disch := omega) only [jc_ref, rI_int, rR_ref, rR_null, rJ_long, ckR_ref, ckR_null, ckr_ref, ckr_null, ckW_int, ckW_ref, ckW_null, cI_ok, cR_ok, cR_null, cV_ok, cJ_ok, qH_eq, qD_in, aG_ref, aS_ref, aL_ref, pF_ref, cK_ref, cK_null, zI_lit, zJ_lit, zI_add, zI_sub, zI_mul, zI_neg, zI_eq, zI_lt, zI_le, Int.reduceLT, Int.reduceLE, Int.reduceAdd, Int.reduceSub, Int.reduceMul, Int.reduceNeg, Int.reduceEq, Int.reduceNe, reduceIte, tw_0, tw_1, tw_2, tw_3, tw_4, tw_5, tw_6, tw_7, tw_8, tw_9, tw_10, tw_11, tw_12, tw_13, tw_14, tw_15, tw_16, tw_17, tw_18, tw_19, tw_20, tw_21, tw_22, tw_23, tw_24, tw_25, tw_26, tw_27, tw_28, tw_29, tw_30, tw_31, ob_0, ob_1, ob_2, ob_3, ob_4, ob_5, ob_6, ob_7, ob_8, ob_9, ob_10, ob_11, ob_12, ob_13, ob_14, ob_15, ob_16, ob_17, ob_18, ob_19, ob_20, ob_21, ob_22, ob_23, ob_24, ob_25, ob_26, ob_27, ob_28, ob_29, ob_30, ob_31, ob_32, ob_33, ob_34, ob_35, ob_36, ob_37, ob_38, ob_39, ob_40, ob_41, ob_42, ob_43, ob_44, ob_45, ob_46, ob_47, ob_48, ob_49, ob_50, ob_51, ob_52, ob_53, ob_54, ob_55, ob_56, ob_57, ob_58, ob_59, ob_60, ob_61, ob_62, ob_63, ob_64, ob_65, jf7, aGi, aGb, aGz, aGj, leT, leF, ltT, ltF, eqT, eqF, tws_0, tws_1, tws_2, tws_3, tws_4, tws_5, tws_6, tws_7, tws_8, tws_9, tws_10, tws_11, tws_12, tws_13, tws_14, tws_15, tws_16, tws_17, tws_18, tws_19, tws_20, tws_21, tws_22, tws_23, tws_24, tws_25, tws_26, tws_27, tws_28, tws_29, tws_30, tws_31, obs_0, obs_2, obs_3, obs_4, obs_5, obs_12, obs_13, obs_14, obs_15, obs_16, obs_17, obs_18, obs_19, obs_20, obs_21, obs_22, obs_26, obs_31, obs_32, obs_33, obs_34, obs_35, obs_41, obs_42, obs_44, obs_48, obs_50, obs_51, obs_52, obs_55, obs_57, obs_58, obs_59, obs_60, obs_61, pF7i, pF7z, pF7j, aSi, aSj, aSb1, aSb24, aSb28, aSb31, ts, tg_eq, tg_ne, tg_tg, fset_eq, fset_ne, tk]
  have pfk : ∀ k, k ≠ 0 → k ≠ 3 → k ≠ 6 → T2 k = T k := fun k k0 k3 k6 => by rw [s1.1 k k0 k3 k6, n2.1 k k0, Ak k k0 k3]
  have pf23 : ∀ i, 23 ≤ i → T2 0 i = T 0 i := fun i hi => by rw [s1.2.1 i (by omega), n2.2 i (by omega), A023 i hi]
  have p00 : T2 0 0 = 0 := by rw [s1.2.1 0 (by omega), n2.2 0 (by omega), A00]
  have p02 : T2 0 2 = 0 := by rw [s1.2.1 2 (by omega), n2.2 2 (by omega), A02]
  unfold schR
  cases hr : linesP (T 1) (T 0 2) 900 ((T 0 2).toNat + 2) (bl 0 148 hs0 (T 3)) (T 6) 0 0 with
  | error e =>
    rw [hr] at s2
    refine ⟨T2, hst _ s2.1, p00, p02, fun k k0 k2 k3 k6 => pfk k k0 k3 k6, fun i hi _ => pf23 i hi, s1.2.2.2 (hN.pf n2), s2.2.1, pfk 2 (by decide) (by decide) (by decide), fun i hi => ?_, pf23 44 (by omega)⟩
    rw [s1.2.2.1 i (Or.inl hi), f6]
  | ok a =>
    rw [hr] at s2
    obtain ⟨u1, u2, u3, u4, u5, u6, u7⟩ := s2
    have v := sch_109 (d := d + 8) (m := m) (h := h) 1420 0 T2 (by omega) (by omega)
    have w := sch_147 (d := d + 8) (m := m) (h := h) 20 0 (tg T2 2 (bl 0 1420 (fun x => if x < 148 then T2 3 x else 0) (T2 2))) (by omega) (by omega)
    rw [tg_ne (show (0 : Nat) ≠ 2 by decide), tg_ne (show (6 : Nat) ≠ 2 by decide), u4] at w
    refine ⟨ts (tg (tg T2 2 (bl 0 1420 (fun x => if x < 148 then T2 3 x else 0) (T2 2))) 6 (bl 0 20 (fun x => T2 6 (20 + x)) (T2 6))) 0 44 0, hst _ ((u1.trans v).trans w), ?_, ?_, fun k k0 k2 k3 k6 => ?_, fun i hi h44 => ?_, fun i => ?_, ?_, ?_, fun i i0 i1 => ?_, ?_, u6⟩
    · simp (disch := omega) only [ts, tg_eq, tg_ne, fset_ne, p00]
    · simp (disch := omega) only [ts, tg_eq, tg_ne, fset_ne, p02]
    · rw [ts_ne k0, tg_ne k6, tg_ne k2, pfk k k0 k3 k6]
    · simp (disch := omega) only [ts, tg_eq, tg_ne, fset_ne]; exact pf23 i hi
    · rw [ts_ne (by decide), tg_eq]
      unfold bl
      split
      · exact u7 _
      · exact u7 _
    · simp (disch := omega) only [ts, tg_eq, tg_ne, fset_ne]; exact u5
    · rw [ts_ne (by decide), tg_ne (by decide), tg_eq, u2, pfk 2 (by decide) (by decide) (by decide)]
    · rw [ts_ne (by decide), tg_eq, ← u3]
      unfold bl
      rw [if_pos ⟨i0, i1⟩]
    · simp (disch := omega) only [ts, tg_eq, tg_ne, fset_eq]
end
