/-! a key's change is followed -/
section
variable {d m : Nat} {T : Nat → Int → Int} {h : AH} {w : WS} {S : Int → Int}
theorem StW.key2 (W : StW S) {f : Int} (k0 : 0 ≤ f) (k1 : f < S 2) : (0 ≤ S (82 + f) ∧ S (82 + f) < S 1) ∧ (S (52 + S (82 + f)) < 0 ↔ S (70 + f) < 0) ∧ (0 ≤ S (88 + f) ∧ S (88 + f) ≤ 3) ∧ (0 ≤ S (94 + f) ∧ S (94 + f) ≤ 3) ∧ (0 ≤ S (76 + f) ∧ S (76 + f) < S 0) := by
  obtain ⟨-, -, -, b, ⟨a9, a10, -, a11⟩, a12, a13, -⟩ := W.1.2.2.2.1 f k0 k1
  exact ⟨⟨a9, a10⟩, a11, a12, a13, b⟩
theorem isOth_v {q c : Int} (hw : WsW w) (q0 : 0 ≤ q) (q1 : q < 99) (c0 : 0 ≤ c) (c1 : c < 4) (h : isOth S w q c = true) : -1 ≤ w.1 (4 * q + c) ∧ w.1 (4 * q + c) ≤ 99 := by
  rcases hw.1 (4 * q + c) (by omega) (by omega) with e | e
  · simp [isOth, e] at h
  · exact e
/-- a wanted value is never unwanted again -/
def WsL (w w' : WS) : Prop := ∀ i, w.1 i ≠ -9 → w'.1 i ≠ -9
theorem want1_L {i v : Int} (hv : v ≠ -9) : WsL w (want1 w i v) := by
  intro j hj
  unfold want1
  split
  · show fset w.1 i v j ≠ -9
    by_cases h : j = i
    · subst h; rw [fset_eq]; exact hv
    · rw [fset_ne h]; exact hj
  · exact hj
theorem WsL.tr {w w' w'' : WS} (a : WsL w w') (b : WsL w' w'') : WsL w w'' := fun i hi => b i (a i hi)
theorem wantsA_L {r f : Int} {b : Bool} (W : StW S) (f0 : 0 ≤ f) (f1 : f < S 2) : WsL w (wantsA S r f b w) := by
  obtain ⟨a1, a2, a3, -⟩ := W.ref f0 f1
  have key : ∀ c, 0 ≤ c → c < 4 → (if b = true then S (8 + 4 * S (58 + f) + c) else -1) ≠ -9 := by
    intro c c0 c1
    split
    · have := W.bx (i := 8 + 4 * S (58 + f) + c) (by omega) (by omega); omega
    · decide
  unfold wantsA
  have h1 : WsL w (if S (64 + f) < 0 then w else want1 w (4 * r + S (64 + f)) (if b = true then S (8 + 4 * S (58 + f) + S (64 + f)) else -1)) := by
    split
    · exact fun _ h => h
    · exact want1_L (key _ (by omega) (by omega))
  by_cases h2 : S (70 + f) < 0
  · simp only [if_pos h2]; exact h1
  · simp only [if_neg h2]; exact h1.tr (want1_L (key _ (by omega) (by omega)))
section
variable {r f q : Int}
theorem fk_151 {i5 : Int32} {b : Bool} (W : StW (T 2)) (r0 : 0 ≤ r) (r1 : r < 99) (f0 : 0 ≤ f) (f1 : f < T 2 2) (q0 : 0 ≤ q) (q1 : q < 99) (hw : WsW w) (hb : b = true → ¬ T 2 (52 + T 2 (82 + f)) < 0 ∧ w.1 (4 * q + T 2 (52 + T 2 (82 + f))) ≠ -9) :
    G (d + 2) 7029 151 [.ref m, .int (zI r), .int (zI f), .int (zI q), .int (zI (T 2 (82 + f))), .int i5, .int (zI (bZ b))] [] (tw m (putW T w) h) = some (.inl none, tw m (putW T (if b = true then want1 w (4 * r + T 2 (70 + f)) (w.1 (4 * q + T 2 (52 + T 2 (82 + f)))) else w)) h) := by
  have p2 : putW T w 2 = T 2 := putW_at (by decide) (by decide)
  obtain ⟨k1, k2, -⟩ := W.key2 f0 f1
  have rf := W.ref f0 f1
  have ky := W.key k1.1 k1.2
  have c1 := tm_refCol (d := d + 1) (m := m) (h := h) (T := putW T w) (f := f) (j := 1) (by rw [p2]; exact W) f0 (by rw [p2]; exact f1) (Or.inr rfl)
  have c2 := tm_keyCol (d := d + 1) (m := m) (h := h) (T := putW T w) (k := T 2 (82 + f)) (j := 1) (by rw [p2]; exact W) k1.1 (by rw [p2]; exact k1.2) (Or.inr rfl)
  rw [if_neg (by decide), p2] at c1 c2
  cases b with
  | false =>
    rw [if_neg (by decide), E7029_151]
    simp (disch := omega) only [jc_ref, rI_int, rR_ref, rR_null, rJ_long, ckR_ref, ckR_null, ckr_ref, ckr_null, ckW_int, ckW_ref, ckW_null, cI_ok, cR_ok, cR_null, cV_ok, cJ_ok, qH_eq, qD_in, aG_ref, aS_ref, aL_ref, pF_ref, cK_ref, cK_null, zI_lit, zJ_lit, zI_add, zI_sub, zI_mul, zI_neg, zI_eq, zI_lt, zI_le, Int.reduceLT, Int.reduceLE, Int.reduceAdd, Int.reduceSub, Int.reduceMul, Int.reduceNeg, Int.reduceEq, Int.reduceNe, reduceIte, tw_0, tw_1, tw_2, tw_3, tw_4, tw_5, tw_6, tw_7, tw_8, tw_9, tw_10, tw_11, tw_12, tw_13, tw_14, tw_15, tw_16, tw_17, tw_18, tw_19, tw_20, tw_21, tw_22, tw_23, tw_24, tw_25, tw_26, tw_27, tw_28, tw_29, tw_30, tw_31, ob_0, ob_1, ob_2, ob_3, ob_4, ob_5, ob_6, ob_7, ob_8, ob_9, ob_10, ob_11, ob_12, ob_13, ob_14, ob_15, ob_16, ob_17, ob_18, ob_19, ob_20, ob_21, ob_22, ob_23, ob_24, ob_25, ob_26, ob_27, ob_28, ob_29, ob_30, ob_31, ob_32, ob_33, ob_34, ob_35, ob_36, ob_37, ob_38, ob_39, ob_40, ob_41, ob_42, ob_43, ob_44, ob_45, ob_46, ob_47, ob_48, ob_49, ob_50, ob_51, ob_52, ob_53, ob_54, ob_55, ob_56, ob_57, ob_58, ob_59, ob_60, ob_61, ob_62, ob_63, ob_64, ob_65, jf7, aGi, aGb, aGz, aGj, leT, leF, ltT, ltF, eqT, eqF, beq_tt, beq_tf, beq_ft, beq_ff, Bool.true_and, Bool.false_and, Bool.and_true, Bool.and_false, Bool.true_or, Bool.false_or, Bool.or_true, Bool.or_false, Bool.true_eq_false, Bool.false_eq_true, Bool.not_true, Bool.not_false, bZ_t, bZ_f, zI_b0, zI_b1, zI_bb, okZ_0, okZ_1]
  | true =>
    obtain ⟨hb1, hb2⟩ := hb rfl
    rw [if_pos rfl]
    have hv := hw.1 (4 * q + T 2 (52 + T 2 (82 + f))) (by omega) (by omega)
    have ww := tm_wants (d := d + 1) (m := m) (T := T) (h := h) (r := r) (c := T 2 (70 + f)) (v := w.1 (4 * q + T 2 (52 + T 2 (82 + f)))) hw r0 r1 (by omega) (by omega) (by omega) (by omega)
    rw [E7029_151]
    simp (disch := omega) only [jc_ref, rI_int, rR_ref, rR_null, rJ_long, ckR_ref, ckR_null, ckr_ref, ckr_null, ckW_int, ckW_ref, ckW_null, cI_ok, cR_ok, cR_null, cV_ok, cJ_ok, qH_eq, qD_in, aG_ref, aS_ref, aL_ref, pF_ref, cK_ref, cK_null, zI_lit, zJ_lit, zI_add, zI_sub, zI_mul, zI_neg, zI_eq, zI_lt, zI_le, Int.reduceLT, Int.reduceLE, Int.reduceAdd, Int.reduceSub, Int.reduceMul, Int.reduceNeg, Int.reduceEq, Int.reduceNe, reduceIte, tw_0, tw_1, tw_2, tw_3, tw_4, tw_5, tw_6, tw_7, tw_8, tw_9, tw_10, tw_11, tw_12, tw_13, tw_14, tw_15, tw_16, tw_17, tw_18, tw_19, tw_20, tw_21, tw_22, tw_23, tw_24, tw_25, tw_26, tw_27, tw_28, tw_29, tw_30, tw_31, ob_0, ob_1, ob_2, ob_3, ob_4, ob_5, ob_6, ob_7, ob_8, ob_9, ob_10, ob_11, ob_12, ob_13, ob_14, ob_15, ob_16, ob_17, ob_18, ob_19, ob_20, ob_21, ob_22, ob_23, ob_24, ob_25, ob_26, ob_27, ob_28, ob_29, ob_30, ob_31, ob_32, ob_33, ob_34, ob_35, ob_36, ob_37, ob_38, ob_39, ob_40, ob_41, ob_42, ob_43, ob_44, ob_45, ob_46, ob_47, ob_48, ob_49, ob_50, ob_51, ob_52, ob_53, ob_54, ob_55, ob_56, ob_57, ob_58, ob_59, ob_60, ob_61, ob_62, ob_63, ob_64, ob_65, jf7, aGi, aGb, aGz, aGj, leT, leF, ltT, ltF, eqT, eqF, putW_w, putW_cl, putW_mo, putW_s11, putW_s34, putW_s35, putW_at, beq_tt, beq_tf, beq_ft, beq_ff, Bool.true_and, Bool.false_and, Bool.and_true, Bool.and_false, Bool.true_or, Bool.false_or, Bool.or_true, Bool.or_false, Bool.true_eq_false, Bool.false_eq_true, Bool.not_true, Bool.not_false, bZ_t, bZ_f, zI_b0, zI_b1, zI_bb, okZ_0, okZ_1, c1, c2, ww]
theorem fk_105 {a b : Bool} (W : StW (T 2)) (r0 : 0 ≤ r) (r1 : r < 99) (f0 : 0 ≤ f) (f1 : f < T 2 2) (q0 : 0 ≤ q) (q1 : q < 99) (hw : WsW w) (ha : a = true → w.1 (4 * q + T 2 (46 + T 2 (82 + f))) ≠ -9) (hb : b = true → ¬ T 2 (52 + T 2 (82 + f)) < 0 ∧ w.1 (4 * q + T 2 (52 + T 2 (82 + f))) ≠ -9) :
    G (d + 2) 7029 105 [.ref m, .int (zI r), .int (zI f), .int (zI q), .int (zI (T 2 (82 + f))), .int (zI (bZ a)), .int (zI (bZ b))] [] (tw m (putW T w) h) = some (.inl none, tw m (putW T (if T 2 (94 + f) ≠ 1 then w else
      let w1 := if a = true then want1 w (4 * r + T 2 (64 + f)) (w.1 (4 * q + T 2 (46 + T 2 (82 + f)))) else w
      if b = true then want1 w1 (4 * r + T 2 (70 + f)) (w1.1 (4 * q + T 2 (52 + T 2 (82 + f)))) else w1)) h) := by
  have p2 : putW T w 2 = T 2 := putW_at (by decide) (by decide)
  obtain ⟨k1, k2, -, k3, -⟩ := W.key2 f0 f1
  have rf := W.ref f0 f1
  have ky := W.key k1.1 k1.2
  have c1 := tm_refCol (d := d + 1) (m := m) (h := h) (T := putW T w) (f := f) (j := 0) (by rw [p2]; exact W) f0 (by rw [p2]; exact f1) (Or.inl rfl)
  have c2 := tm_keyCol (d := d + 1) (m := m) (h := h) (T := putW T w) (k := T 2 (82 + f)) (j := 0) (by rw [p2]; exact W) k1.1 (by rw [p2]; exact k1.2) (Or.inl rfl)
  rw [if_pos rfl, p2] at c1 c2
  by_cases e1 : T 2 (94 + f) = 1
  · rw [if_neg (by simp [e1])]
    cases a with
    | false =>
      have l := fk_151 (d := d) (m := m) (h := h) (i5 := zI 0) W r0 r1 f0 f1 q0 q1 hw hb
      simp only [Bool.false_eq_true, if_false]
      rw [← l, E7029_105]
      simp (disch := omega) only [jc_ref, rI_int, rR_ref, rR_null, rJ_long, ckR_ref, ckR_null, ckr_ref, ckr_null, ckW_int, ckW_ref, ckW_null, cI_ok, cR_ok, cR_null, cV_ok, cJ_ok, qH_eq, qD_in, aG_ref, aS_ref, aL_ref, pF_ref, cK_ref, cK_null, zI_lit, zJ_lit, zI_add, zI_sub, zI_mul, zI_neg, zI_eq, zI_lt, zI_le, Int.reduceLT, Int.reduceLE, Int.reduceAdd, Int.reduceSub, Int.reduceMul, Int.reduceNeg, Int.reduceEq, Int.reduceNe, reduceIte, tw_0, tw_1, tw_2, tw_3, tw_4, tw_5, tw_6, tw_7, tw_8, tw_9, tw_10, tw_11, tw_12, tw_13, tw_14, tw_15, tw_16, tw_17, tw_18, tw_19, tw_20, tw_21, tw_22, tw_23, tw_24, tw_25, tw_26, tw_27, tw_28, tw_29, tw_30, tw_31, ob_0, ob_1, ob_2, ob_3, ob_4, ob_5, ob_6, ob_7, ob_8, ob_9, ob_10, ob_11, ob_12, ob_13, ob_14, ob_15, ob_16, ob_17, ob_18, ob_19, ob_20, ob_21, ob_22, ob_23, ob_24, ob_25, ob_26, ob_27, ob_28, ob_29, ob_30, ob_31, ob_32, ob_33, ob_34, ob_35, ob_36, ob_37, ob_38, ob_39, ob_40, ob_41, ob_42, ob_43, ob_44, ob_45, ob_46, ob_47, ob_48, ob_49, ob_50, ob_51, ob_52, ob_53, ob_54, ob_55, ob_56, ob_57, ob_58, ob_59, ob_60, ob_61, ob_62, ob_63, ob_64, ob_65, jf7, aGi, aGb, aGz, aGj, leT, leF, ltT, ltF, eqT, eqF, putW_w, putW_cl, putW_mo, putW_s11, putW_s34, putW_s35, putW_at, beq_tt, beq_tf, beq_ft, beq_ff, Bool.true_and, Bool.false_and, Bool.and_true, Bool.and_false, Bool.true_or, Bool.false_or, Bool.or_true, Bool.or_false, Bool.true_eq_false, Bool.false_eq_true, Bool.not_true, Bool.not_false, bZ_t, bZ_f, zI_b0, zI_b1, zI_bb, okZ_0, okZ_1, p2, e1]
    | true =>
      have hv := hw.1 (4 * q + T 2 (46 + T 2 (82 + f))) (by omega) (by omega)
      have ha := ha rfl
      have ww := tm_wants (d := d + 1) (m := m) (T := T) (h := h) (r := r) (c := T 2 (64 + f)) (v := w.1 (4 * q + T 2 (46 + T 2 (82 + f)))) hw r0 r1 (by omega) (by omega) (by omega) (by omega)
      have hw2 := want1_W (i := 4 * r + T 2 (64 + f)) (v := w.1 (4 * q + T 2 (46 + T 2 (82 + f)))) hw (by omega)
      have l := fk_151 (d := d) (m := m) (h := h) (i5 := zI 1) W r0 r1 f0 f1 q0 q1 hw2 (fun e => ⟨(hb e).1, want1_L (by omega) _ (hb e).2⟩)
      simp only [if_true]
      rw [← l, E7029_105]
      simp (disch := omega) only [jc_ref, rI_int, rR_ref, rR_null, rJ_long, ckR_ref, ckR_null, ckr_ref, ckr_null, ckW_int, ckW_ref, ckW_null, cI_ok, cR_ok, cR_null, cV_ok, cJ_ok, qH_eq, qD_in, aG_ref, aS_ref, aL_ref, pF_ref, cK_ref, cK_null, zI_lit, zJ_lit, zI_add, zI_sub, zI_mul, zI_neg, zI_eq, zI_lt, zI_le, Int.reduceLT, Int.reduceLE, Int.reduceAdd, Int.reduceSub, Int.reduceMul, Int.reduceNeg, Int.reduceEq, Int.reduceNe, reduceIte, tw_0, tw_1, tw_2, tw_3, tw_4, tw_5, tw_6, tw_7, tw_8, tw_9, tw_10, tw_11, tw_12, tw_13, tw_14, tw_15, tw_16, tw_17, tw_18, tw_19, tw_20, tw_21, tw_22, tw_23, tw_24, tw_25, tw_26, tw_27, tw_28, tw_29, tw_30, tw_31, ob_0, ob_1, ob_2, ob_3, ob_4, ob_5, ob_6, ob_7, ob_8, ob_9, ob_10, ob_11, ob_12, ob_13, ob_14, ob_15, ob_16, ob_17, ob_18, ob_19, ob_20, ob_21, ob_22, ob_23, ob_24, ob_25, ob_26, ob_27, ob_28, ob_29, ob_30, ob_31, ob_32, ob_33, ob_34, ob_35, ob_36, ob_37, ob_38, ob_39, ob_40, ob_41, ob_42, ob_43, ob_44, ob_45, ob_46, ob_47, ob_48, ob_49, ob_50, ob_51, ob_52, ob_53, ob_54, ob_55, ob_56, ob_57, ob_58, ob_59, ob_60, ob_61, ob_62, ob_63, ob_64, ob_65, jf7, aGi, aGb, aGz, aGj, leT, leF, ltT, ltF, eqT, eqF, putW_w, putW_cl, putW_mo, putW_s11, putW_s34, putW_s35, putW_at, beq_tt, beq_tf, beq_ft, beq_ff, Bool.true_and, Bool.false_and, Bool.and_true, Bool.and_false, Bool.true_or, Bool.false_or, Bool.or_true, Bool.or_false, Bool.true_eq_false, Bool.false_eq_true, Bool.not_true, Bool.not_false, bZ_t, bZ_f, zI_b0, zI_b1, zI_bb, okZ_0, okZ_1, p2, e1, c1, c2, ww]
  · rw [if_pos e1, E7029_105]
    simp (disch := omega) only [jc_ref, rI_int, rR_ref, rR_null, rJ_long, ckR_ref, ckR_null, ckr_ref, ckr_null, ckW_int, ckW_ref, ckW_null, cI_ok, cR_ok, cR_null, cV_ok, cJ_ok, qH_eq, qD_in, aG_ref, aS_ref, aL_ref, pF_ref, cK_ref, cK_null, zI_lit, zJ_lit, zI_add, zI_sub, zI_mul, zI_neg, zI_eq, zI_lt, zI_le, Int.reduceLT, Int.reduceLE, Int.reduceAdd, Int.reduceSub, Int.reduceMul, Int.reduceNeg, Int.reduceEq, Int.reduceNe, reduceIte, tw_0, tw_1, tw_2, tw_3, tw_4, tw_5, tw_6, tw_7, tw_8, tw_9, tw_10, tw_11, tw_12, tw_13, tw_14, tw_15, tw_16, tw_17, tw_18, tw_19, tw_20, tw_21, tw_22, tw_23, tw_24, tw_25, tw_26, tw_27, tw_28, tw_29, tw_30, tw_31, ob_0, ob_1, ob_2, ob_3, ob_4, ob_5, ob_6, ob_7, ob_8, ob_9, ob_10, ob_11, ob_12, ob_13, ob_14, ob_15, ob_16, ob_17, ob_18, ob_19, ob_20, ob_21, ob_22, ob_23, ob_24, ob_25, ob_26, ob_27, ob_28, ob_29, ob_30, ob_31, ob_32, ob_33, ob_34, ob_35, ob_36, ob_37, ob_38, ob_39, ob_40, ob_41, ob_42, ob_43, ob_44, ob_45, ob_46, ob_47, ob_48, ob_49, ob_50, ob_51, ob_52, ob_53, ob_54, ob_55, ob_56, ob_57, ob_58, ob_59, ob_60, ob_61, ob_62, ob_63, ob_64, ob_65, jf7, aGi, aGb, aGz, aGj, leT, leF, ltT, ltF, eqT, eqF, putW_w, putW_cl, putW_mo, putW_s11, putW_s34, putW_s35, putW_at, beq_tt, beq_tf, beq_ft, beq_ff, Bool.true_and, Bool.false_and, Bool.and_true, Bool.and_false, Bool.true_or, Bool.false_or, Bool.or_true, Bool.or_false, Bool.true_eq_false, Bool.false_eq_true, Bool.not_true, Bool.not_false, bZ_t, bZ_f, zI_b0, zI_b1, zI_bb, okZ_0, okZ_1, p2, e1]
theorem tm_followsKey (W : StW (T 2)) (r0 : 0 ≤ r) (r1 : r < 99) (f0 : 0 ≤ f) (f1 : f < T 2 2) (q0 : 0 ≤ q) (q1 : q < 99) (hw : WsW w) : M (d + 3) 7029 [.ref m, .int (zI r), .int (zI f), .int (zI q)] (tw m (putW T w) h) = some (.inl none, tw m (putW T (folK (T 2) r f q w)) h) := by
  have p2 : putW T w 2 = T 2 := putW_at (by decide) (by decide)
  obtain ⟨k1, k2, -, k3, -⟩ := W.key2 f0 f1
  have rf := W.ref f0 f1
  have ky := W.key k1.1 k1.2
  have ca := tm_keyCol (d := d + 1) (m := m) (h := h) (T := putW T w) (k := T 2 (82 + f)) (j := 0) (by rw [p2]; exact W) k1.1 (by rw [p2]; exact k1.2) (Or.inl rfl)
  have cb := tm_keyCol (d := d + 1) (m := m) (h := h) (T := putW T w) (k := T 2 (82 + f)) (j := 1) (by rw [p2]; exact W) k1.1 (by rw [p2]; exact k1.2) (Or.inr rfl)
  rw [if_pos rfl, p2] at ca
  rw [if_neg (by decide), p2] at cb
  have oa := tm_isOther (d := d) (m := m) (h := h) (T := T) W hw q0 q1 ky.2.1.1 ky.2.1.2
  have key : ∀ (a b : Bool), a = isOth (T 2) w q (T 2 (46 + T 2 (82 + f))) → b = (!decide (T 2 (52 + T 2 (82 + f)) < 0) && isOth (T 2) w q (T 2 (52 + T 2 (82 + f)))) → ¬ (a = false ∧ b = false) →
      G (d + 2) 7029 68 [.ref m, .int (zI r), .int (zI f), .int (zI q), .int (zI (T 2 (82 + f))), .int (zI (bZ a)), .int (zI (bZ b))] [] (tw m (putW T w) h) = some (.inl none, tw m (putW T (folK (T 2) r f q w)) h) := by
    intro a b ea eb hab
    have ha : a = true → w.1 (4 * q + T 2 (46 + T 2 (82 + f))) ≠ -9 := fun e => by
      have := isOth_v hw q0 q1 ky.2.1.1 ky.2.1.2 (ea.symm.trans e); omega
    have hb : b = true → ¬ T 2 (52 + T 2 (82 + f)) < 0 ∧ w.1 (4 * q + T 2 (52 + T 2 (82 + f))) ≠ -9 := fun e => by
      have e3 := eb.symm.trans e
      simp only [Bool.and_eq_true, Bool.not_eq_true', decide_eq_false_iff_not] at e3
      refine ⟨e3.1, ?_⟩
      have := isOth_v hw q0 q1 (by omega) ky.2.2.1.2 e3.2; omega
    unfold folK
    simp only [← ea, ← eb]
    rw [if_neg hab]
    by_cases e1 : T 2 (94 + f) ≤ 1
    · have l := fk_105 (d := d) (m := m) (h := h) W r0 r1 f0 f1 q0 q1 hw ha hb
      simp only [if_pos e1]
      rw [← l, E7029_68]
      simp (disch := omega) only [jc_ref, rI_int, rR_ref, rR_null, rJ_long, ckR_ref, ckR_null, ckr_ref, ckr_null, ckW_int, ckW_ref, ckW_null, cI_ok, cR_ok, cR_null, cV_ok, cJ_ok, qH_eq, qD_in, aG_ref, aS_ref, aL_ref, pF_ref, cK_ref, cK_null, zI_lit, zJ_lit, zI_add, zI_sub, zI_mul, zI_neg, zI_eq, zI_lt, zI_le, Int.reduceLT, Int.reduceLE, Int.reduceAdd, Int.reduceSub, Int.reduceMul, Int.reduceNeg, Int.reduceEq, Int.reduceNe, reduceIte, tw_0, tw_1, tw_2, tw_3, tw_4, tw_5, tw_6, tw_7, tw_8, tw_9, tw_10, tw_11, tw_12, tw_13, tw_14, tw_15, tw_16, tw_17, tw_18, tw_19, tw_20, tw_21, tw_22, tw_23, tw_24, tw_25, tw_26, tw_27, tw_28, tw_29, tw_30, tw_31, ob_0, ob_1, ob_2, ob_3, ob_4, ob_5, ob_6, ob_7, ob_8, ob_9, ob_10, ob_11, ob_12, ob_13, ob_14, ob_15, ob_16, ob_17, ob_18, ob_19, ob_20, ob_21, ob_22, ob_23, ob_24, ob_25, ob_26, ob_27, ob_28, ob_29, ob_30, ob_31, ob_32, ob_33, ob_34, ob_35, ob_36, ob_37, ob_38, ob_39, ob_40, ob_41, ob_42, ob_43, ob_44, ob_45, ob_46, ob_47, ob_48, ob_49, ob_50, ob_51, ob_52, ob_53, ob_54, ob_55, ob_56, ob_57, ob_58, ob_59, ob_60, ob_61, ob_62, ob_63, ob_64, ob_65, jf7, aGi, aGb, aGz, aGj, leT, leF, ltT, ltF, eqT, eqF, putW_w, putW_cl, putW_mo, putW_s11, putW_s34, putW_s35, putW_at, beq_tt, beq_tf, beq_ft, beq_ff, Bool.true_and, Bool.false_and, Bool.and_true, Bool.and_false, Bool.true_or, Bool.false_or, Bool.or_true, Bool.or_false, Bool.true_eq_false, Bool.false_eq_true, Bool.not_true, Bool.not_false, bZ_t, bZ_f, zI_b0, zI_b1, zI_bb, okZ_0, okZ_1, p2, e1]
    · have l := fun b' => fk_105 (d := d) (m := m) (h := h) W r0 r1 f0 f1 q0 q1 (wantsA_W (r := r) (b := b') W hw f0 f1) (a := a) (b := b) (fun e => wantsA_L W f0 f1 _ (ha e)) (fun e => ⟨(hb e).1, wantsA_L W f0 f1 _ (hb e).2⟩)
      simp only [if_neg e1]
      rw [← l, E7029_68]
      by_cases e2 : T 2 (94 + f) = 3
      · have wa := tm_wantsAll (d := d) (m := m) (h := h) (T := T) (b := true) W hw r0 r1 f0 f1
        rw [bZ_t] at wa
        simp (disch := omega) only [jc_ref, rI_int, rR_ref, rR_null, rJ_long, ckR_ref, ckR_null, ckr_ref, ckr_null, ckW_int, ckW_ref, ckW_null, cI_ok, cR_ok, cR_null, cV_ok, cJ_ok, qH_eq, qD_in, aG_ref, aS_ref, aL_ref, pF_ref, cK_ref, cK_null, zI_lit, zJ_lit, zI_add, zI_sub, zI_mul, zI_neg, zI_eq, zI_lt, zI_le, Int.reduceLT, Int.reduceLE, Int.reduceAdd, Int.reduceSub, Int.reduceMul, Int.reduceNeg, Int.reduceEq, Int.reduceNe, reduceIte, tw_0, tw_1, tw_2, tw_3, tw_4, tw_5, tw_6, tw_7, tw_8, tw_9, tw_10, tw_11, tw_12, tw_13, tw_14, tw_15, tw_16, tw_17, tw_18, tw_19, tw_20, tw_21, tw_22, tw_23, tw_24, tw_25, tw_26, tw_27, tw_28, tw_29, tw_30, tw_31, ob_0, ob_1, ob_2, ob_3, ob_4, ob_5, ob_6, ob_7, ob_8, ob_9, ob_10, ob_11, ob_12, ob_13, ob_14, ob_15, ob_16, ob_17, ob_18, ob_19, ob_20, ob_21, ob_22, ob_23, ob_24, ob_25, ob_26, ob_27, ob_28, ob_29, ob_30, ob_31, ob_32, ob_33, ob_34, ob_35, ob_36, ob_37, ob_38, ob_39, ob_40, ob_41, ob_42, ob_43, ob_44, ob_45, ob_46, ob_47, ob_48, ob_49, ob_50, ob_51, ob_52, ob_53, ob_54, ob_55, ob_56, ob_57, ob_58, ob_59, ob_60, ob_61, ob_62, ob_63, ob_64, ob_65, jf7, aGi, aGb, aGz, aGj, leT, leF, ltT, ltF, eqT, eqF, putW_w, putW_cl, putW_mo, putW_s11, putW_s34, putW_s35, putW_at, beq_tt, beq_tf, beq_ft, beq_ff, Bool.true_and, Bool.false_and, Bool.and_true, Bool.and_false, Bool.true_or, Bool.false_or, Bool.or_true, Bool.or_false, Bool.true_eq_false, Bool.false_eq_true, Bool.not_true, Bool.not_false, bZ_t, bZ_f, zI_b0, zI_b1, zI_bb, okZ_0, okZ_1, p2, e1, e2, wa, decide_true]
      · have wa := tm_wantsAll (d := d) (m := m) (h := h) (T := T) (b := false) W hw r0 r1 f0 f1
        rw [bZ_f] at wa
        simp (disch := omega) only [jc_ref, rI_int, rR_ref, rR_null, rJ_long, ckR_ref, ckR_null, ckr_ref, ckr_null, ckW_int, ckW_ref, ckW_null, cI_ok, cR_ok, cR_null, cV_ok, cJ_ok, qH_eq, qD_in, aG_ref, aS_ref, aL_ref, pF_ref, cK_ref, cK_null, zI_lit, zJ_lit, zI_add, zI_sub, zI_mul, zI_neg, zI_eq, zI_lt, zI_le, Int.reduceLT, Int.reduceLE, Int.reduceAdd, Int.reduceSub, Int.reduceMul, Int.reduceNeg, Int.reduceEq, Int.reduceNe, reduceIte, tw_0, tw_1, tw_2, tw_3, tw_4, tw_5, tw_6, tw_7, tw_8, tw_9, tw_10, tw_11, tw_12, tw_13, tw_14, tw_15, tw_16, tw_17, tw_18, tw_19, tw_20, tw_21, tw_22, tw_23, tw_24, tw_25, tw_26, tw_27, tw_28, tw_29, tw_30, tw_31, ob_0, ob_1, ob_2, ob_3, ob_4, ob_5, ob_6, ob_7, ob_8, ob_9, ob_10, ob_11, ob_12, ob_13, ob_14, ob_15, ob_16, ob_17, ob_18, ob_19, ob_20, ob_21, ob_22, ob_23, ob_24, ob_25, ob_26, ob_27, ob_28, ob_29, ob_30, ob_31, ob_32, ob_33, ob_34, ob_35, ob_36, ob_37, ob_38, ob_39, ob_40, ob_41, ob_42, ob_43, ob_44, ob_45, ob_46, ob_47, ob_48, ob_49, ob_50, ob_51, ob_52, ob_53, ob_54, ob_55, ob_56, ob_57, ob_58, ob_59, ob_60, ob_61, ob_62, ob_63, ob_64, ob_65, jf7, aGi, aGb, aGz, aGj, leT, leF, ltT, ltF, eqT, eqF, putW_w, putW_cl, putW_mo, putW_s11, putW_s34, putW_s35, putW_at, beq_tt, beq_tf, beq_ft, beq_ff, Bool.true_and, Bool.false_and, Bool.and_true, Bool.and_false, Bool.true_or, Bool.false_or, Bool.or_true, Bool.or_false, Bool.true_eq_false, Bool.false_eq_true, Bool.not_true, Bool.not_false, bZ_t, bZ_f, zI_b0, zI_b1, zI_bb, okZ_0, okZ_1, p2, e1, e2, wa, decide_false]
  rw [X7029 _ (tw_recv rfl), E7029_0]
  by_cases e1 : T 2 (52 + T 2 (82 + f)) < 0
  · cases e2 : isOth (T 2) w q (T 2 (46 + T 2 (82 + f))) with
    | false =>
      have ee : folK (T 2) r f q w = w := by unfold folK; simp [e1, e2]
      rw [ee]
      simp (disch := omega) only [jc_ref, rI_int, rR_ref, rR_null, rJ_long, ckR_ref, ckR_null, ckr_ref, ckr_null, ckW_int, ckW_ref, ckW_null, cI_ok, cR_ok, cR_null, cV_ok, cJ_ok, qH_eq, qD_in, aG_ref, aS_ref, aL_ref, pF_ref, cK_ref, cK_null, zI_lit, zJ_lit, zI_add, zI_sub, zI_mul, zI_neg, zI_eq, zI_lt, zI_le, Int.reduceLT, Int.reduceLE, Int.reduceAdd, Int.reduceSub, Int.reduceMul, Int.reduceNeg, Int.reduceEq, Int.reduceNe, reduceIte, tw_0, tw_1, tw_2, tw_3, tw_4, tw_5, tw_6, tw_7, tw_8, tw_9, tw_10, tw_11, tw_12, tw_13, tw_14, tw_15, tw_16, tw_17, tw_18, tw_19, tw_20, tw_21, tw_22, tw_23, tw_24, tw_25, tw_26, tw_27, tw_28, tw_29, tw_30, tw_31, ob_0, ob_1, ob_2, ob_3, ob_4, ob_5, ob_6, ob_7, ob_8, ob_9, ob_10, ob_11, ob_12, ob_13, ob_14, ob_15, ob_16, ob_17, ob_18, ob_19, ob_20, ob_21, ob_22, ob_23, ob_24, ob_25, ob_26, ob_27, ob_28, ob_29, ob_30, ob_31, ob_32, ob_33, ob_34, ob_35, ob_36, ob_37, ob_38, ob_39, ob_40, ob_41, ob_42, ob_43, ob_44, ob_45, ob_46, ob_47, ob_48, ob_49, ob_50, ob_51, ob_52, ob_53, ob_54, ob_55, ob_56, ob_57, ob_58, ob_59, ob_60, ob_61, ob_62, ob_63, ob_64, ob_65, jf7, aGi, aGb, aGz, aGj, leT, leF, ltT, ltF, eqT, eqF, putW_w, putW_cl, putW_mo, putW_s11, putW_s34, putW_s35, putW_at, beq_tt, beq_tf, beq_ft, beq_ff, Bool.true_and, Bool.false_and, Bool.and_true, Bool.and_false, Bool.true_or, Bool.false_or, Bool.or_true, Bool.or_false, Bool.true_eq_false, Bool.false_eq_true, Bool.not_true, Bool.not_false, bZ_t, bZ_f, zI_b0, zI_b1, zI_bb, okZ_0, okZ_1, p2, ca, cb, oa, e1, e2]
    | true =>
      have k := key true false e2.symm (by simp [e1]) (by simp)
      rw [← k]
      simp (disch := omega) only [jc_ref, rI_int, rR_ref, rR_null, rJ_long, ckR_ref, ckR_null, ckr_ref, ckr_null, ckW_int, ckW_ref, ckW_null, cI_ok, cR_ok, cR_null, cV_ok, cJ_ok, qH_eq, qD_in, aG_ref, aS_ref, aL_ref, pF_ref, cK_ref, cK_null, zI_lit, zJ_lit, zI_add, zI_sub, zI_mul, zI_neg, zI_eq, zI_lt, zI_le, Int.reduceLT, Int.reduceLE, Int.reduceAdd, Int.reduceSub, Int.reduceMul, Int.reduceNeg, Int.reduceEq, Int.reduceNe, reduceIte, tw_0, tw_1, tw_2, tw_3, tw_4, tw_5, tw_6, tw_7, tw_8, tw_9, tw_10, tw_11, tw_12, tw_13, tw_14, tw_15, tw_16, tw_17, tw_18, tw_19, tw_20, tw_21, tw_22, tw_23, tw_24, tw_25, tw_26, tw_27, tw_28, tw_29, tw_30, tw_31, ob_0, ob_1, ob_2, ob_3, ob_4, ob_5, ob_6, ob_7, ob_8, ob_9, ob_10, ob_11, ob_12, ob_13, ob_14, ob_15, ob_16, ob_17, ob_18, ob_19, ob_20, ob_21, ob_22, ob_23, ob_24, ob_25, ob_26, ob_27, ob_28, ob_29, ob_30, ob_31, ob_32, ob_33, ob_34, ob_35, ob_36, ob_37, ob_38, ob_39, ob_40, ob_41, ob_42, ob_43, ob_44, ob_45, ob_46, ob_47, ob_48, ob_49, ob_50, ob_51, ob_52, ob_53, ob_54, ob_55, ob_56, ob_57, ob_58, ob_59, ob_60, ob_61, ob_62, ob_63, ob_64, ob_65, jf7, aGi, aGb, aGz, aGj, leT, leF, ltT, ltF, eqT, eqF, putW_w, putW_cl, putW_mo, putW_s11, putW_s34, putW_s35, putW_at, beq_tt, beq_tf, beq_ft, beq_ff, Bool.true_and, Bool.false_and, Bool.and_true, Bool.and_false, Bool.true_or, Bool.false_or, Bool.or_true, Bool.or_false, Bool.true_eq_false, Bool.false_eq_true, Bool.not_true, Bool.not_false, bZ_t, bZ_f, zI_b0, zI_b1, zI_bb, okZ_0, okZ_1, p2, ca, cb, oa, e1, e2]
  · have ob := tm_isOther (d := d) (m := m) (h := h) (T := T) W hw q0 q1 (show 0 ≤ T 2 (52 + T 2 (82 + f)) by omega) ky.2.2.1.2
    cases e2 : isOth (T 2) w q (T 2 (46 + T 2 (82 + f))) with
    | false =>
      cases e3 : isOth (T 2) w q (T 2 (52 + T 2 (82 + f))) with
      | false =>
        have ee : folK (T 2) r f q w = w := by unfold folK; simp [e2, e3]
        rw [ee]
        simp (disch := omega) only [jc_ref, rI_int, rR_ref, rR_null, rJ_long, ckR_ref, ckR_null, ckr_ref, ckr_null, ckW_int, ckW_ref, ckW_null, cI_ok, cR_ok, cR_null, cV_ok, cJ_ok, qH_eq, qD_in, aG_ref, aS_ref, aL_ref, pF_ref, cK_ref, cK_null, zI_lit, zJ_lit, zI_add, zI_sub, zI_mul, zI_neg, zI_eq, zI_lt, zI_le, Int.reduceLT, Int.reduceLE, Int.reduceAdd, Int.reduceSub, Int.reduceMul, Int.reduceNeg, Int.reduceEq, Int.reduceNe, reduceIte, tw_0, tw_1, tw_2, tw_3, tw_4, tw_5, tw_6, tw_7, tw_8, tw_9, tw_10, tw_11, tw_12, tw_13, tw_14, tw_15, tw_16, tw_17, tw_18, tw_19, tw_20, tw_21, tw_22, tw_23, tw_24, tw_25, tw_26, tw_27, tw_28, tw_29, tw_30, tw_31, ob_0, ob_1, ob_2, ob_3, ob_4, ob_5, ob_6, ob_7, ob_8, ob_9, ob_10, ob_11, ob_12, ob_13, ob_14, ob_15, ob_16, ob_17, ob_18, ob_19, ob_20, ob_21, ob_22, ob_23, ob_24, ob_25, ob_26, ob_27, ob_28, ob_29, ob_30, ob_31, ob_32, ob_33, ob_34, ob_35, ob_36, ob_37, ob_38, ob_39, ob_40, ob_41, ob_42, ob_43, ob_44, ob_45, ob_46, ob_47, ob_48, ob_49, ob_50, ob_51, ob_52, ob_53, ob_54, ob_55, ob_56, ob_57, ob_58, ob_59, ob_60, ob_61, ob_62, ob_63, ob_64, ob_65, jf7, aGi, aGb, aGz, aGj, leT, leF, ltT, ltF, eqT, eqF, putW_w, putW_cl, putW_mo, putW_s11, putW_s34, putW_s35, putW_at, beq_tt, beq_tf, beq_ft, beq_ff, Bool.true_and, Bool.false_and, Bool.and_true, Bool.and_false, Bool.true_or, Bool.false_or, Bool.or_true, Bool.or_false, Bool.true_eq_false, Bool.false_eq_true, Bool.not_true, Bool.not_false, bZ_t, bZ_f, zI_b0, zI_b1, zI_bb, okZ_0, okZ_1, p2, ca, cb, oa, ob, e1, e2, e3]
      | true =>
        have k := key false true e2.symm (by simp [e1, e3]) (by simp)
        rw [← k]
        simp (disch := omega) only [jc_ref, rI_int, rR_ref, rR_null, rJ_long, ckR_ref, ckR_null, ckr_ref, ckr_null, ckW_int, ckW_ref, ckW_null, cI_ok, cR_ok, cR_null, cV_ok, cJ_ok, qH_eq, qD_in, aG_ref, aS_ref, aL_ref, pF_ref, cK_ref, cK_null, zI_lit, zJ_lit, zI_add, zI_sub, zI_mul, zI_neg, zI_eq, zI_lt, zI_le, Int.reduceLT, Int.reduceLE, Int.reduceAdd, Int.reduceSub, Int.reduceMul, Int.reduceNeg, Int.reduceEq, Int.reduceNe, reduceIte, tw_0, tw_1, tw_2, tw_3, tw_4, tw_5, tw_6, tw_7, tw_8, tw_9, tw_10, tw_11, tw_12, tw_13, tw_14, tw_15, tw_16, tw_17, tw_18, tw_19, tw_20, tw_21, tw_22, tw_23, tw_24, tw_25, tw_26, tw_27, tw_28, tw_29, tw_30, tw_31, ob_0, ob_1, ob_2, ob_3, ob_4, ob_5, ob_6, ob_7, ob_8, ob_9, ob_10, ob_11, ob_12, ob_13, ob_14, ob_15, ob_16, ob_17, ob_18, ob_19, ob_20, ob_21, ob_22, ob_23, ob_24, ob_25, ob_26, ob_27, ob_28, ob_29, ob_30, ob_31, ob_32, ob_33, ob_34, ob_35, ob_36, ob_37, ob_38, ob_39, ob_40, ob_41, ob_42, ob_43, ob_44, ob_45, ob_46, ob_47, ob_48, ob_49, ob_50, ob_51, ob_52, ob_53, ob_54, ob_55, ob_56, ob_57, ob_58, ob_59, ob_60, ob_61, ob_62, ob_63, ob_64, ob_65, jf7, aGi, aGb, aGz, aGj, leT, leF, ltT, ltF, eqT, eqF, putW_w, putW_cl, putW_mo, putW_s11, putW_s34, putW_s35, putW_at, beq_tt, beq_tf, beq_ft, beq_ff, Bool.true_and, Bool.false_and, Bool.and_true, Bool.and_false, Bool.true_or, Bool.false_or, Bool.or_true, Bool.or_false, Bool.true_eq_false, Bool.false_eq_true, Bool.not_true, Bool.not_false, bZ_t, bZ_f, zI_b0, zI_b1, zI_bb, okZ_0, okZ_1, p2, ca, cb, oa, ob, e1, e2, e3]
    | true =>
      cases e3 : isOth (T 2) w q (T 2 (52 + T 2 (82 + f))) with
      | false =>
        have k := key true false e2.symm (by simp [e1, e3]) (by simp)
        rw [← k]
        simp (disch := omega) only [jc_ref, rI_int, rR_ref, rR_null, rJ_long, ckR_ref, ckR_null, ckr_ref, ckr_null, ckW_int, ckW_ref, ckW_null, cI_ok, cR_ok, cR_null, cV_ok, cJ_ok, qH_eq, qD_in, aG_ref, aS_ref, aL_ref, pF_ref, cK_ref, cK_null, zI_lit, zJ_lit, zI_add, zI_sub, zI_mul, zI_neg, zI_eq, zI_lt, zI_le, Int.reduceLT, Int.reduceLE, Int.reduceAdd, Int.reduceSub, Int.reduceMul, Int.reduceNeg, Int.reduceEq, Int.reduceNe, reduceIte, tw_0, tw_1, tw_2, tw_3, tw_4, tw_5, tw_6, tw_7, tw_8, tw_9, tw_10, tw_11, tw_12, tw_13, tw_14, tw_15, tw_16, tw_17, tw_18, tw_19, tw_20, tw_21, tw_22, tw_23, tw_24, tw_25, tw_26, tw_27, tw_28, tw_29, tw_30, tw_31, ob_0, ob_1, ob_2, ob_3, ob_4, ob_5, ob_6, ob_7, ob_8, ob_9, ob_10, ob_11, ob_12, ob_13, ob_14, ob_15, ob_16, ob_17, ob_18, ob_19, ob_20, ob_21, ob_22, ob_23, ob_24, ob_25, ob_26, ob_27, ob_28, ob_29, ob_30, ob_31, ob_32, ob_33, ob_34, ob_35, ob_36, ob_37, ob_38, ob_39, ob_40, ob_41, ob_42, ob_43, ob_44, ob_45, ob_46, ob_47, ob_48, ob_49, ob_50, ob_51, ob_52, ob_53, ob_54, ob_55, ob_56, ob_57, ob_58, ob_59, ob_60, ob_61, ob_62, ob_63, ob_64, ob_65, jf7, aGi, aGb, aGz, aGj, leT, leF, ltT, ltF, eqT, eqF, putW_w, putW_cl, putW_mo, putW_s11, putW_s34, putW_s35, putW_at, beq_tt, beq_tf, beq_ft, beq_ff, Bool.true_and, Bool.false_and, Bool.and_true, Bool.and_false, Bool.true_or, Bool.false_or, Bool.or_true, Bool.or_false, Bool.true_eq_false, Bool.false_eq_true, Bool.not_true, Bool.not_false, bZ_t, bZ_f, zI_b0, zI_b1, zI_bb, okZ_0, okZ_1, p2, ca, cb, oa, ob, e1, e2, e3]
      | true =>
        have k := key true true e2.symm (by simp [e1, e3]) (by simp)
        rw [← k]
        simp (disch := omega) only [jc_ref, rI_int, rR_ref, rR_null, rJ_long, ckR_ref, ckR_null, ckr_ref, ckr_null, ckW_int, ckW_ref, ckW_null, cI_ok, cR_ok, cR_null, cV_ok, cJ_ok, qH_eq, qD_in, aG_ref, aS_ref, aL_ref, pF_ref, cK_ref, cK_null, zI_lit, zJ_lit, zI_add, zI_sub, zI_mul, zI_neg, zI_eq, zI_lt, zI_le, Int.reduceLT, Int.reduceLE, Int.reduceAdd, Int.reduceSub, Int.reduceMul, Int.reduceNeg, Int.reduceEq, Int.reduceNe, reduceIte, tw_0, tw_1, tw_2, tw_3, tw_4, tw_5, tw_6, tw_7, tw_8, tw_9, tw_10, tw_11, tw_12, tw_13, tw_14, tw_15, tw_16, tw_17, tw_18, tw_19, tw_20, tw_21, tw_22, tw_23, tw_24, tw_25, tw_26, tw_27, tw_28, tw_29, tw_30, tw_31, ob_0, ob_1, ob_2, ob_3, ob_4, ob_5, ob_6, ob_7, ob_8, ob_9, ob_10, ob_11, ob_12, ob_13, ob_14, ob_15, ob_16, ob_17, ob_18, ob_19, ob_20, ob_21, ob_22, ob_23, ob_24, ob_25, ob_26, ob_27, ob_28, ob_29, ob_30, ob_31, ob_32, ob_33, ob_34, ob_35, ob_36, ob_37, ob_38, ob_39, ob_40, ob_41, ob_42, ob_43, ob_44, ob_45, ob_46, ob_47, ob_48, ob_49, ob_50, ob_51, ob_52, ob_53, ob_54, ob_55, ob_56, ob_57, ob_58, ob_59, ob_60, ob_61, ob_62, ob_63, ob_64, ob_65, jf7, aGi, aGb, aGz, aGj, leT, leF, ltT, ltF, eqT, eqF, putW_w, putW_cl, putW_mo, putW_s11, putW_s34, putW_s35, putW_at, beq_tt, beq_tf, beq_ft, beq_ff, Bool.true_and, Bool.false_and, Bool.and_true, Bool.and_false, Bool.true_or, Bool.false_or, Bool.or_true, Bool.or_false, Bool.true_eq_false, Bool.false_eq_true, Bool.not_true, Bool.not_false, bZ_t, bZ_f, zI_b0, zI_b1, zI_bb, okZ_0, okZ_1, p2, ca, cb, oa, ob, e1, e2, e3]
end
end
