/-! a row comes -/
def insV (S L : Int → Int) (to k : Int) : Int := if k < S (4 + L (to + 1)) then L (to + 3 + k) else -1
def insQ (S L : Int → Int) (to c : Int) : Int → Int := fun i => if i = 150 + S 148 then 1 else if i = 249 + S 148 then L (to + 1) else if 348 + 4 * S 148 ≤ i ∧ i < 348 + 4 * S 148 + c then insV S L to (i - (348 + 4 * S 148)) else S i
def insS (S L : Int → Int) (to : Int) : Int → Int := fset (insQ S L to 4) 148 (S 148 + 1)
section
variable {S L : Int → Int} {to : Int}
theorem insQ_lo {c i : Int} (h0 : 0 ≤ S 148) (h : i < 150) : insQ S L to c i = S i := by unfold insQ; rw [if_neg (by omega), if_neg (by omega), if_neg (by omega)]
theorem insQ_0 (h0 : 0 ≤ S 148) : fset (fset S (150 + S 148) 1) (249 + S 148) (L (to + 1)) = insQ S L to 0 := by
  funext i
  unfold insQ
  rw [fset_at, fset_at]
  by_cases e1 : i = 150 + S 148
  · rw [if_pos e1, if_neg (by omega), if_pos e1]
  · rw [if_neg e1]
    by_cases e2 : i = 249 + S 148
    · rw [if_pos e2, if_neg e1, if_pos e2]
    · simp only [if_neg e2, if_neg e1]
      rw [if_neg (by omega)]
theorem insQ_s {c : Int} (h0 : 0 ≤ S 148) (h1 : S 148 < 99) (c0 : 0 ≤ c) (c1 : c < 4) : fset (insQ S L to c) (348 + 4 * S 148 + c) (insV S L to c) = insQ S L to (c + 1) := by
  funext i
  rw [fset_at]
  unfold insQ
  by_cases e : i = 348 + 4 * S 148 + c
  · rw [if_pos e, if_neg (by omega), if_neg (by omega), if_pos (by omega), show i - (348 + 4 * S 148) = c by omega]
  · rw [if_neg e]
    by_cases e1 : i = 150 + S 148
    · rw [if_pos e1, if_pos e1]
    · rw [if_neg e1, if_neg e1]
      by_cases e2 : i = 249 + S 148
      · rw [if_pos e2, if_pos e2]
      · rw [if_neg e2, if_neg e2]
        by_cases e3 : 348 + 4 * S 148 ≤ i ∧ i < 348 + 4 * S 148 + c
        · rw [if_pos e3, if_pos (by omega)]
        · rw [if_neg e3, if_neg (by omega)]
/-- the values of a line that inserts are well made -/
def InW (S L : Int → Int) (to : Int) : Prop := (0 ≤ L (to + 1) ∧ L (to + 1) < S 0) ∧ ∀ k, 0 ≤ k → k < S (4 + L (to + 1)) → -1 ≤ L (to + 3 + k) ∧ L (to + 3 + k) ≤ 99
theorem insV_rg {k : Int} (I : InW S L to) (k0 : 0 ≤ k) : -1 ≤ insV S L to k ∧ insV S L to k ≤ 99 := by
  unfold insV
  split
  · exact I.2 k k0 (by assumption)
  · omega
theorem StW.ins (W : StW S) (I : InW S L to) (h1 : S 148 < 99) (h2 : cntA S 150 99 0 < 40) : StW (insS S L to) := by
  obtain ⟨w1, w2, w3, w4, w5, w6, w7, w8⟩ := id W
  have n0 := W.n0
  obtain ⟨⟨t0, t1⟩, I2⟩ := id I
  have co := W.co t0 (by omega)
  have lo : ∀ i, i < 148 → insS S L to i = S i := fun i hi => by unfold insS; rw [fset_ne (by omega), insQ_lo w5.1 (by omega)]
  have hi : ∀ i, 744 ≤ i → insS S L to i = S i := fun i hi => by unfold insS insQ; rw [fset_ne (by omega), if_neg (by omega), if_neg (by omega), if_neg (by omega)]
  have e148 : insS S L to 148 = S 148 + 1 := by unfold insS; rw [fset_eq]
  have e149 : insS S L to 149 = S 149 := by unfold insS; rw [fset_ne (by decide), insQ_lo w5.1 (by decide)]
  have ea : ∀ q, 0 ≤ q → q < 99 → insS S L to (150 + q) = if q = S 148 then 1 else S (150 + q) := fun q q0 q1 => by
    unfold insS insQ
    rw [fset_ne (by omega)]
    by_cases e : q = S 148
    · rw [if_pos (by omega), if_pos e]
    · rw [if_neg (by omega), if_neg e, if_neg (by omega), if_neg (by omega)]
  have et : ∀ q, 0 ≤ q → q < 99 → insS S L to (249 + q) = if q = S 148 then L (to + 1) else S (249 + q) := fun q q0 q1 => by
    unfold insS insQ
    rw [fset_ne (by omega), if_neg (by omega)]
    by_cases e : q = S 148
    · rw [if_pos (by omega), if_pos e]
    · rw [if_neg (by omega), if_neg e, if_neg (by omega)]
  have ec : ∀ q c, 0 ≤ q → q < 99 → 0 ≤ c → c < 4 → insS S L to (348 + 4 * q + c) = if q = S 148 then insV S L to c else S (348 + 4 * q + c) := fun q c q0 q1 c0 c1 => by
    unfold insS insQ
    rw [fset_ne (by omega), if_neg (by omega), if_neg (by omega)]
    by_cases e : q = S 148
    · rw [if_pos (by omega), if_pos e, show 348 + 4 * q + c - (348 + 4 * S 148) = c by omega]
    · rw [if_neg (by omega), if_neg e]
  have dead : S (150 + S 148) = 0 := by
    rcases (w2 (S 148) w5.1 h1).1.1 with e | e
    · exact e
    · have := (w2 (S 148) w5.1 h1).1.2 e; omega
  refine ⟨w1.cg lo, fun q q0 q1 => ?_, fun i i0 i1 => ?_, fun i i0 i1 => by rw [hi i (by omega)]; exact w4 i i0 i1, by rw [e148]; omega, by rw [e149]; exact w6, ?_, by rw [cntA_cg 99 0 (fun i h1 h2 => hi _ (by omega))]; exact w8⟩
  · obtain ⟨⟨a1, a2⟩, ⟨a3, a4⟩, a5, a6⟩ := w2 q q0 q1
    have cq := W.co a5 a6
    refine ⟨⟨?_, fun h => ?_⟩, ⟨by rw [hi _ (by omega)]; exact a3, fun h => ?_⟩, ?_⟩
    · rw [ea q q0 q1]; split
      · exact Or.inr rfl
      · exact a1
    · rw [ea q q0 q1] at h
      rw [et q q0 q1, lo 0 (by decide), e148]
      by_cases e : q = S 148
      · rw [if_pos e, lo _ (by omega)]
        refine ⟨t1, by omega, fun c c0 c1 => ?_⟩
        rw [ec q c q0 q1 (by omega) c1, if_pos e]
        unfold insV
        rw [if_neg (by omega)]
      · rw [if_neg e] at h ⊢
        obtain ⟨b1, b2, b3⟩ := a2 h
        rw [lo _ (by omega)]
        refine ⟨b1, by omega, fun c c0 c1 => ?_⟩
        rw [ec q c q0 q1 (by omega) c1, if_neg e]
        exact b3 c c0 c1
    · rw [hi _ (by omega)] at h
      obtain ⟨b1, b2, b3⟩ := a4 h
      rw [et q q0 q1, lo 0 (by decide), e148]
      rw [if_neg (show ¬ q = S 148 by omega), lo _ (by omega)]
      refine ⟨b1, by omega, fun c c0 c1 => ?_⟩
      rw [hi _ (by omega)]
      exact b3 c c0 c1
    · rw [et q q0 q1]
      split
      · omega
      · exact ⟨a5, a6⟩
  · by_cases e : i - 348 < 0
    · omega
    · have := ec ((i - 348) / 4) ((i - 348) % 4) (by omega) (by omega) (by omega) (by omega)
      rw [show 348 + 4 * ((i - 348) / 4) + (i - 348) % 4 = i by omega] at this
      rw [this]
      split
      · exact insV_rg I (by omega)
      · exact w3 i i0 i1
  · have e : cntA (insS S L to) 150 99 0 = cntA (fset S (150 + S 148) 1) 150 99 0 := cntA_cg 99 0 (fun q q0 q1 => by
      rw [ea q q0 (by omega), fset_at]
      by_cases e : q = S 148
      · rw [if_pos e, if_pos (by omega)]
      · rw [if_neg e, if_neg (by omega)])
    rw [e, cntA_fs 99 0 (by omega) (by omega), dead]
    omega
end
section
variable {d m : Nat} {T : Nat → Int → Int} {h : AH}
theorem in_40 {S : Int → Int} {to : Int} (W : StW S) (I : InW S (T 5) to) (h1 : S 148 < 99) (h0 : 0 ≤ to) (h2 : to ≤ 780) : ∀ (j : Nat) (c : Int), 0 ≤ c → c + j = 4 →
    G d 7034 40 [.ref m, .int (zI to), .int (zI (S 148)), .int (zI c)] [] (tw m (tg T 2 (insQ S (T 5) to c)) h) = some (.inl none, tw m (tg T 2 (insS S (T 5) to)) h) := by
  obtain ⟨⟨t0, t1⟩, I2⟩ := id I
  have n0 := W.n0
  have w5 := W.2.2.2.2.1
  have co := W.co t0 (by omega)
  intro j
  induction j with
  | zero =>
    intro c c0 hc
    obtain rfl : c = 4 := by omega
    have e1 : insQ S (T 5) to 4 148 = S 148 := insQ_lo w5.1 (by decide)
    unfold insS
    rw [E7034_40]
    simp (disch := omega) only [jc_ref, rI_int, rR_ref, rR_null, rJ_long, ckR_ref, ckR_null, ckr_ref, ckr_null, ckW_int, ckW_ref, ckW_null, cI_ok, cR_ok, cR_null, cV_ok, cJ_ok, qH_eq, qD_in, aG_ref, aS_ref, aL_ref, pF_ref, cK_ref, cK_null, zI_lit, zJ_lit, zI_add, zI_sub, zI_mul, zI_neg, zI_eq, zI_lt, zI_le, Int.reduceLT, Int.reduceLE, Int.reduceAdd, Int.reduceSub, Int.reduceMul, Int.reduceNeg, Int.reduceEq, Int.reduceNe, reduceIte, tw_0, tw_1, tw_2, tw_3, tw_4, tw_5, tw_6, tw_7, tw_8, tw_9, tw_10, tw_11, tw_12, tw_13, tw_14, tw_15, tw_16, tw_17, tw_18, tw_19, tw_20, tw_21, tw_22, tw_23, tw_24, tw_25, tw_26, tw_27, tw_28, tw_29, tw_30, tw_31, ob_0, ob_1, ob_2, ob_3, ob_4, ob_5, ob_6, ob_7, ob_8, ob_9, ob_10, ob_11, ob_12, ob_13, ob_14, ob_15, ob_16, ob_17, ob_18, ob_19, ob_20, ob_21, ob_22, ob_23, ob_24, ob_25, ob_26, ob_27, ob_28, ob_29, ob_30, ob_31, ob_32, ob_33, ob_34, ob_35, ob_36, ob_37, ob_38, ob_39, ob_40, ob_41, ob_42, ob_43, ob_44, ob_45, ob_46, ob_47, ob_48, ob_49, ob_50, ob_51, ob_52, ob_53, ob_54, ob_55, ob_56, ob_57, ob_58, ob_59, ob_60, ob_61, ob_62, ob_63, ob_64, ob_65, jf7, aGi, aGb, aGz, aGj, leT, leF, ltT, ltF, eqT, eqF, tws_0, tws_1, tws_2, tws_3, tws_4, tws_5, tws_6, tws_7, tws_8, tws_9, tws_10, tws_11, tws_12, tws_13, tws_14, tws_15, tws_16, tws_17, tws_18, tws_19, tws_20, tws_21, tws_22, tws_23, tws_24, tws_25, tws_26, tws_27, tws_28, tws_29, tws_30, tws_31, obs_0, obs_2, obs_3, obs_4, obs_5, obs_12, obs_13, obs_14, obs_15, obs_16, obs_17, obs_18, obs_19, obs_20, obs_21, obs_22, obs_26, obs_31, obs_32, obs_33, obs_34, obs_35, obs_41, obs_42, obs_44, obs_48, obs_50, obs_51, obs_52, obs_55, obs_57, obs_58, obs_59, obs_60, obs_61, pF7i, pF7z, pF7j, aSi, aSj, aSb1, aSb24, aSb28, aSb31, ts, tg_eq, tg_ne, tg_tg, fset_eq, fset_ne, e1]
  | succ j ih =>
    intro c c0 hc
    have ih' := ih (c + 1) (by omega) (by omega)
    rw [← insQ_s w5.1 h1 c0 (by omega)] at ih'
    have e1 : insQ S (T 5) to c (4 + T 5 (to + 1)) = S (4 + T 5 (to + 1)) := insQ_lo w5.1 (by omega)
    rw [← ih']
    conv => lhs; rw [E7034_40]
    unfold insV
    by_cases e : c < S (4 + T 5 (to + 1))
    · have iv := I2 c c0 e
      rw [if_pos e]
      simp (disch := omega) only [jc_ref, rI_int, rR_ref, rR_null, rJ_long, ckR_ref, ckR_null, ckr_ref, ckr_null, ckW_int, ckW_ref, ckW_null, cI_ok, cR_ok, cR_null, cV_ok, cJ_ok, qH_eq, qD_in, aG_ref, aS_ref, aL_ref, pF_ref, cK_ref, cK_null, zI_lit, zJ_lit, zI_add, zI_sub, zI_mul, zI_neg, zI_eq, zI_lt, zI_le, Int.reduceLT, Int.reduceLE, Int.reduceAdd, Int.reduceSub, Int.reduceMul, Int.reduceNeg, Int.reduceEq, Int.reduceNe, reduceIte, tw_0, tw_1, tw_2, tw_3, tw_4, tw_5, tw_6, tw_7, tw_8, tw_9, tw_10, tw_11, tw_12, tw_13, tw_14, tw_15, tw_16, tw_17, tw_18, tw_19, tw_20, tw_21, tw_22, tw_23, tw_24, tw_25, tw_26, tw_27, tw_28, tw_29, tw_30, tw_31, ob_0, ob_1, ob_2, ob_3, ob_4, ob_5, ob_6, ob_7, ob_8, ob_9, ob_10, ob_11, ob_12, ob_13, ob_14, ob_15, ob_16, ob_17, ob_18, ob_19, ob_20, ob_21, ob_22, ob_23, ob_24, ob_25, ob_26, ob_27, ob_28, ob_29, ob_30, ob_31, ob_32, ob_33, ob_34, ob_35, ob_36, ob_37, ob_38, ob_39, ob_40, ob_41, ob_42, ob_43, ob_44, ob_45, ob_46, ob_47, ob_48, ob_49, ob_50, ob_51, ob_52, ob_53, ob_54, ob_55, ob_56, ob_57, ob_58, ob_59, ob_60, ob_61, ob_62, ob_63, ob_64, ob_65, jf7, aGi, aGb, aGz, aGj, leT, leF, ltT, ltF, eqT, eqF, tws_0, tws_1, tws_2, tws_3, tws_4, tws_5, tws_6, tws_7, tws_8, tws_9, tws_10, tws_11, tws_12, tws_13, tws_14, tws_15, tws_16, tws_17, tws_18, tws_19, tws_20, tws_21, tws_22, tws_23, tws_24, tws_25, tws_26, tws_27, tws_28, tws_29, tws_30, tws_31, obs_0, obs_2, obs_3, obs_4, obs_5, obs_12, obs_13, obs_14, obs_15, obs_16, obs_17, obs_18, obs_19, obs_20, obs_21, obs_22, obs_26, obs_31, obs_32, obs_33, obs_34, obs_35, obs_41, obs_42, obs_44, obs_48, obs_50, obs_51, obs_52, obs_55, obs_57, obs_58, obs_59, obs_60, obs_61, pF7i, pF7z, pF7j, aSi, aSj, aSb1, aSb24, aSb28, aSb31, ts, tg_eq, tg_ne, tg_tg, fset_eq, fset_ne, e1, e]
    · rw [if_neg e]
      simp (disch := omega) only [jc_ref, rI_int, rR_ref, rR_null, rJ_long, ckR_ref, ckR_null, ckr_ref, ckr_null, ckW_int, ckW_ref, ckW_null, cI_ok, cR_ok, cR_null, cV_ok, cJ_ok, qH_eq, qD_in, aG_ref, aS_ref, aL_ref, pF_ref, cK_ref, cK_null, zI_lit, zJ_lit, zI_add, zI_sub, zI_mul, zI_neg, zI_eq, zI_lt, zI_le, Int.reduceLT, Int.reduceLE, Int.reduceAdd, Int.reduceSub, Int.reduceMul, Int.reduceNeg, Int.reduceEq, Int.reduceNe, reduceIte, tw_0, tw_1, tw_2, tw_3, tw_4, tw_5, tw_6, tw_7, tw_8, tw_9, tw_10, tw_11, tw_12, tw_13, tw_14, tw_15, tw_16, tw_17, tw_18, tw_19, tw_20, tw_21, tw_22, tw_23, tw_24, tw_25, tw_26, tw_27, tw_28, tw_29, tw_30, tw_31, ob_0, ob_1, ob_2, ob_3, ob_4, ob_5, ob_6, ob_7, ob_8, ob_9, ob_10, ob_11, ob_12, ob_13, ob_14, ob_15, ob_16, ob_17, ob_18, ob_19, ob_20, ob_21, ob_22, ob_23, ob_24, ob_25, ob_26, ob_27, ob_28, ob_29, ob_30, ob_31, ob_32, ob_33, ob_34, ob_35, ob_36, ob_37, ob_38, ob_39, ob_40, ob_41, ob_42, ob_43, ob_44, ob_45, ob_46, ob_47, ob_48, ob_49, ob_50, ob_51, ob_52, ob_53, ob_54, ob_55, ob_56, ob_57, ob_58, ob_59, ob_60, ob_61, ob_62, ob_63, ob_64, ob_65, jf7, aGi, aGb, aGz, aGj, leT, leF, ltT, ltF, eqT, eqF, tws_0, tws_1, tws_2, tws_3, tws_4, tws_5, tws_6, tws_7, tws_8, tws_9, tws_10, tws_11, tws_12, tws_13, tws_14, tws_15, tws_16, tws_17, tws_18, tws_19, tws_20, tws_21, tws_22, tws_23, tws_24, tws_25, tws_26, tws_27, tws_28, tws_29, tws_30, tws_31, obs_0, obs_2, obs_3, obs_4, obs_5, obs_12, obs_13, obs_14, obs_15, obs_16, obs_17, obs_18, obs_19, obs_20, obs_21, obs_22, obs_26, obs_31, obs_32, obs_33, obs_34, obs_35, obs_41, obs_42, obs_44, obs_48, obs_50, obs_51, obs_52, obs_55, obs_57, obs_58, obs_59, obs_60, obs_61, pF7i, pF7z, pF7j, aSi, aSj, aSb1, aSb24, aSb28, aSb31, ts, tg_eq, tg_ne, tg_tg, fset_eq, fset_ne, e1, e]
theorem tm_inserts {to : Int} (W : StW (T 2)) (I : InW (T 2) (T 5) to) (h1 : T 2 148 < 99) (h0 : 0 ≤ to) (h2 : to ≤ 780) : M (d + 1) 7034 [.ref m, .int (zI to)] (tw m T h) = some (.inl none, tw m (tg T 2 (insS (T 2) (T 5) to)) h) := by
  have l := in_40 (d := d) (m := m) (h := h) (T := T) W I h1 h0 h2 4 0 (by omega) (by omega)
  obtain ⟨⟨t0, t1⟩, I2⟩ := id I
  have n0 := W.n0
  have w5 := W.2.2.2.2.1
  rw [← insQ_0 w5.1] at l
  rw [X7034 _ (tw_recv rfl), E7034_0, ← l]
  simp (disch := omega) only [jc_ref, rI_int, rR_ref, rR_null, rJ_long, ckR_ref, ckR_null, ckr_ref, ckr_null, ckW_int, ckW_ref, ckW_null, cI_ok, cR_ok, cR_null, cV_ok, cJ_ok, qH_eq, qD_in, aG_ref, aS_ref, aL_ref, pF_ref, cK_ref, cK_null, zI_lit, zJ_lit, zI_add, zI_sub, zI_mul, zI_neg, zI_eq, zI_lt, zI_le, Int.reduceLT, Int.reduceLE, Int.reduceAdd, Int.reduceSub, Int.reduceMul, Int.reduceNeg, Int.reduceEq, Int.reduceNe, reduceIte, tw_0, tw_1, tw_2, tw_3, tw_4, tw_5, tw_6, tw_7, tw_8, tw_9, tw_10, tw_11, tw_12, tw_13, tw_14, tw_15, tw_16, tw_17, tw_18, tw_19, tw_20, tw_21, tw_22, tw_23, tw_24, tw_25, tw_26, tw_27, tw_28, tw_29, tw_30, tw_31, ob_0, ob_1, ob_2, ob_3, ob_4, ob_5, ob_6, ob_7, ob_8, ob_9, ob_10, ob_11, ob_12, ob_13, ob_14, ob_15, ob_16, ob_17, ob_18, ob_19, ob_20, ob_21, ob_22, ob_23, ob_24, ob_25, ob_26, ob_27, ob_28, ob_29, ob_30, ob_31, ob_32, ob_33, ob_34, ob_35, ob_36, ob_37, ob_38, ob_39, ob_40, ob_41, ob_42, ob_43, ob_44, ob_45, ob_46, ob_47, ob_48, ob_49, ob_50, ob_51, ob_52, ob_53, ob_54, ob_55, ob_56, ob_57, ob_58, ob_59, ob_60, ob_61, ob_62, ob_63, ob_64, ob_65, jf7, aGi, aGb, aGz, aGj, leT, leF, ltT, ltF, eqT, eqF, tws_0, tws_1, tws_2, tws_3, tws_4, tws_5, tws_6, tws_7, tws_8, tws_9, tws_10, tws_11, tws_12, tws_13, tws_14, tws_15, tws_16, tws_17, tws_18, tws_19, tws_20, tws_21, tws_22, tws_23, tws_24, tws_25, tws_26, tws_27, tws_28, tws_29, tws_30, tws_31, obs_0, obs_2, obs_3, obs_4, obs_5, obs_12, obs_13, obs_14, obs_15, obs_16, obs_17, obs_18, obs_19, obs_20, obs_21, obs_22, obs_26, obs_31, obs_32, obs_33, obs_34, obs_35, obs_41, obs_42, obs_44, obs_48, obs_50, obs_51, obs_52, obs_55, obs_57, obs_58, obs_59, obs_60, obs_61, pF7i, pF7z, pF7j, aSi, aSj, aSb1, aSb24, aSb28, aSb31, ts, tg_eq, tg_ne, tg_tg, fset_eq, fset_ne]
end
