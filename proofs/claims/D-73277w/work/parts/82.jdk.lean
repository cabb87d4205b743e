/-! judges: from the clash on -/
section
variable {d m : Nat} {T : Nat → Int → Int} {h : AH} {to : Int}
theorem tg2_ts {a b : Int → Int} {v : Int} : tg (ts (tg T 2 a) 0 33 v) 2 b = ts (tg T 2 b) 0 33 v := by
  funext k
  by_cases h2 : k = 2
  · subst h2; rw [tg_eq, ts_ne (by decide), tg_eq]
  · rw [tg_ne h2]
    by_cases h0 : k = 0
    · subst h0; rw [ts_eq, ts_eq, tg_ne h2, tg_ne h2]
    · rw [ts_ne h0, ts_ne h0, tg_ne h2, tg_ne h2]
theorem InW.cg {S S' L : Int → Int} (I : InW S L to) (W : StW S) (e : ∀ i, i < 150 → S' i = S i) : InW S' L to := by
  obtain ⟨⟨a, b⟩, c⟩ := I
  have n := W.n0
  refine ⟨⟨a, by rw [e 0 (by decide)]; exact b⟩, fun k k0 k1 => ?_⟩
  rw [e _ (by omega)] at k1
  exact c k k0 k1
theorem jd_315 {i2 : Int} {v3 : Value} (W : StW (T 2)) (hw : WsW (wsT T)) (hG : GoW (T 13)) (L : LnW (T 2) (T 5) to) (hI : T 5 to = 0 → T 2 148 < 99 ∧ cntA (T 2) 150 99 0 < 40) (h0 : 0 ≤ to) (h1 : to ≤ 780) (h34 : T 0 34 = 0) :
    G (d + 5) 7059 315 [.ref m, .int (zI to), .int (zI i2), v3] [] (tw m T h) = some (.inl (some (.int (zI (jdE (jdD T to)).1))), tw m (jdE (jdD T to)).2 h) ∧ StW (jdD T to 2) := by
  obtain ⟨⟨k0, k2⟩, -, li, -⟩ := id L
  obtain ⟨y1, y2, y3, y4⟩ := doR_W (Go := T 13) hw 99 0 (T 2, 0) W (by omega) (by omega)
  have cy := cntA_doR (Go := T 13) hw 99 0 (T 2, 0) W (by omega) (by omega)
  have da := tm_doesAll (d := d + 2) (m := m) (h := h) (T := T) W hw hG
  have hD : jdD T to = ts (tg T 2 (if T 5 to = 0 then insS (doR (wsT T) (T 13) 99 0 (T 2, 0)).1 (T 5) to else (doR (wsT T) (T 13) 99 0 (T 2, 0)).1)) 0 33 (doR (wsT T) (T 13) 99 0 (T 2, 0)).2 := rfl
  generalize doR (wsT T) (T 13) 99 0 (T 2, 0) = y at y1 y2 y3 y4 cy da hD
  simp only at y2 y3 y4 cy
  have key : StW (jdD T to 2) := by
    rw [hD, ts_ne (by decide), tg_eq]
    split
    · rename_i e
      have := hI e
      exact y1.ins ((li e).cg W (fun i hi => y2 i (by omega))) (by rw [y2 148 (by omega)]; omega) (by omega)
    · exact y1
  refine ⟨?_, key⟩
  rw [← jd_346 (d := d) (m := m) (h := h) (to := to) (i2 := i2) (v3 := v3) key, hD]
  by_cases e : T 5 to = 0
  · rw [if_pos e]
    have hi := hI e
    have ins := tm_inserts (d := d + 4) (m := m) (h := h) (T := ts (tg T 2 y.1) 0 33 y.2) (to := to) (by rw [ts_ne (by decide), tg_eq]; exact y1) (by rw [ts_ne (by decide), tg_eq, ts_ne (by decide), tg_ne (by decide)]; exact (li e).cg W (fun i hi => y2 i (by omega))) (by rw [ts_ne (by decide), tg_eq, y2 148 (by omega)]; omega) h0 h1
    rw [tg2_ts, ts_ne (show (2 : Nat) ≠ 0 by decide), tg_eq, ts_ne (show (5 : Nat) ≠ 0 by decide), tg_ne (show (5 : Nat) ≠ 2 by decide)] at ins
    conv => lhs; rw [E7059_315]
    simp (disch := omega) only [jc_ref, rI_int, rR_ref, rR_null, rJ_long, ckR_ref, ckR_null, ckr_ref, ckr_null, ckW_int, ckW_ref, ckW_null, cI_ok, cR_ok, cR_null, cV_ok, cJ_ok, qH_eq, qD_in, aG_ref, aS_ref, aL_ref, pF_ref, cK_ref, cK_null, zI_lit, zJ_lit, zI_add, zI_sub, zI_mul, zI_neg, zI_eq, zI_lt, zI_le, Int.reduceLT, Int.reduceLE, Int.reduceAdd, Int.reduceSub, Int.reduceMul, Int.reduceNeg, Int.reduceEq, Int.reduceNe, reduceIte, tw_0, tw_1, tw_2, tw_3, tw_4, tw_5, tw_6, tw_7, tw_8, tw_9, tw_10, tw_11, tw_12, tw_13, tw_14, tw_15, tw_16, tw_17, tw_18, tw_19, tw_20, tw_21, tw_22, tw_23, tw_24, tw_25, tw_26, tw_27, tw_28, tw_29, tw_30, tw_31, ob_0, ob_1, ob_2, ob_3, ob_4, ob_5, ob_6, ob_7, ob_8, ob_9, ob_10, ob_11, ob_12, ob_13, ob_14, ob_15, ob_16, ob_17, ob_18, ob_19, ob_20, ob_21, ob_22, ob_23, ob_24, ob_25, ob_26, ob_27, ob_28, ob_29, ob_30, ob_31, ob_32, ob_33, ob_34, ob_35, ob_36, ob_37, ob_38, ob_39, ob_40, ob_41, ob_42, ob_43, ob_44, ob_45, ob_46, ob_47, ob_48, ob_49, ob_50, ob_51, ob_52, ob_53, ob_54, ob_55, ob_56, ob_57, ob_58, ob_59, ob_60, ob_61, ob_62, ob_63, ob_64, ob_65, jf7, aGi, aGb, aGz, aGj, leT, leF, ltT, ltF, eqT, eqF, tws_0, tws_1, tws_2, tws_3, tws_4, tws_5, tws_6, tws_7, tws_8, tws_9, tws_10, tws_11, tws_12, tws_13, tws_14, tws_15, tws_16, tws_17, tws_18, tws_19, tws_20, tws_21, tws_22, tws_23, tws_24, tws_25, tws_26, tws_27, tws_28, tws_29, tws_30, tws_31, obs_0, obs_2, obs_3, obs_4, obs_5, obs_12, obs_13, obs_14, obs_15, obs_16, obs_17, obs_18, obs_19, obs_20, obs_21, obs_22, obs_26, obs_31, obs_32, obs_33, obs_34, obs_35, obs_41, obs_42, obs_44, obs_48, obs_50, obs_51, obs_52, obs_55, obs_57, obs_58, obs_59, obs_60, obs_61, pF7i, pF7z, pF7j, aSi, aSj, aSb1, aSb24, aSb28, aSb31, ts, tg_eq, tg_ne, tg_tg, fset_eq, fset_ne] at ins ⊢
    simp (disch := omega) only [jc_ref, rI_int, rR_ref, rR_null, rJ_long, ckR_ref, ckR_null, ckr_ref, ckr_null, ckW_int, ckW_ref, ckW_null, cI_ok, cR_ok, cR_null, cV_ok, cJ_ok, qH_eq, qD_in, aG_ref, aS_ref, aL_ref, pF_ref, cK_ref, cK_null, zI_lit, zJ_lit, zI_add, zI_sub, zI_mul, zI_neg, zI_eq, zI_lt, zI_le, Int.reduceLT, Int.reduceLE, Int.reduceAdd, Int.reduceSub, Int.reduceMul, Int.reduceNeg, Int.reduceEq, Int.reduceNe, reduceIte, tw_0, tw_1, tw_2, tw_3, tw_4, tw_5, tw_6, tw_7, tw_8, tw_9, tw_10, tw_11, tw_12, tw_13, tw_14, tw_15, tw_16, tw_17, tw_18, tw_19, tw_20, tw_21, tw_22, tw_23, tw_24, tw_25, tw_26, tw_27, tw_28, tw_29, tw_30, tw_31, ob_0, ob_1, ob_2, ob_3, ob_4, ob_5, ob_6, ob_7, ob_8, ob_9, ob_10, ob_11, ob_12, ob_13, ob_14, ob_15, ob_16, ob_17, ob_18, ob_19, ob_20, ob_21, ob_22, ob_23, ob_24, ob_25, ob_26, ob_27, ob_28, ob_29, ob_30, ob_31, ob_32, ob_33, ob_34, ob_35, ob_36, ob_37, ob_38, ob_39, ob_40, ob_41, ob_42, ob_43, ob_44, ob_45, ob_46, ob_47, ob_48, ob_49, ob_50, ob_51, ob_52, ob_53, ob_54, ob_55, ob_56, ob_57, ob_58, ob_59, ob_60, ob_61, ob_62, ob_63, ob_64, ob_65, jf7, aGi, aGb, aGz, aGj, leT, leF, ltT, ltF, eqT, eqF, tws_0, tws_1, tws_2, tws_3, tws_4, tws_5, tws_6, tws_7, tws_8, tws_9, tws_10, tws_11, tws_12, tws_13, tws_14, tws_15, tws_16, tws_17, tws_18, tws_19, tws_20, tws_21, tws_22, tws_23, tws_24, tws_25, tws_26, tws_27, tws_28, tws_29, tws_30, tws_31, obs_0, obs_2, obs_3, obs_4, obs_5, obs_12, obs_13, obs_14, obs_15, obs_16, obs_17, obs_18, obs_19, obs_20, obs_21, obs_22, obs_26, obs_31, obs_32, obs_33, obs_34, obs_35, obs_41, obs_42, obs_44, obs_48, obs_50, obs_51, obs_52, obs_55, obs_57, obs_58, obs_59, obs_60, obs_61, pF7i, pF7z, pF7j, aSi, aSj, aSb1, aSb24, aSb28, aSb31, ts, tg_eq, tg_ne, tg_tg, fset_eq, fset_ne, h34, da, e, ins]
  · rw [if_neg e]
    conv => lhs; rw [E7059_315]
    simp (disch := omega) only [jc_ref, rI_int, rR_ref, rR_null, rJ_long, ckR_ref, ckR_null, ckr_ref, ckr_null, ckW_int, ckW_ref, ckW_null, cI_ok, cR_ok, cR_null, cV_ok, cJ_ok, qH_eq, qD_in, aG_ref, aS_ref, aL_ref, pF_ref, cK_ref, cK_null, zI_lit, zJ_lit, zI_add, zI_sub, zI_mul, zI_neg, zI_eq, zI_lt, zI_le, Int.reduceLT, Int.reduceLE, Int.reduceAdd, Int.reduceSub, Int.reduceMul, Int.reduceNeg, Int.reduceEq, Int.reduceNe, reduceIte, tw_0, tw_1, tw_2, tw_3, tw_4, tw_5, tw_6, tw_7, tw_8, tw_9, tw_10, tw_11, tw_12, tw_13, tw_14, tw_15, tw_16, tw_17, tw_18, tw_19, tw_20, tw_21, tw_22, tw_23, tw_24, tw_25, tw_26, tw_27, tw_28, tw_29, tw_30, tw_31, ob_0, ob_1, ob_2, ob_3, ob_4, ob_5, ob_6, ob_7, ob_8, ob_9, ob_10, ob_11, ob_12, ob_13, ob_14, ob_15, ob_16, ob_17, ob_18, ob_19, ob_20, ob_21, ob_22, ob_23, ob_24, ob_25, ob_26, ob_27, ob_28, ob_29, ob_30, ob_31, ob_32, ob_33, ob_34, ob_35, ob_36, ob_37, ob_38, ob_39, ob_40, ob_41, ob_42, ob_43, ob_44, ob_45, ob_46, ob_47, ob_48, ob_49, ob_50, ob_51, ob_52, ob_53, ob_54, ob_55, ob_56, ob_57, ob_58, ob_59, ob_60, ob_61, ob_62, ob_63, ob_64, ob_65, jf7, aGi, aGb, aGz, aGj, leT, leF, ltT, ltF, eqT, eqF, tws_0, tws_1, tws_2, tws_3, tws_4, tws_5, tws_6, tws_7, tws_8, tws_9, tws_10, tws_11, tws_12, tws_13, tws_14, tws_15, tws_16, tws_17, tws_18, tws_19, tws_20, tws_21, tws_22, tws_23, tws_24, tws_25, tws_26, tws_27, tws_28, tws_29, tws_30, tws_31, obs_0, obs_2, obs_3, obs_4, obs_5, obs_12, obs_13, obs_14, obs_15, obs_16, obs_17, obs_18, obs_19, obs_20, obs_21, obs_22, obs_26, obs_31, obs_32, obs_33, obs_34, obs_35, obs_41, obs_42, obs_44, obs_48, obs_50, obs_51, obs_52, obs_55, obs_57, obs_58, obs_59, obs_60, obs_61, pF7i, pF7z, pF7j, aSi, aSj, aSb1, aSb24, aSb28, aSb31, ts, tg_eq, tg_ne, tg_tg, fset_eq, fset_ne, h34, da, e]
end
