/-! what is wanted of the cells (want, clashes, wantsMore: w), as the twin follows refs -/
abbrev WS : Type := (Int → Int) × Int × Int
def putW (T : Nat → Int → Int) (w : WS) : Nat → Int → Int := ts (ts (tg T 11 w.1) 0 34 w.2.1) 0 35 w.2.2
theorem fset_comm {g : Int → Int} {i j a b : Int} (h : i ≠ j) : fset (fset g i a) j b = fset (fset g j b) i a := by
  funext x
  simp only [fset_at]
  by_cases h1 : x = j
  · subst h1; rw [if_pos rfl, if_neg (fun e => h e.symm), if_pos rfl]
  · rw [if_neg h1]
    by_cases h2 : x = i
    · rw [if_pos h2, if_pos h2]
    · rw [if_neg h2, if_neg h2, if_neg h1]
section
variable {T : Nat → Int → Int} {w : WS}
theorem putW_at {k : Nat} (h0 : k ≠ 0) (h : k ≠ 11) : putW T w k = T k := by unfold putW; rw [ts_ne h0, ts_ne h0, tg_ne h]
theorem putW_w : putW T w 11 = w.1 := by unfold putW; rw [ts_ne (by decide), ts_ne (by decide), tg_eq]
theorem putW_00 : putW T w 0 = fset (fset (T 0) 34 w.2.1) 35 w.2.2 := by unfold putW; rw [ts_eq, ts_eq, tg_ne (by decide)]
theorem putW_cl : putW T w 0 34 = w.2.1 := by rw [putW_00, fset_ne (by decide), fset_eq]
theorem putW_mo : putW T w 0 35 = w.2.2 := by rw [putW_00, fset_eq]
theorem putW_s11 {g : Int → Int} : tg (putW T w) 11 g = putW T (g, w.2) := by
  funext k
  by_cases h : k = 11
  · subst h; rw [tg_eq, putW_w]
  · rw [tg_ne h]
    by_cases h0 : k = 0
    · subst h0; rw [putW_00, putW_00]
    · rw [putW_at h0 h, putW_at h0 h]
theorem putW_s34 {v : Int} : tg (putW T w) 0 (fset (putW T w 0) 34 v) = putW T (w.1, v, w.2.2) := by
  funext k
  by_cases h0 : k = 0
  · subst h0; rw [tg_eq, putW_00, putW_00, fset_comm (g := fset (T 0) 34 w.2.1) (show (35 : Int) ≠ 34 by decide), fset_fset]
  · rw [tg_ne h0]
    by_cases h : k = 11
    · subst h; rw [putW_w, putW_w]
    · rw [putW_at h0 h, putW_at h0 h]
theorem putW_s35 {v : Int} : tg (putW T w) 0 (fset (putW T w 0) 35 v) = putW T (w.1, w.2.1, v) := by
  funext k
  by_cases h0 : k = 0
  · subst h0; rw [tg_eq, putW_00, putW_00, fset_fset]
  · rw [tg_ne h0]
    by_cases h : k = 11
    · subst h; rw [putW_w, putW_w]
    · rw [putW_at h0 h, putW_at h0 h]
theorem putW_self (T : Nat → Int → Int) : putW T (T 11, T 0 34, T 0 35) = T := by
  funext k
  by_cases h0 : k = 0
  · subst h0
    rw [putW_00, fset_self]
    show fset (T 0) 35 (T 0 35) = T 0
    rw [fset_self]
  · by_cases h : k = 11
    · subst h; rw [putW_w]
    · rw [putW_at h0 h]
end
def want1 (w : WS) (i v : Int) : WS := if w.1 i = -9 then (fset w.1 i v, w.2.1, 1) else (w.1, if w.2.1 = 0 ∧ w.1 i = v then 0 else 1, w.2.2)
/-- the wants are well made: a column that is wanted has a value -/
def WsW (w : WS) : Prop := (∀ i, 0 ≤ i → i < 396 → w.1 i = -9 ∨ (-1 ≤ w.1 i ∧ w.1 i ≤ 99)) ∧ (w.2.1 = 0 ∨ w.2.1 = 1) ∧ (w.2.2 = 0 ∨ w.2.2 = 1)
theorem want1_W {w : WS} {i v : Int} (hw : WsW w) (h : -1 ≤ v ∧ v ≤ 99) : WsW (want1 w i v) := by
  obtain ⟨a, b, c⟩ := hw
  unfold want1
  split
  · refine ⟨fun j j0 j1 => ?_, b, Or.inr rfl⟩
    show fset w.1 i v j = -9 ∨ (-1 ≤ fset w.1 i v j ∧ fset w.1 i v j ≤ 99)
    by_cases hj : j = i
    · subst hj; rw [fset_eq]; exact Or.inr h
    · rw [fset_ne hj]; exact a j j0 j1
  · refine ⟨a, ?_, c⟩
    show (if _ then (0 : Int) else 1) = 0 ∨ _
    split
    · exact Or.inl rfl
    · exact Or.inr rfl
def isOth (S : Int → Int) (w : WS) (q c : Int) : Bool := !decide (w.1 (4 * q + c) = -9) && !decide (w.1 (4 * q + c) = cellS S q c)
def wantsA (S : Int → Int) (r f : Int) (reset : Bool) (w : WS) : WS :=
  let v := fun c => if reset = true then S (8 + 4 * S (58 + f) + c) else -1
  let w1 := if S (64 + f) < 0 then w else want1 w (4 * r + S (64 + f)) (v (S (64 + f)))
  if S (70 + f) < 0 then w1 else want1 w1 (4 * r + S (70 + f)) (v (S (70 + f)))
def folK (S : Int → Int) (r f q : Int) (w : WS) : WS :=
  let k := S (82 + f)
  let one := isOth S w q (S (46 + k))
  let two := !decide (S (52 + k) < 0) && isOth S w q (S (52 + k))
  if one = false ∧ two = false then w else
  let w0 := if S (94 + f) ≤ 1 then w else wantsA S r f (decide (S (94 + f) = 3)) w
  if S (94 + f) ≠ 1 then w0 else
  let w1 := if one = true then want1 w0 (4 * r + S (64 + f)) (w0.1 (4 * q + S (46 + k))) else w0
  if two = true then want1 w1 (4 * r + S (70 + f)) (w1.1 (4 * q + S (52 + k))) else w1
section
variable {d m : Nat} {T : Nat → Int → Int} {h : AH} {w : WS}
-- putW_w, putW_cl, putW_mo, putW_s11, putW_s34, putW_s35, putW_at = putW_w, putW_cl, putW_mo, putW_s11, putW_s34, putW_s35, putW_at
theorem tm_wants {r c v : Int} (hw : WsW w) (r0 : 0 ≤ r) (r1 : r < 99) (c0 : 0 ≤ c) (c1 : c < 4) (v0 : -1 ≤ v) (v1 : v ≤ 99) : M (d + 1) 7136 [.ref m, .int (zI r), .int (zI c), .int (zI v)] (tw m (putW T w) h) = some (.inl none, tw m (putW T (want1 w (4 * r + c) v)) h) := by
  obtain ⟨a, b, e⟩ := hw
  have a := a (4 * r + c) (by omega) (by omega)
  rw [X7136 _ (tw_recv rfl), E7136_0]
  unfold want1
  by_cases e1 : w.1 (4 * r + c) = -9
  · rw [if_pos e1]
    simp (disch := omega) only [jc_ref, rI_int, rR_ref, rR_null, rJ_long, ckR_ref, ckR_null, ckr_ref, ckr_null, ckW_int, ckW_ref, ckW_null, cI_ok, cR_ok, cR_null, cV_ok, cJ_ok, qH_eq, qD_in, aG_ref, aS_ref, aL_ref, pF_ref, cK_ref, cK_null, zI_lit, zJ_lit, zI_add, zI_sub, zI_mul, zI_neg, zI_eq, zI_lt, zI_le, Int.reduceLT, Int.reduceLE, Int.reduceAdd, Int.reduceSub, Int.reduceMul, Int.reduceNeg, Int.reduceEq, Int.reduceNe, reduceIte, tw_0, tw_1, tw_2, tw_3, tw_4, tw_5, tw_6, tw_7, tw_8, tw_9, tw_10, tw_11, tw_12, tw_13, tw_14, tw_15, tw_16, tw_17, tw_18, tw_19, tw_20, tw_21, tw_22, tw_23, tw_24, tw_25, tw_26, tw_27, tw_28, tw_29, tw_30, tw_31, ob_0, ob_1, ob_2, ob_3, ob_4, ob_5, ob_6, ob_7, ob_8, ob_9, ob_10, ob_11, ob_12, ob_13, ob_14, ob_15, ob_16, ob_17, ob_18, ob_19, ob_20, ob_21, ob_22, ob_23, ob_24, ob_25, ob_26, ob_27, ob_28, ob_29, ob_30, ob_31, ob_32, ob_33, ob_34, ob_35, ob_36, ob_37, ob_38, ob_39, ob_40, ob_41, ob_42, ob_43, ob_44, ob_45, ob_46, ob_47, ob_48, ob_49, ob_50, ob_51, ob_52, ob_53, ob_54, ob_55, ob_56, ob_57, ob_58, ob_59, ob_60, ob_61, ob_62, ob_63, ob_64, ob_65, jf7, aGi, aGb, aGz, aGj, leT, leF, ltT, ltF, eqT, eqF, tws_0, tws_1, tws_2, tws_3, tws_4, tws_5, tws_6, tws_7, tws_8, tws_9, tws_10, tws_11, tws_12, tws_13, tws_14, tws_15, tws_16, tws_17, tws_18, tws_19, tws_20, tws_21, tws_22, tws_23, tws_24, tws_25, tws_26, tws_27, tws_28, tws_29, tws_30, tws_31, obs_0, obs_2, obs_3, obs_4, obs_5, obs_12, obs_13, obs_14, obs_15, obs_16, obs_17, obs_18, obs_19, obs_20, obs_21, obs_22, obs_26, obs_31, obs_32, obs_33, obs_34, obs_35, obs_41, obs_42, obs_44, obs_48, obs_50, obs_51, obs_52, obs_55, obs_57, obs_58, obs_59, obs_60, obs_61, pF7i, pF7z, pF7j, aSi, aSj, aSb1, aSb24, aSb28, aSb31, ts, tg_eq, tg_ne, tg_tg, fset_eq, fset_ne, putW_w, putW_cl, putW_mo, putW_s11, putW_s34, putW_s35, putW_at, e1]
  · rw [if_neg e1]
    by_cases e2 : w.2.1 = 0
    · by_cases e3 : w.1 (4 * r + c) = v
      · rw [if_pos ⟨e2, e3⟩]
        simp (disch := omega) only [jc_ref, rI_int, rR_ref, rR_null, rJ_long, ckR_ref, ckR_null, ckr_ref, ckr_null, ckW_int, ckW_ref, ckW_null, cI_ok, cR_ok, cR_null, cV_ok, cJ_ok, qH_eq, qD_in, aG_ref, aS_ref, aL_ref, pF_ref, cK_ref, cK_null, zI_lit, zJ_lit, zI_add, zI_sub, zI_mul, zI_neg, zI_eq, zI_lt, zI_le, Int.reduceLT, Int.reduceLE, Int.reduceAdd, Int.reduceSub, Int.reduceMul, Int.reduceNeg, Int.reduceEq, Int.reduceNe, reduceIte, tw_0, tw_1, tw_2, tw_3, tw_4, tw_5, tw_6, tw_7, tw_8, tw_9, tw_10, tw_11, tw_12, tw_13, tw_14, tw_15, tw_16, tw_17, tw_18, tw_19, tw_20, tw_21, tw_22, tw_23, tw_24, tw_25, tw_26, tw_27, tw_28, tw_29, tw_30, tw_31, ob_0, ob_1, ob_2, ob_3, ob_4, ob_5, ob_6, ob_7, ob_8, ob_9, ob_10, ob_11, ob_12, ob_13, ob_14, ob_15, ob_16, ob_17, ob_18, ob_19, ob_20, ob_21, ob_22, ob_23, ob_24, ob_25, ob_26, ob_27, ob_28, ob_29, ob_30, ob_31, ob_32, ob_33, ob_34, ob_35, ob_36, ob_37, ob_38, ob_39, ob_40, ob_41, ob_42, ob_43, ob_44, ob_45, ob_46, ob_47, ob_48, ob_49, ob_50, ob_51, ob_52, ob_53, ob_54, ob_55, ob_56, ob_57, ob_58, ob_59, ob_60, ob_61, ob_62, ob_63, ob_64, ob_65, jf7, aGi, aGb, aGz, aGj, leT, leF, ltT, ltF, eqT, eqF, tws_0, tws_1, tws_2, tws_3, tws_4, tws_5, tws_6, tws_7, tws_8, tws_9, tws_10, tws_11, tws_12, tws_13, tws_14, tws_15, tws_16, tws_17, tws_18, tws_19, tws_20, tws_21, tws_22, tws_23, tws_24, tws_25, tws_26, tws_27, tws_28, tws_29, tws_30, tws_31, obs_0, obs_2, obs_3, obs_4, obs_5, obs_12, obs_13, obs_14, obs_15, obs_16, obs_17, obs_18, obs_19, obs_20, obs_21, obs_22, obs_26, obs_31, obs_32, obs_33, obs_34, obs_35, obs_41, obs_42, obs_44, obs_48, obs_50, obs_51, obs_52, obs_55, obs_57, obs_58, obs_59, obs_60, obs_61, pF7i, pF7z, pF7j, aSi, aSj, aSb1, aSb24, aSb28, aSb31, ts, tg_eq, tg_ne, tg_tg, fset_eq, fset_ne, putW_w, putW_cl, putW_mo, putW_s11, putW_s34, putW_s35, putW_at, e1, e2, e3]
      · rw [if_neg (by simp [e3])]
        simp (disch := omega) only [jc_ref, rI_int, rR_ref, rR_null, rJ_long, ckR_ref, ckR_null, ckr_ref, ckr_null, ckW_int, ckW_ref, ckW_null, cI_ok, cR_ok, cR_null, cV_ok, cJ_ok, qH_eq, qD_in, aG_ref, aS_ref, aL_ref, pF_ref, cK_ref, cK_null, zI_lit, zJ_lit, zI_add, zI_sub, zI_mul, zI_neg, zI_eq, zI_lt, zI_le, Int.reduceLT, Int.reduceLE, Int.reduceAdd, Int.reduceSub, Int.reduceMul, Int.reduceNeg, Int.reduceEq, Int.reduceNe, reduceIte, tw_0, tw_1, tw_2, tw_3, tw_4, tw_5, tw_6, tw_7, tw_8, tw_9, tw_10, tw_11, tw_12, tw_13, tw_14, tw_15, tw_16, tw_17, tw_18, tw_19, tw_20, tw_21, tw_22, tw_23, tw_24, tw_25, tw_26, tw_27, tw_28, tw_29, tw_30, tw_31, ob_0, ob_1, ob_2, ob_3, ob_4, ob_5, ob_6, ob_7, ob_8, ob_9, ob_10, ob_11, ob_12, ob_13, ob_14, ob_15, ob_16, ob_17, ob_18, ob_19, ob_20, ob_21, ob_22, ob_23, ob_24, ob_25, ob_26, ob_27, ob_28, ob_29, ob_30, ob_31, ob_32, ob_33, ob_34, ob_35, ob_36, ob_37, ob_38, ob_39, ob_40, ob_41, ob_42, ob_43, ob_44, ob_45, ob_46, ob_47, ob_48, ob_49, ob_50, ob_51, ob_52, ob_53, ob_54, ob_55, ob_56, ob_57, ob_58, ob_59, ob_60, ob_61, ob_62, ob_63, ob_64, ob_65, jf7, aGi, aGb, aGz, aGj, leT, leF, ltT, ltF, eqT, eqF, tws_0, tws_1, tws_2, tws_3, tws_4, tws_5, tws_6, tws_7, tws_8, tws_9, tws_10, tws_11, tws_12, tws_13, tws_14, tws_15, tws_16, tws_17, tws_18, tws_19, tws_20, tws_21, tws_22, tws_23, tws_24, tws_25, tws_26, tws_27, tws_28, tws_29, tws_30, tws_31, obs_0, obs_2, obs_3, obs_4, obs_5, obs_12, obs_13, obs_14, obs_15, obs_16, obs_17, obs_18, obs_19, obs_20, obs_21, obs_22, obs_26, obs_31, obs_32, obs_33, obs_34, obs_35, obs_41, obs_42, obs_44, obs_48, obs_50, obs_51, obs_52, obs_55, obs_57, obs_58, obs_59, obs_60, obs_61, pF7i, pF7z, pF7j, aSi, aSj, aSb1, aSb24, aSb28, aSb31, ts, tg_eq, tg_ne, tg_tg, fset_eq, fset_ne, putW_w, putW_cl, putW_mo, putW_s11, putW_s34, putW_s35, putW_at, e1, e2, e3]
    · rw [if_neg (by simp [e2])]
      simp (disch := omega) only [jc_ref, rI_int, rR_ref, rR_null, rJ_long, ckR_ref, ckR_null, ckr_ref, ckr_null, ckW_int, ckW_ref, ckW_null, cI_ok, cR_ok, cR_null, cV_ok, cJ_ok, qH_eq, qD_in, aG_ref, aS_ref, aL_ref, pF_ref, cK_ref, cK_null, zI_lit, zJ_lit, zI_add, zI_sub, zI_mul, zI_neg, zI_eq, zI_lt, zI_le, Int.reduceLT, Int.reduceLE, Int.reduceAdd, Int.reduceSub, Int.reduceMul, Int.reduceNeg, Int.reduceEq, Int.reduceNe, reduceIte, tw_0, tw_1, tw_2, tw_3, tw_4, tw_5, tw_6, tw_7, tw_8, tw_9, tw_10, tw_11, tw_12, tw_13, tw_14, tw_15, tw_16, tw_17, tw_18, tw_19, tw_20, tw_21, tw_22, tw_23, tw_24, tw_25, tw_26, tw_27, tw_28, tw_29, tw_30, tw_31, ob_0, ob_1, ob_2, ob_3, ob_4, ob_5, ob_6, ob_7, ob_8, ob_9, ob_10, ob_11, ob_12, ob_13, ob_14, ob_15, ob_16, ob_17, ob_18, ob_19, ob_20, ob_21, ob_22, ob_23, ob_24, ob_25, ob_26, ob_27, ob_28, ob_29, ob_30, ob_31, ob_32, ob_33, ob_34, ob_35, ob_36, ob_37, ob_38, ob_39, ob_40, ob_41, ob_42, ob_43, ob_44, ob_45, ob_46, ob_47, ob_48, ob_49, ob_50, ob_51, ob_52, ob_53, ob_54, ob_55, ob_56, ob_57, ob_58, ob_59, ob_60, ob_61, ob_62, ob_63, ob_64, ob_65, jf7, aGi, aGb, aGz, aGj, leT, leF, ltT, ltF, eqT, eqF, tws_0, tws_1, tws_2, tws_3, tws_4, tws_5, tws_6, tws_7, tws_8, tws_9, tws_10, tws_11, tws_12, tws_13, tws_14, tws_15, tws_16, tws_17, tws_18, tws_19, tws_20, tws_21, tws_22, tws_23, tws_24, tws_25, tws_26, tws_27, tws_28, tws_29, tws_30, tws_31, obs_0, obs_2, obs_3, obs_4, obs_5, obs_12, obs_13, obs_14, obs_15, obs_16, obs_17, obs_18, obs_19, obs_20, obs_21, obs_22, obs_26, obs_31, obs_32, obs_33, obs_34, obs_35, obs_41, obs_42, obs_44, obs_48, obs_50, obs_51, obs_52, obs_55, obs_57, obs_58, obs_59, obs_60, obs_61, pF7i, pF7z, pF7j, aSi, aSj, aSb1, aSb24, aSb28, aSb31, ts, tg_eq, tg_ne, tg_tg, fset_eq, fset_ne, putW_w, putW_cl, putW_mo, putW_s11, putW_s34, putW_s35, putW_at, e1, e2]
theorem tm_isOther {q c : Int} (W : StW (T 2)) (hw : WsW w) (r0 : 0 ≤ q) (r1 : q < 99) (c0 : 0 ≤ c) (c1 : c < 4) : M (d + 2) 7048 [.ref m, .int (zI q), .int (zI c)] (tw m (putW T w) h) = some (.inl (some (.int (zI (bZ (isOth (T 2) w q c))))), tw m (putW T w) h) := by
  have a := hw.1 (4 * q + c) (by omega) (by omega)
  have e := W.cell r0 r1 c0 c1
  have t := tm_cell (d := d) (m := m) (h := h) (T := putW T w) r0 r1 c0 c1
  rw [putW_at (by decide) (by decide)] at t
  rw [X7048 _ (tw_recv rfl), E7048_0]
  unfold isOth
  by_cases e1 : w.1 (4 * q + c) = -9
  · simp (disch := omega) only [jc_ref, rI_int, rR_ref, rR_null, rJ_long, ckR_ref, ckR_null, ckr_ref, ckr_null, ckW_int, ckW_ref, ckW_null, cI_ok, cR_ok, cR_null, cV_ok, cJ_ok, qH_eq, qD_in, aG_ref, aS_ref, aL_ref, pF_ref, cK_ref, cK_null, zI_lit, zJ_lit, zI_add, zI_sub, zI_mul, zI_neg, zI_eq, zI_lt, zI_le, Int.reduceLT, Int.reduceLE, Int.reduceAdd, Int.reduceSub, Int.reduceMul, Int.reduceNeg, Int.reduceEq, Int.reduceNe, reduceIte, tw_0, tw_1, tw_2, tw_3, tw_4, tw_5, tw_6, tw_7, tw_8, tw_9, tw_10, tw_11, tw_12, tw_13, tw_14, tw_15, tw_16, tw_17, tw_18, tw_19, tw_20, tw_21, tw_22, tw_23, tw_24, tw_25, tw_26, tw_27, tw_28, tw_29, tw_30, tw_31, ob_0, ob_1, ob_2, ob_3, ob_4, ob_5, ob_6, ob_7, ob_8, ob_9, ob_10, ob_11, ob_12, ob_13, ob_14, ob_15, ob_16, ob_17, ob_18, ob_19, ob_20, ob_21, ob_22, ob_23, ob_24, ob_25, ob_26, ob_27, ob_28, ob_29, ob_30, ob_31, ob_32, ob_33, ob_34, ob_35, ob_36, ob_37, ob_38, ob_39, ob_40, ob_41, ob_42, ob_43, ob_44, ob_45, ob_46, ob_47, ob_48, ob_49, ob_50, ob_51, ob_52, ob_53, ob_54, ob_55, ob_56, ob_57, ob_58, ob_59, ob_60, ob_61, ob_62, ob_63, ob_64, ob_65, jf7, aGi, aGb, aGz, aGj, leT, leF, ltT, ltF, eqT, eqF, tws_0, tws_1, tws_2, tws_3, tws_4, tws_5, tws_6, tws_7, tws_8, tws_9, tws_10, tws_11, tws_12, tws_13, tws_14, tws_15, tws_16, tws_17, tws_18, tws_19, tws_20, tws_21, tws_22, tws_23, tws_24, tws_25, tws_26, tws_27, tws_28, tws_29, tws_30, tws_31, obs_0, obs_2, obs_3, obs_4, obs_5, obs_12, obs_13, obs_14, obs_15, obs_16, obs_17, obs_18, obs_19, obs_20, obs_21, obs_22, obs_26, obs_31, obs_32, obs_33, obs_34, obs_35, obs_41, obs_42, obs_44, obs_48, obs_50, obs_51, obs_52, obs_55, obs_57, obs_58, obs_59, obs_60, obs_61, pF7i, pF7z, pF7j, aSi, aSj, aSb1, aSb24, aSb28, aSb31, ts, tg_eq, tg_ne, tg_tg, fset_eq, fset_ne, putW_w, putW_cl, putW_mo, putW_s11, putW_s34, putW_s35, putW_at, beq_tt, beq_tf, beq_ft, beq_ff, Bool.true_and, Bool.false_and, Bool.and_true, Bool.and_false, Bool.true_or, Bool.false_or, Bool.or_true, Bool.or_false, Bool.true_eq_false, Bool.false_eq_true, Bool.not_true, Bool.not_false, bZ_t, bZ_f, zI_b0, zI_b1, zI_bb, okZ_0, okZ_1, e1, decide_true]
  · by_cases e2 : w.1 (4 * q + c) = cellS (T 2) q c
    · simp (disch := omega) only [jc_ref, rI_int, rR_ref, rR_null, rJ_long, ckR_ref, ckR_null, ckr_ref, ckr_null, ckW_int, ckW_ref, ckW_null, cI_ok, cR_ok, cR_null, cV_ok, cJ_ok, qH_eq, qD_in, aG_ref, aS_ref, aL_ref, pF_ref, cK_ref, cK_null, zI_lit, zJ_lit, zI_add, zI_sub, zI_mul, zI_neg, zI_eq, zI_lt, zI_le, Int.reduceLT, Int.reduceLE, Int.reduceAdd, Int.reduceSub, Int.reduceMul, Int.reduceNeg, Int.reduceEq, Int.reduceNe, reduceIte, tw_0, tw_1, tw_2, tw_3, tw_4, tw_5, tw_6, tw_7, tw_8, tw_9, tw_10, tw_11, tw_12, tw_13, tw_14, tw_15, tw_16, tw_17, tw_18, tw_19, tw_20, tw_21, tw_22, tw_23, tw_24, tw_25, tw_26, tw_27, tw_28, tw_29, tw_30, tw_31, ob_0, ob_1, ob_2, ob_3, ob_4, ob_5, ob_6, ob_7, ob_8, ob_9, ob_10, ob_11, ob_12, ob_13, ob_14, ob_15, ob_16, ob_17, ob_18, ob_19, ob_20, ob_21, ob_22, ob_23, ob_24, ob_25, ob_26, ob_27, ob_28, ob_29, ob_30, ob_31, ob_32, ob_33, ob_34, ob_35, ob_36, ob_37, ob_38, ob_39, ob_40, ob_41, ob_42, ob_43, ob_44, ob_45, ob_46, ob_47, ob_48, ob_49, ob_50, ob_51, ob_52, ob_53, ob_54, ob_55, ob_56, ob_57, ob_58, ob_59, ob_60, ob_61, ob_62, ob_63, ob_64, ob_65, jf7, aGi, aGb, aGz, aGj, leT, leF, ltT, ltF, eqT, eqF, tws_0, tws_1, tws_2, tws_3, tws_4, tws_5, tws_6, tws_7, tws_8, tws_9, tws_10, tws_11, tws_12, tws_13, tws_14, tws_15, tws_16, tws_17, tws_18, tws_19, tws_20, tws_21, tws_22, tws_23, tws_24, tws_25, tws_26, tws_27, tws_28, tws_29, tws_30, tws_31, obs_0, obs_2, obs_3, obs_4, obs_5, obs_12, obs_13, obs_14, obs_15, obs_16, obs_17, obs_18, obs_19, obs_20, obs_21, obs_22, obs_26, obs_31, obs_32, obs_33, obs_34, obs_35, obs_41, obs_42, obs_44, obs_48, obs_50, obs_51, obs_52, obs_55, obs_57, obs_58, obs_59, obs_60, obs_61, pF7i, pF7z, pF7j, aSi, aSj, aSb1, aSb24, aSb28, aSb31, ts, tg_eq, tg_ne, tg_tg, fset_eq, fset_ne, putW_w, putW_cl, putW_mo, putW_s11, putW_s34, putW_s35, putW_at, beq_tt, beq_tf, beq_ft, beq_ff, Bool.true_and, Bool.false_and, Bool.and_true, Bool.and_false, Bool.true_or, Bool.false_or, Bool.or_true, Bool.or_false, Bool.true_eq_false, Bool.false_eq_true, Bool.not_true, Bool.not_false, bZ_t, bZ_f, zI_b0, zI_b1, zI_bb, okZ_0, okZ_1, e1, decide_true, decide_false, t, e2]
    · simp (disch := omega) only [jc_ref, rI_int, rR_ref, rR_null, rJ_long, ckR_ref, ckR_null, ckr_ref, ckr_null, ckW_int, ckW_ref, ckW_null, cI_ok, cR_ok, cR_null, cV_ok, cJ_ok, qH_eq, qD_in, aG_ref, aS_ref, aL_ref, pF_ref, cK_ref, cK_null, zI_lit, zJ_lit, zI_add, zI_sub, zI_mul, zI_neg, zI_eq, zI_lt, zI_le, Int.reduceLT, Int.reduceLE, Int.reduceAdd, Int.reduceSub, Int.reduceMul, Int.reduceNeg, Int.reduceEq, Int.reduceNe, reduceIte, tw_0, tw_1, tw_2, tw_3, tw_4, tw_5, tw_6, tw_7, tw_8, tw_9, tw_10, tw_11, tw_12, tw_13, tw_14, tw_15, tw_16, tw_17, tw_18, tw_19, tw_20, tw_21, tw_22, tw_23, tw_24, tw_25, tw_26, tw_27, tw_28, tw_29, tw_30, tw_31, ob_0, ob_1, ob_2, ob_3, ob_4, ob_5, ob_6, ob_7, ob_8, ob_9, ob_10, ob_11, ob_12, ob_13, ob_14, ob_15, ob_16, ob_17, ob_18, ob_19, ob_20, ob_21, ob_22, ob_23, ob_24, ob_25, ob_26, ob_27, ob_28, ob_29, ob_30, ob_31, ob_32, ob_33, ob_34, ob_35, ob_36, ob_37, ob_38, ob_39, ob_40, ob_41, ob_42, ob_43, ob_44, ob_45, ob_46, ob_47, ob_48, ob_49, ob_50, ob_51, ob_52, ob_53, ob_54, ob_55, ob_56, ob_57, ob_58, ob_59, ob_60, ob_61, ob_62, ob_63, ob_64, ob_65, jf7, aGi, aGb, aGz, aGj, leT, leF, ltT, ltF, eqT, eqF, tws_0, tws_1, tws_2, tws_3, tws_4, tws_5, tws_6, tws_7, tws_8, tws_9, tws_10, tws_11, tws_12, tws_13, tws_14, tws_15, tws_16, tws_17, tws_18, tws_19, tws_20, tws_21, tws_22, tws_23, tws_24, tws_25, tws_26, tws_27, tws_28, tws_29, tws_30, tws_31, obs_0, obs_2, obs_3, obs_4, obs_5, obs_12, obs_13, obs_14, obs_15, obs_16, obs_17, obs_18, obs_19, obs_20, obs_21, obs_22, obs_26, obs_31, obs_32, obs_33, obs_34, obs_35, obs_41, obs_42, obs_44, obs_48, obs_50, obs_51, obs_52, obs_55, obs_57, obs_58, obs_59, obs_60, obs_61, pF7i, pF7z, pF7j, aSi, aSj, aSb1, aSb24, aSb28, aSb31, ts, tg_eq, tg_ne, tg_tg, fset_eq, fset_ne, putW_w, putW_cl, putW_mo, putW_s11, putW_s34, putW_s35, putW_at, beq_tt, beq_tf, beq_ft, beq_ff, Bool.true_and, Bool.false_and, Bool.and_true, Bool.and_false, Bool.true_or, Bool.false_or, Bool.or_true, Bool.or_false, Bool.true_eq_false, Bool.false_eq_true, Bool.not_true, Bool.not_false, bZ_t, bZ_f, zI_b0, zI_b1, zI_bb, okZ_0, okZ_1, e1, decide_true, decide_false, t, e2]
end
