/-! judges: the end (everything is done, judged, and brought back if it is violated) -/
def jdV (T : Nat → Int → Int) : List Vi := violS (T 2) (decide (T 2 149 = 0))
def jdE (T : Nat → Int → Int) : Int × (Nat → Int → Int) :=
  if (jdV T).length = 0 then (0, layL (ts T 0 26 0) (jdV T)) else
  (layL (ts T 0 26 0) (jdV T) 8 0, tg (layL (ts T 0 26 0) (jdV T)) 2 (bl 148 1239 (fun x => T 14 (x - 148)) (T 2)))
def jdD (T : Nat → Int → Int) (to : Int) : Nat → Int → Int :=
  let y := doR (wsT T) (T 13) 99 0 (T 2, 0)
  ts (tg T 2 (if T 5 to = 0 then insS y.1 (T 5) to else y.1)) 0 33 y.2
section
variable {d m : Nat} {T : Nat → Int → Int} {h : AH} {to : Int}
theorem jd_346 {i2 : Int} {v3 : Value} (W : StW (T 2)) : G (d + 5) 7059 346 [.ref m, .int (zI to), .int (zI i2), v3] [] (tw m T h) = some (.inl (some (.int (zI (jdE T).1))), tw m (jdE T).2 h) := by
  have l9 := violS_le W (late := decide (T 2 149 = 0))
  have on := W.2.2.2.2.2.1
  have ja := fun b => tm_judgesAll (d := d) (m := m) (h := h) (T := T) (late := b) W
  have e26 : layL (ts T 0 26 0) (jdV T) 0 26 = ((jdV T).length : Int) := by rw [layL_26, ts_eq, fset_eq]; omega
  have hgo : G (d + 5) 7059 346 [.ref m, .int (zI to), .int (zI i2), v3] [] (tw m T h) = (if zI ((jdV T).length : Int) = zI 0 then some (.inl (some (.int (zI 0))), tw m (layL (ts T 0 26 0) (jdV T)) h) else G (d + 5) 7059 377 [.ref m, .int (zI to), .int (zI 0), v3] [] (tw m (layL (ts T 0 26 0) (jdV T)) h)) := by
    rw [← e26]
    by_cases e : T 2 149 = 0
    · have j := ja true
      rw [bZ_t] at j
      unfold jdV
      rw [E7059_346]
      simp (disch := omega) only [jc_ref, rI_int, rR_ref, rR_null, rJ_long, ckR_ref, ckR_null, ckr_ref, ckr_null, ckW_int, ckW_ref, ckW_null, cI_ok, cR_ok, cR_null, cV_ok, cJ_ok, qH_eq, qD_in, aG_ref, aS_ref, aL_ref, pF_ref, cK_ref, cK_null, zI_lit, zJ_lit, zI_add, zI_sub, zI_mul, zI_neg, zI_eq, zI_lt, zI_le, Int.reduceLT, Int.reduceLE, Int.reduceAdd, Int.reduceSub, Int.reduceMul, Int.reduceNeg, Int.reduceEq, Int.reduceNe, reduceIte, tw_0, tw_1, tw_2, tw_3, tw_4, tw_5, tw_6, tw_7, tw_8, tw_9, tw_10, tw_11, tw_12, tw_13, tw_14, tw_15, tw_16, tw_17, tw_18, tw_19, tw_20, tw_21, tw_22, tw_23, tw_24, tw_25, tw_26, tw_27, tw_28, tw_29, tw_30, tw_31, ob_0, ob_1, ob_2, ob_3, ob_4, ob_5, ob_6, ob_7, ob_8, ob_9, ob_10, ob_11, ob_12, ob_13, ob_14, ob_15, ob_16, ob_17, ob_18, ob_19, ob_20, ob_21, ob_22, ob_23, ob_24, ob_25, ob_26, ob_27, ob_28, ob_29, ob_30, ob_31, ob_32, ob_33, ob_34, ob_35, ob_36, ob_37, ob_38, ob_39, ob_40, ob_41, ob_42, ob_43, ob_44, ob_45, ob_46, ob_47, ob_48, ob_49, ob_50, ob_51, ob_52, ob_53, ob_54, ob_55, ob_56, ob_57, ob_58, ob_59, ob_60, ob_61, ob_62, ob_63, ob_64, ob_65, jf7, aGi, aGb, aGz, aGj, leT, leF, ltT, ltF, eqT, eqF, e, j, decide_true]
    · have j := ja false
      rw [bZ_f] at j
      unfold jdV
      rw [E7059_346]
      simp (disch := omega) only [jc_ref, rI_int, rR_ref, rR_null, rJ_long, ckR_ref, ckR_null, ckr_ref, ckr_null, ckW_int, ckW_ref, ckW_null, cI_ok, cR_ok, cR_null, cV_ok, cJ_ok, qH_eq, qD_in, aG_ref, aS_ref, aL_ref, pF_ref, cK_ref, cK_null, zI_lit, zJ_lit, zI_add, zI_sub, zI_mul, zI_neg, zI_eq, zI_lt, zI_le, Int.reduceLT, Int.reduceLE, Int.reduceAdd, Int.reduceSub, Int.reduceMul, Int.reduceNeg, Int.reduceEq, Int.reduceNe, reduceIte, tw_0, tw_1, tw_2, tw_3, tw_4, tw_5, tw_6, tw_7, tw_8, tw_9, tw_10, tw_11, tw_12, tw_13, tw_14, tw_15, tw_16, tw_17, tw_18, tw_19, tw_20, tw_21, tw_22, tw_23, tw_24, tw_25, tw_26, tw_27, tw_28, tw_29, tw_30, tw_31, ob_0, ob_1, ob_2, ob_3, ob_4, ob_5, ob_6, ob_7, ob_8, ob_9, ob_10, ob_11, ob_12, ob_13, ob_14, ob_15, ob_16, ob_17, ob_18, ob_19, ob_20, ob_21, ob_22, ob_23, ob_24, ob_25, ob_26, ob_27, ob_28, ob_29, ob_30, ob_31, ob_32, ob_33, ob_34, ob_35, ob_36, ob_37, ob_38, ob_39, ob_40, ob_41, ob_42, ob_43, ob_44, ob_45, ob_46, ob_47, ob_48, ob_49, ob_50, ob_51, ob_52, ob_53, ob_54, ob_55, ob_56, ob_57, ob_58, ob_59, ob_60, ob_61, ob_62, ob_63, ob_64, ob_65, jf7, aGi, aGb, aGz, aGj, leT, leF, ltT, ltF, eqT, eqF, e, j, decide_false]
  rw [hgo]
  unfold jdE
  have l10 : (jdV T).length ≤ 960 := l9
  by_cases e : (jdV T).length = 0
  · rw [if_pos e, e]
    simp (disch := omega) only [jc_ref, rI_int, rR_ref, rR_null, rJ_long, ckR_ref, ckR_null, ckr_ref, ckr_null, ckW_int, ckW_ref, ckW_null, cI_ok, cR_ok, cR_null, cV_ok, cJ_ok, qH_eq, qD_in, aG_ref, aS_ref, aL_ref, pF_ref, cK_ref, cK_null, zI_lit, zJ_lit, zI_add, zI_sub, zI_mul, zI_neg, zI_eq, zI_lt, zI_le, Int.reduceLT, Int.reduceLE, Int.reduceAdd, Int.reduceSub, Int.reduceMul, Int.reduceNeg, Int.reduceEq, Int.reduceNe, reduceIte, tw_0, tw_1, tw_2, tw_3, tw_4, tw_5, tw_6, tw_7, tw_8, tw_9, tw_10, tw_11, tw_12, tw_13, tw_14, tw_15, tw_16, tw_17, tw_18, tw_19, tw_20, tw_21, tw_22, tw_23, tw_24, tw_25, tw_26, tw_27, tw_28, tw_29, tw_30, tw_31, ob_0, ob_1, ob_2, ob_3, ob_4, ob_5, ob_6, ob_7, ob_8, ob_9, ob_10, ob_11, ob_12, ob_13, ob_14, ob_15, ob_16, ob_17, ob_18, ob_19, ob_20, ob_21, ob_22, ob_23, ob_24, ob_25, ob_26, ob_27, ob_28, ob_29, ob_30, ob_31, ob_32, ob_33, ob_34, ob_35, ob_36, ob_37, ob_38, ob_39, ob_40, ob_41, ob_42, ob_43, ob_44, ob_45, ob_46, ob_47, ob_48, ob_49, ob_50, ob_51, ob_52, ob_53, ob_54, ob_55, ob_56, ob_57, ob_58, ob_59, ob_60, ob_61, ob_62, ob_63, ob_64, ob_65, jf7, aGi, aGb, aGz, aGj, leT, leF, ltT, ltF, eqT, eqF]
  · rw [if_neg e, if_neg (by rw [zI_eq (by omega) (by omega) (by omega) (by omega)]; omega)]
    have l := jd_377 (d := d + 5) (m := m) (h := h) (to := to) (v3 := v3) 1091 0 (layL (ts T 0 26 0) (jdV T)) (by omega) (by omega)
    rw [layL_S (S := T 2) (ts_ne (by decide)), layL_k (k := 14) (by decide), ts_ne (show (14 : Nat) ≠ 0 by decide), Int.add_zero] at l
    exact l
end
