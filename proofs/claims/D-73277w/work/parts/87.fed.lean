/-! the twin is fed -/
/-- the k-th byte of a word, with its sign -/
def bt (x k : Int32) : Int := zB (x >>> (k &&& 31))
section
variable {d m : Nat} {T : Nat → Int → Int} {h : AH}
theorem fd_step {x : Int32} {k : Int} (k0 : 0 ≤ k) (k1 : k ≤ 24) (h0 : 0 ≤ T 0 2) (h1 : T 0 2 < 940) : G d 7030 3 [.ref m, .int x, .int (zI k)] [] (tw m T h) = G d 7030 3 [.ref m, .int x, .int (zI (k - 8))] [] (tw m (ts (ts T 1 (T 0 2) (bt x (zI k))) 0 2 (T 0 2 + 1)) h) := by
  conv => lhs; rw [E7030_3]
  unfold bt
  simp (disch := omega) only [jc_ref, rI_int, rR_ref, rR_null, rJ_long, ckR_ref, ckR_null, ckr_ref, ckr_null, ckW_int, ckW_ref, ckW_null, cI_ok, cR_ok, cR_null, cV_ok, cJ_ok, qH_eq, qD_in, aG_ref, aS_ref, aL_ref, pF_ref, cK_ref, cK_null, zI_lit, zJ_lit, zI_add, zI_sub, zI_mul, zI_neg, zI_eq, zI_lt, zI_le, Int.reduceLT, Int.reduceLE, Int.reduceAdd, Int.reduceSub, Int.reduceMul, Int.reduceNeg, Int.reduceEq, Int.reduceNe, reduceIte, tw_0, tw_1, tw_2, tw_3, tw_4, tw_5, tw_6, tw_7, tw_8, tw_9, tw_10, tw_11, tw_12, tw_13, tw_14, tw_15, tw_16, tw_17, tw_18, tw_19, tw_20, tw_21, tw_22, tw_23, tw_24, tw_25, tw_26, tw_27, tw_28, tw_29, tw_30, tw_31, ob_0, ob_1, ob_2, ob_3, ob_4, ob_5, ob_6, ob_7, ob_8, ob_9, ob_10, ob_11, ob_12, ob_13, ob_14, ob_15, ob_16, ob_17, ob_18, ob_19, ob_20, ob_21, ob_22, ob_23, ob_24, ob_25, ob_26, ob_27, ob_28, ob_29, ob_30, ob_31, ob_32, ob_33, ob_34, ob_35, ob_36, ob_37, ob_38, ob_39, ob_40, ob_41, ob_42, ob_43, ob_44, ob_45, ob_46, ob_47, ob_48, ob_49, ob_50, ob_51, ob_52, ob_53, ob_54, ob_55, ob_56, ob_57, ob_58, ob_59, ob_60, ob_61, ob_62, ob_63, ob_64, ob_65, jf7, aGi, aGb, aGz, aGj, leT, leF, ltT, ltF, eqT, eqF, tws_0, tws_1, tws_2, tws_3, tws_4, tws_5, tws_6, tws_7, tws_8, tws_9, tws_10, tws_11, tws_12, tws_13, tws_14, tws_15, tws_16, tws_17, tws_18, tws_19, tws_20, tws_21, tws_22, tws_23, tws_24, tws_25, tws_26, tws_27, tws_28, tws_29, tws_30, tws_31, obs_0, obs_2, obs_3, obs_4, obs_5, obs_12, obs_13, obs_14, obs_15, obs_16, obs_17, obs_18, obs_19, obs_20, obs_21, obs_22, obs_26, obs_31, obs_32, obs_33, obs_34, obs_35, obs_41, obs_42, obs_44, obs_48, obs_50, obs_51, obs_52, obs_55, obs_57, obs_58, obs_59, obs_60, obs_61, pF7i, pF7z, pF7j, aSi, aSj, aSb1, aSb24, aSb28, aSb31, ts, tg_eq, tg_ne, tg_tg, fset_eq, fset_ne, zB_b, Int.sub_eq_add_neg]
def fd1 (T : Nat → Int → Int) (b : Int) : Nat → Int → Int := ts (ts T 1 (T 0 2) b) 0 2 (T 0 2 + 1)
theorem fd1_2 {b : Int} : fd1 T b 0 2 = T 0 2 + 1 := by unfold fd1; rw [ts_eq, fset_eq]
/-- four bytes, the highest first -/
def fd4 (T : Nat → Int → Int) (x : Int32) : Nat → Int → Int := fd1 (fd1 (fd1 (fd1 T (bt x (zI 24))) (bt x (zI 16))) (bt x (zI 8))) (bt x (zI 0))
theorem fd4_2 {x : Int32} : fd4 T x 0 2 = T 0 2 + 4 := by unfold fd4; rw [fd1_2, fd1_2, fd1_2, fd1_2]; omega
theorem tm_four {x : Int32} (h0 : 0 ≤ T 0 2) (h1 : T 0 2 + 4 ≤ 940) : M (d + 1) 7030 [.ref m, .int x] (tw m T h) = some (.inl none, tw m (fd4 T x) h) := by
  have s1 := fd_step (d := d) (m := m) (h := h) (T := T) (x := x) (k := 24) (by omega) (by omega) h0 (by omega)
  have s2 := fd_step (d := d) (m := m) (h := h) (T := fd1 T (bt x (zI 24))) (x := x) (k := 16) (by omega) (by omega) (by rw [fd1_2]; omega) (by rw [fd1_2]; omega)
  have s3 := fd_step (d := d) (m := m) (h := h) (T := fd1 (fd1 T (bt x (zI 24))) (bt x (zI 16))) (x := x) (k := 8) (by omega) (by omega) (by rw [fd1_2, fd1_2]; omega) (by rw [fd1_2, fd1_2]; omega)
  have s4 := fd_step (d := d) (m := m) (h := h) (T := fd1 (fd1 (fd1 T (bt x (zI 24))) (bt x (zI 16))) (bt x (zI 8))) (x := x) (k := 0) (by omega) (by omega) (by rw [fd1_2, fd1_2, fd1_2]; omega) (by rw [fd1_2, fd1_2, fd1_2]; omega)
  rw [X7030 _ (tw_recv rfl), E7030_0]
  refine Eq.trans s1 (Eq.trans s2 (Eq.trans s3 (Eq.trans s4 ?_)))
  rw [E7030_3]
  simp (disch := omega) only [jc_ref, rI_int, rR_ref, rR_null, rJ_long, ckR_ref, ckR_null, ckr_ref, ckr_null, ckW_int, ckW_ref, ckW_null, cI_ok, cR_ok, cR_null, cV_ok, cJ_ok, qH_eq, qD_in, aG_ref, aS_ref, aL_ref, pF_ref, cK_ref, cK_null, zI_lit, zJ_lit, zI_add, zI_sub, zI_mul, zI_neg, zI_eq, zI_lt, zI_le, Int.reduceLT, Int.reduceLE, Int.reduceAdd, Int.reduceSub, Int.reduceMul, Int.reduceNeg, Int.reduceEq, Int.reduceNe, reduceIte, tw_0, tw_1, tw_2, tw_3, tw_4, tw_5, tw_6, tw_7, tw_8, tw_9, tw_10, tw_11, tw_12, tw_13, tw_14, tw_15, tw_16, tw_17, tw_18, tw_19, tw_20, tw_21, tw_22, tw_23, tw_24, tw_25, tw_26, tw_27, tw_28, tw_29, tw_30, tw_31, ob_0, ob_1, ob_2, ob_3, ob_4, ob_5, ob_6, ob_7, ob_8, ob_9, ob_10, ob_11, ob_12, ob_13, ob_14, ob_15, ob_16, ob_17, ob_18, ob_19, ob_20, ob_21, ob_22, ob_23, ob_24, ob_25, ob_26, ob_27, ob_28, ob_29, ob_30, ob_31, ob_32, ob_33, ob_34, ob_35, ob_36, ob_37, ob_38, ob_39, ob_40, ob_41, ob_42, ob_43, ob_44, ob_45, ob_46, ob_47, ob_48, ob_49, ob_50, ob_51, ob_52, ob_53, ob_54, ob_55, ob_56, ob_57, ob_58, ob_59, ob_60, ob_61, ob_62, ob_63, ob_64, ob_65, jf7, aGi, aGb, aGz, aGj, leT, leF, ltT, ltF, eqT, eqF]
  rfl
end
