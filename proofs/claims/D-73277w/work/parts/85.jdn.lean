/-! judges: its contract -/
section
variable {d m : Nat} {T : Nat → Int → Int} {h : AH} {to : Int}
theorem FT_self : FT T (T 0 31) (T 13) (wsT T) = T := by
  unfold FT
  rw [ts_self, tg_self]
  exact putW_self T
theorem jd_mid (W : StW (T 2)) (hA : AhW (T 12)) (L : LnW (T 2) (T 5) to) (h35 : T 0 35 = 0 ∨ T 0 35 = 1) (h0 : 0 ≤ to) (h1 : to ≤ 780) :
    (∃ v3, G (d + 5) 7059 96 [.ref m, .int (zI to), .int (zI 0), jno] [] (tw m (jd3 T) h) = G (d + 5) 7059 211 [.ref m, .int (zI to), .int (zI 0), v3] [] (tw m (jd5 (jd4 T to)) h)) ∧
    jd4 T to 2 = T 2 ∧ jd4 T to 5 = T 5 ∧ AhW (jd4 T to 12) ∧ GoW (jd4 T to 13) ∧ WsW (wsT (jd4 T to)) ∧ jd4 T to 0 32 = 0 := by
  have e2 : jd3 T 2 = T 2 := jd3_k (by decide) (by decide) (by decide) (by decide) (by decide)
  have e5 : jd3 T 5 = T 5 := jd3_k (by decide) (by decide) (by decide) (by decide) (by decide)
  have hw3 := jd3_w h35
  have hA3 := jd3_12 hA
  have hG3 := jd3_13 (T := T)
  have e32 : jd3 T 0 32 = 0 := by rw [jd3_f, if_pos (by decide)]
  have e31 : jd3 T 0 31 = 0 := by rw [jd3_f, if_pos (by decide)]
  obtain ⟨⟨k0, k2⟩, ⟨t0, t1⟩, li, le⟩ := id L
  by_cases e : T 5 to = 0
  · have e4 : jd4 T to = jd3 T := by unfold jd4; rw [if_pos e]
    rw [e4]
    refine ⟨⟨jno, ?_⟩, e2, e5, hA3, hG3, hw3, e32⟩
    have cl := tm_closes (d := d + 3) (m := m) (h := h) (T := jd3 T) (by rw [e2]; exact W) hA3 hG3
    unfold jd5
    conv => lhs; rw [E7059_96]
    simp (disch := omega) only [jc_ref, rI_int, rR_ref, rR_null, rJ_long, ckR_ref, ckR_null, ckr_ref, ckr_null, ckW_int, ckW_ref, ckW_null, cI_ok, cR_ok, cR_null, cV_ok, cJ_ok, qH_eq, qD_in, aG_ref, aS_ref, aL_ref, pF_ref, cK_ref, cK_null, zI_lit, zJ_lit, zI_add, zI_sub, zI_mul, zI_neg, zI_eq, zI_lt, zI_le, Int.reduceLT, Int.reduceLE, Int.reduceAdd, Int.reduceSub, Int.reduceMul, Int.reduceNeg, Int.reduceEq, Int.reduceNe, reduceIte, tw_0, tw_1, tw_2, tw_3, tw_4, tw_5, tw_6, tw_7, tw_8, tw_9, tw_10, tw_11, tw_12, tw_13, tw_14, tw_15, tw_16, tw_17, tw_18, tw_19, tw_20, tw_21, tw_22, tw_23, tw_24, tw_25, tw_26, tw_27, tw_28, tw_29, tw_30, tw_31, ob_0, ob_1, ob_2, ob_3, ob_4, ob_5, ob_6, ob_7, ob_8, ob_9, ob_10, ob_11, ob_12, ob_13, ob_14, ob_15, ob_16, ob_17, ob_18, ob_19, ob_20, ob_21, ob_22, ob_23, ob_24, ob_25, ob_26, ob_27, ob_28, ob_29, ob_30, ob_31, ob_32, ob_33, ob_34, ob_35, ob_36, ob_37, ob_38, ob_39, ob_40, ob_41, ob_42, ob_43, ob_44, ob_45, ob_46, ob_47, ob_48, ob_49, ob_50, ob_51, ob_52, ob_53, ob_54, ob_55, ob_56, ob_57, ob_58, ob_59, ob_60, ob_61, ob_62, ob_63, ob_64, ob_65, jf7, aGi, aGb, aGz, aGj, leT, leF, ltT, ltF, eqT, eqF, e5, e, cl]
  · obtain ⟨C, E⟩ := le e
    obtain ⟨f1, f2, f3, f4⟩ := fdL_W E 99 0 (0, jd3 T 13, wsT (jd3 T)) hG3 hw3 (by simp only; omega)
    have e4 : jd4 T to = FT (jd3 T) (fdL (T 2) (T 5) to 99 0 (0, jd3 T 13, wsT (jd3 T))).1 (fdL (T 2) (T 5) to 99 0 (0, jd3 T 13, wsT (jd3 T))).2.1 (fdL (T 2) (T 5) to 99 0 (0, jd3 T 13, wsT (jd3 T))).2.2 := by unfold jd4; rw [if_neg e]
    obtain ⟨v3, l⟩ := jd_96 (d := d + 3) (m := m) (h := h) (T := jd3 T) (to := to) (by rw [e2]; exact W) (by rw [e2, e5]; exact C) (by rw [e2, e5]; exact E) (by rw [e5]; omega) (by rw [e5]; exact k2) (by rw [e5]; exact t0) (by rw [e2, e5]; exact t1) h0 h1 99 0 (0, jd3 T 13, wsT (jd3 T)) jno hG3 hw3 (by simp only; omega) (by simp only; omega) (by omega) (by omega)
    rw [e2, e5, ← e4] at l
    have fs : FT (jd3 T) 0 (jd3 T 13) (wsT (jd3 T)) = jd3 T := by
      have := FT_self (T := jd3 T)
      rw [e31] at this
      exact this
    simp only [fs] at l
    have g2 : jd4 T to 2 = T 2 := by rw [e4, FT_k (by decide) (by decide) (by decide), e2]
    have g5 : jd4 T to 5 = T 5 := by rw [e4, FT_k (by decide) (by decide) (by decide), e5]
    have g12 : AhW (jd4 T to 12) := by rw [e4, FT_k (by decide) (by decide) (by decide)]; exact hA3
    have g13 : GoW (jd4 T to 13) := by rw [e4, FT_13]; exact f1
    have gw : WsW (wsT (jd4 T to)) := by
      rw [e4]
      generalize fdL (T 2) (T 5) to 99 0 (0, jd3 T 13, wsT (jd3 T)) = x at f2 ⊢
      refine ⟨?_, ?_, ?_⟩
      · show ∀ i, 0 ≤ i → i < 396 → FT (jd3 T) x.1 x.2.1 x.2.2 11 i = -9 ∨ _
        unfold FT
        rw [putW_w]; exact f2.1
      · show FT (jd3 T) x.1 x.2.1 x.2.2 0 34 = 0 ∨ FT (jd3 T) x.1 x.2.1 x.2.2 0 34 = 1
        unfold FT
        rw [putW_cl]; exact f2.2.1
      · show FT (jd3 T) x.1 x.2.1 x.2.2 0 35 = 0 ∨ FT (jd3 T) x.1 x.2.1 x.2.2 0 35 = 1
        unfold FT
        rw [putW_mo]; exact f2.2.2
    have g32 : jd4 T to 0 32 = 0 := by rw [e4, FT_0]; simp (disch := omega) only [fset_ne, e32]
    refine ⟨⟨v3, ?_⟩, g2, g5, g12, g13, gw, g32⟩
    have cl := tm_closes (d := d + 3) (m := m) (h := h) (T := jd4 T to) (by rw [g2]; exact W) g12 g13
    rw [l]
    unfold jd5
    simp (disch := omega) only [jc_ref, rI_int, rR_ref, rR_null, rJ_long, ckR_ref, ckR_null, ckr_ref, ckr_null, ckW_int, ckW_ref, ckW_null, cI_ok, cR_ok, cR_null, cV_ok, cJ_ok, qH_eq, qD_in, aG_ref, aS_ref, aL_ref, pF_ref, cK_ref, cK_null, zI_lit, zJ_lit, zI_add, zI_sub, zI_mul, zI_neg, zI_eq, zI_lt, zI_le, Int.reduceLT, Int.reduceLE, Int.reduceAdd, Int.reduceSub, Int.reduceMul, Int.reduceNeg, Int.reduceEq, Int.reduceNe, reduceIte, tw_0, tw_1, tw_2, tw_3, tw_4, tw_5, tw_6, tw_7, tw_8, tw_9, tw_10, tw_11, tw_12, tw_13, tw_14, tw_15, tw_16, tw_17, tw_18, tw_19, tw_20, tw_21, tw_22, tw_23, tw_24, tw_25, tw_26, tw_27, tw_28, tw_29, tw_30, tw_31, ob_0, ob_1, ob_2, ob_3, ob_4, ob_5, ob_6, ob_7, ob_8, ob_9, ob_10, ob_11, ob_12, ob_13, ob_14, ob_15, ob_16, ob_17, ob_18, ob_19, ob_20, ob_21, ob_22, ob_23, ob_24, ob_25, ob_26, ob_27, ob_28, ob_29, ob_30, ob_31, ob_32, ob_33, ob_34, ob_35, ob_36, ob_37, ob_38, ob_39, ob_40, ob_41, ob_42, ob_43, ob_44, ob_45, ob_46, ob_47, ob_48, ob_49, ob_50, ob_51, ob_52, ob_53, ob_54, ob_55, ob_56, ob_57, ob_58, ob_59, ob_60, ob_61, ob_62, ob_63, ob_64, ob_65, jf7, aGi, aGb, aGz, aGj, leT, leF, ltT, ltF, eqT, eqF, cl]
end
