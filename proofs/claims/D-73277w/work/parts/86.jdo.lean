/-! the twin's judges -/
section
variable {d m : Nat} {T : Nat → Int → Int} {h : AH} {to : Int}
theorem closF_G {S A : Int → Int} : ∀ (k : Nat) (n : Int) (Go : Int → Int), GoW Go → 0 ≤ n → n + k ≤ 101 → GoW (closF S A k n Go) := by
  intro k
  induction k with
  | zero => intro n Go hG _ _; exact hG
  | succ k ih =>
    intro n Go hG n0 n1
    have g := cloR_G (S := S) (A := A) (n := n) n0 (by omega) 99 0 (Go, false) hG
    simp only [closF]
    split
    · exact ih (n + 1) _ g (by omega) (by omega)
    · exact g
theorem tm_judges (W : StW (T 2)) (hA : AhW (T 12)) (L : LnW (T 2) (T 5) to) (h35 : T 0 35 = 0 ∨ T 0 35 = 1) (h0 : 0 ≤ to) (h1 : to ≤ 780) :
    M (d + 6) 7059 [.ref m, .int (zI to)] (tw m T h) = some (.inl (some (.int (zI (judT T to).1))), tw m (judT T to).2 h) := by
  obtain ⟨⟨k0, k2⟩, -, -, -⟩ := id L
  rw [jd_start W k0 k2 h0 h1]
  unfold judT
  by_cases e : T 5 to = 0 ∧ (cntA (T 2) 150 99 0 = 40 ∨ T 2 148 = 99)
  · rw [if_pos e, if_pos e]
  · rw [if_neg e, if_neg e]
    obtain ⟨⟨v3, l1⟩, g2, g5, g12, g13, gw, g32⟩ := jd_mid (d := d) (m := m) (h := h) W hA L h35 h0 h1
    rw [l1]
    have c := W.2.2.2.2.2.2.1
    have w5 := W.2.2.2.2.1
    have hT : jdT T to = jd7 (jd6 (jd5 (jd4 T to))) := rfl
    generalize jd4 T to = X at g2 g5 g12 g13 gw g32 hT
    have x2 : jd5 X 2 = T 2 := by unfold jd5; rw [tg_ne (by decide), g2]
    have x5 : jd5 X 5 = T 5 := by unfold jd5; rw [tg_ne (by decide), g5]
    have x12 : AhW (jd5 X 12) := by unfold jd5; rw [tg_ne (by decide)]; exact g12
    have x13 : GoW (jd5 X 13) := by unfold jd5; rw [tg_eq]; exact closF_G 100 1 _ g13 (by omega) (by omega)
    have x0 : jd5 X 0 = X 0 := by unfold jd5; rw [tg_ne (by decide)]
    have x11 : jd5 X 11 = X 11 := by unfold jd5; rw [tg_ne (by decide)]
    have l2 := jd_211 (d := d + 5) (m := m) (h := h) (to := to) (v3 := v3) 99 0 (jd5 X) x13 (by rw [x0, g32]; omega) (by rw [x0, g32]; omega) (by omega) (by omega)
    rw [l2]
    have y2 : jd6 (jd5 X) 2 = T 2 := by unfold jd6; rw [ts_ne (by decide), ts_ne (by decide), x2]
    have y5 : jd6 (jd5 X) 5 = T 5 := by unfold jd6; rw [ts_ne (by decide), ts_ne (by decide), x5]
    have y12 : AhW (jd6 (jd5 X) 12) := by unfold jd6; rw [ts_ne (by decide), ts_ne (by decide)]; exact x12
    have y13 : GoW (jd6 (jd5 X) 13) := by unfold jd6; rw [ts_ne (by decide), ts_ne (by decide)]; exact x13
    have y11 : jd6 (jd5 X) 11 = X 11 := by unfold jd6; rw [ts_ne (by decide), ts_ne (by decide), x11]
    have y34 : jd6 (jd5 X) 0 34 = X 0 34 := by unfold jd6; rw [ts_eq, fset_ne (by decide), ts_eq, fset_ne (by decide), x0]
    have y35 : jd6 (jd5 X) 0 35 = 1 := by unfold jd6; rw [ts_eq, fset_eq]
    have yw : WsW (wsT (jd6 (jd5 X))) := by
      refine ⟨?_, ?_, Or.inr y35⟩
      · show ∀ i, 0 ≤ i → i < 396 → jd6 (jd5 X) 11 i = -9 ∨ _
        rw [y11]; exact gw.1
      · show jd6 (jd5 X) 0 34 = 0 ∨ jd6 (jd5 X) 0 34 = 1
        rw [y34]; exact gw.2.1
    have hcu := cu_le (g := (wsT (jd6 (jd5 X))).1) 396 0
    obtain ⟨i2, l3, zw⟩ := jd_251 (d := d + 1) (m := m) (h := h) (T := jd6 (jd5 X)) (to := to) (v3 := v3) (by rw [y2]; exact W) y12 y13 397 99 (wsT (jd6 (jd5 X))) yw (by omega)
    rw [show putW (jd6 (jd5 X)) (wsT (jd6 (jd5 X))) = jd6 (jd5 X) from putW_self _] at l3
    have l3' : G (d + 5) 7059 251 [.ref m, .int (zI to), .int (zI 99), v3] [] (tw m (jd6 (jd5 X)) h) = G (d + 5) 7059 315 [.ref m, .int (zI to), .int (zI i2), v3] [] (tw m (jdT T to) h) := by rw [hT]; exact l3
    have z2 : jdT T to 2 = T 2 := by rw [hT]; unfold jd7; rw [putW_at (by decide) (by decide), y2]
    have z5 : jdT T to 5 = T 5 := by rw [hT]; unfold jd7; rw [putW_at (by decide) (by decide), y5]
    have z13 : GoW (jdT T to 13) := by rw [hT]; unfold jd7; rw [putW_at (by decide) (by decide)]; exact y13
    have zw2 : WsW (wsT (jdT T to)) := by
      rw [hT]
      unfold jd7
      rw [show wsT (putW (jd6 (jd5 X)) (rounds (jd6 (jd5 X) 2) (jd6 (jd5 X) 12) (jd6 (jd5 X) 13) 397 (wsT (jd6 (jd5 X))))) = rounds (jd6 (jd5 X) 2) (jd6 (jd5 X) 12) (jd6 (jd5 X) 13) 397 (wsT (jd6 (jd5 X))) by unfold wsT; rw [putW_w, putW_cl, putW_mo]]
      exact zw
    have hcl := zw2.2.1
    refine Eq.trans l3' ?_
    by_cases e34 : jdT T to 0 34 = 0
    · rw [if_pos e34]
      exact (jd_315 (d := d) (m := m) (h := h) (T := jdT T to) (to := to) (i2 := i2) (v3 := v3) (by rw [z2]; exact W) zw2 z13 (by rw [z2, z5]; exact L) (fun e5 => by
        rw [z5] at e5
        rw [z2]
        have n1 : ¬ (cntA (T 2) 150 99 0 = 40 ∨ T 2 148 = 99) := fun q => e ⟨e5, q⟩
        omega) h0 h1 e34).1
    · rw [if_neg e34]
      have hcl' : jdT T to 0 34 = 0 ∨ jdT T to 0 34 = 1 := hcl
      have e1 : jdT T to 0 34 = 1 := by omega
      conv => lhs; rw [E7059_315]
      simp (disch := omega) only [jc_ref, rI_int, rR_ref, rR_null, rJ_long, ckR_ref, ckR_null, ckr_ref, ckr_null, ckW_int, ckW_ref, ckW_null, cI_ok, cR_ok, cR_null, cV_ok, cJ_ok, qH_eq, qD_in, aG_ref, aS_ref, aL_ref, pF_ref, cK_ref, cK_null, zI_lit, zJ_lit, zI_add, zI_sub, zI_mul, zI_neg, zI_eq, zI_lt, zI_le, Int.reduceLT, Int.reduceLE, Int.reduceAdd, Int.reduceSub, Int.reduceMul, Int.reduceNeg, Int.reduceEq, Int.reduceNe, reduceIte, tw_0, tw_1, tw_2, tw_3, tw_4, tw_5, tw_6, tw_7, tw_8, tw_9, tw_10, tw_11, tw_12, tw_13, tw_14, tw_15, tw_16, tw_17, tw_18, tw_19, tw_20, tw_21, tw_22, tw_23, tw_24, tw_25, tw_26, tw_27, tw_28, tw_29, tw_30, tw_31, ob_0, ob_1, ob_2, ob_3, ob_4, ob_5, ob_6, ob_7, ob_8, ob_9, ob_10, ob_11, ob_12, ob_13, ob_14, ob_15, ob_16, ob_17, ob_18, ob_19, ob_20, ob_21, ob_22, ob_23, ob_24, ob_25, ob_26, ob_27, ob_28, ob_29, ob_30, ob_31, ob_32, ob_33, ob_34, ob_35, ob_36, ob_37, ob_38, ob_39, ob_40, ob_41, ob_42, ob_43, ob_44, ob_45, ob_46, ob_47, ob_48, ob_49, ob_50, ob_51, ob_52, ob_53, ob_54, ob_55, ob_56, ob_57, ob_58, ob_59, ob_60, ob_61, ob_62, ob_63, ob_64, ob_65, jf7, aGi, aGb, aGz, aGj, leT, leF, ltT, ltF, eqT, eqF, e1]
end
