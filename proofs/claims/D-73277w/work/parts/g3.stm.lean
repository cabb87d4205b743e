/-! the twin's statement, would, commit -/
section
variable {d m : Nat} {h : AH} {T : Nat → Int → Int} {k : Nat}
def touZ (T : Nat → Int → Int) : Int := T 0 32 + T 0 33 + (if T 5 0 = 0 then 1 else 0)
/-- a statement that is read, and how it went -/
def stmQ (T : Nat → Int → Int) : Int × (Nat → Int → Int) :=
  let J := judT T 0
  let X := tlQ J.2 J.1
  if J.1 = 0 then (touZ X, stQ X 14) else (-1000 - J.1, X)
def wouQ (T : Nat → Int → Int) : Int × (Nat → Int → Int) :=
  let J := judT T 0
  let X := tlQ J.2 J.1
  if J.1 = 0 then (touZ X, tg X 2 (bl 148 1239 (fun x => X 14 (x + -148)) (X 2))) else (-1000 - J.1, X)
theorem tlQ_0 {why : Int} : tlQ T why 0 = fset (fset (T 0) 42 1) 41 (T 0 26) := by
  unfold tlQ
  rw [tvQ_0]
  unfold tlB
  rw [tg_ne (by decide), tlA_0, fset_ne (by decide)]
theorem wo_38 {i1 : Int} : ∀ (j : Nat) (i : Int) (T : Nat → Int → Int), 0 ≤ i → i + j = 1091 → (0 ≤ T 0 32 ∧ T 0 32 ≤ 99) → (0 ≤ T 0 33 ∧ T 0 33 ≤ 99) → Rg (T 5 0) →
    G (d + 1) 7139 38 [.ref m, .int (zI i1), .int (zI i)] [] (tw m T h) = some (.inl (some (.int (zI (touZ T)))), tw m (tg T 2 (bl (148 + i) 1239 (fun x => T 14 (x + -148)) (T 2))) h) := by
  intro j
  induction j with
  | zero =>
    intro i T i0 hi a b c
    have to := tm_touched (d := d) (m := m) (h := h) (T := T) (to := 0) (by omega) (by omega) a.1 a.2 b.1 b.2 c
    rw [bl_end (by omega), tg_self]
    conv => lhs; rw [E7139_38]
    simp (disch := omega) only [jc_ref, rI_int, rR_ref, rR_null, rJ_long, ckR_ref, ckR_null, ckr_ref, ckr_null, ckW_int, ckW_ref, ckW_null, cI_ok, cR_ok, cR_null, cV_ok, cJ_ok, qH_eq, qD_in, aG_ref, aS_ref, aL_ref, pF_ref, cK_ref, cK_null, zI_lit, zJ_lit, zI_add, zI_sub, zI_mul, zI_neg, zI_eq, zI_lt, zI_le, Int.reduceLT, Int.reduceLE, Int.reduceAdd, Int.reduceSub, Int.reduceMul, Int.reduceNeg, Int.reduceEq, Int.reduceNe, reduceIte, tw_0, tw_1, tw_2, tw_3, tw_4, tw_5, tw_6, tw_7, tw_8, tw_9, tw_10, tw_11, tw_12, tw_13, tw_14, tw_15, tw_16, tw_17, tw_18, tw_19, tw_20, tw_21, tw_22, tw_23, tw_24, tw_25, tw_26, tw_27, tw_28, tw_29, tw_30, tw_31, ob_0, ob_1, ob_2, ob_3, ob_4, ob_5, ob_6, ob_7, ob_8, ob_9, ob_10, ob_11, ob_12, ob_13, ob_14, ob_15, ob_16, ob_17, ob_18, ob_19, ob_20, ob_21, ob_22, ob_23, ob_24, ob_25, ob_26, ob_27, ob_28, ob_29, ob_30, ob_31, ob_32, ob_33, ob_34, ob_35, ob_36, ob_37, ob_38, ob_39, ob_40, ob_41, ob_42, ob_43, ob_44, ob_45, ob_46, ob_47, ob_48, ob_49, ob_50, ob_51, ob_52, ob_53, ob_54, ob_55, ob_56, ob_57, ob_58, ob_59, ob_60, ob_61, ob_62, ob_63, ob_64, ob_65, jf7, aGi, aGb, aGz, aGj, leT, leF, ltT, ltF, eqT, eqF, to]
    rfl
  | succ j ih =>
    intro i T i0 hi a b c
    have ih' := ih (i + 1) (tg T 2 (fset (T 2) (148 + i) (T 14 i))) (by omega) (by omega) a b c
    have bs := bl_step (f := fun x => T 14 (x + -148)) (g := T 2) (i := 148 + i) (hi := 1239) (by omega)
    simp only [show 148 + i + -148 = i by omega] at bs
    rw [tg_tg, tg_eq, tg_ne (show (14 : Nat) ≠ 2 by decide), show 148 + (i + 1) = 148 + i + 1 by omega, bs] at ih'
    have e : touZ (tg T 2 (fset (T 2) (148 + i) (T 14 i))) = touZ T := rfl
    rw [e] at ih'
    rw [← ih']
    conv => lhs; rw [E7139_38]
    simp (disch := omega) only [jc_ref, rI_int, rR_ref, rR_null, rJ_long, ckR_ref, ckR_null, ckr_ref, ckr_null, ckW_int, ckW_ref, ckW_null, cI_ok, cR_ok, cR_null, cV_ok, cJ_ok, qH_eq, qD_in, aG_ref, aS_ref, aL_ref, pF_ref, cK_ref, cK_null, zI_lit, zJ_lit, zI_add, zI_sub, zI_mul, zI_neg, zI_eq, zI_lt, zI_le, Int.reduceLT, Int.reduceLE, Int.reduceAdd, Int.reduceSub, Int.reduceMul, Int.reduceNeg, Int.reduceEq, Int.reduceNe, reduceIte, tw_0, tw_1, tw_2, tw_3, tw_4, tw_5, tw_6, tw_7, tw_8, tw_9, tw_10, tw_11, tw_12, tw_13, tw_14, tw_15, tw_16, tw_17, tw_18, tw_19, tw_20, tw_21, tw_22, tw_23, tw_24, tw_25, tw_26, tw_27, tw_28, tw_29, tw_30, tw_31, ob_0, ob_1, ob_2, ob_3, ob_4, ob_5, ob_6, ob_7, ob_8, ob_9, ob_10, ob_11, ob_12, ob_13, ob_14, ob_15, ob_16, ob_17, ob_18, ob_19, ob_20, ob_21, ob_22, ob_23, ob_24, ob_25, ob_26, ob_27, ob_28, ob_29, ob_30, ob_31, ob_32, ob_33, ob_34, ob_35, ob_36, ob_37, ob_38, ob_39, ob_40, ob_41, ob_42, ob_43, ob_44, ob_45, ob_46, ob_47, ob_48, ob_49, ob_50, ob_51, ob_52, ob_53, ob_54, ob_55, ob_56, ob_57, ob_58, ob_59, ob_60, ob_61, ob_62, ob_63, ob_64, ob_65, jf7, aGi, aGb, aGz, aGj, leT, leF, ltT, ltF, eqT, eqF, tws_0, tws_1, tws_2, tws_3, tws_4, tws_5, tws_6, tws_7, tws_8, tws_9, tws_10, tws_11, tws_12, tws_13, tws_14, tws_15, tws_16, tws_17, tws_18, tws_19, tws_20, tws_21, tws_22, tws_23, tws_24, tws_25, tws_26, tws_27, tws_28, tws_29, tws_30, tws_31, obs_0, obs_2, obs_3, obs_4, obs_5, obs_12, obs_13, obs_14, obs_15, obs_16, obs_17, obs_18, obs_19, obs_20, obs_21, obs_22, obs_26, obs_31, obs_32, obs_33, obs_34, obs_35, obs_41, obs_42, obs_44, obs_48, obs_50, obs_51, obs_52, obs_55, obs_57, obs_58, obs_59, obs_60, obs_61, pF7i, pF7z, pF7j, aSi, aSj, aSb1, aSb24, aSb28, aSb31, ts, tg_eq, tg_ne, tg_tg, fset_eq, fset_ne]
/-- what is read of the tape ahead of a statement -/
def RdQ (T T' : Nat → Int → Int) : Prop := (∀ k, k ≠ 0 → k ≠ 5 → T' k = T k) ∧ T' 0 0 = 0 ∧ T' 0 2 = 0 ∧ ∀ i, 23 ≤ i → T' 0 i = T 0 i
theorem tm_statement (hC : TwC T) (W : StW (T 2)) (hA : AhW (T 12)) (h35 : T 0 35 = 0 ∨ T 0 35 = 1) (n0 : 0 ≤ T 0 44) (n1 : T 0 44 ≤ 8) : ∃ T', RdQ T T' ∧ match oneP (T 1) (T 0 2) 200 (T 2) (T 6) (T 5) with
      | .error e => M (d + 10) 7104 [.ref m] (tw m T h) = some (.inl (some (.int (zI (-2) - zI e.2))), tw m T' h) ∧ Fl T' e
      | .ok L => M (d + 10) 7104 [.ref m] (tw m T h) = some (.inl (some (.int (zI (stmQ T').1))), tw m (stmQ T').2 h) ∧ T' 5 = L ∧ T' 0 16 = 0 ∧ LnW (T 2) L 0 := by
  obtain ⟨T', r1, r2, r3⟩ := tm_readsOne (d := d) (m := m) (h := h) hC W.sc
  refine ⟨T', r2, ?_⟩
  obtain ⟨f1, f2, f3, f4⟩ := id r2
  cases ho : oneP (T 1) (T 0 2) 200 (T 2) (T 6) (T 5) with
  | error e =>
    rw [ho] at r1 r3
    have r1 : M (d + 9) 7088 [.ref m] (tw m T h) = some (.inl (some (.int (zI 0))), tw m T' h) := r1
    have r3 : Fl T' e := r3
    refine ⟨?_, r3⟩
    rw [X7104 _ (tw_recv rfl), E7104_0]
    simp (disch := omega) only [jc_ref, rI_int, rR_ref, rR_null, rJ_long, ckR_ref, ckR_null, ckr_ref, ckr_null, ckW_int, ckW_ref, ckW_null, cI_ok, cR_ok, cR_null, cV_ok, cJ_ok, qH_eq, qD_in, aG_ref, aS_ref, aL_ref, pF_ref, cK_ref, cK_null, zI_lit, zJ_lit, zI_add, zI_sub, zI_mul, zI_neg, zI_eq, zI_lt, zI_le, Int.reduceLT, Int.reduceLE, Int.reduceAdd, Int.reduceSub, Int.reduceMul, Int.reduceNeg, Int.reduceEq, Int.reduceNe, reduceIte, tw_0, tw_1, tw_2, tw_3, tw_4, tw_5, tw_6, tw_7, tw_8, tw_9, tw_10, tw_11, tw_12, tw_13, tw_14, tw_15, tw_16, tw_17, tw_18, tw_19, tw_20, tw_21, tw_22, tw_23, tw_24, tw_25, tw_26, tw_27, tw_28, tw_29, tw_30, tw_31, ob_0, ob_1, ob_2, ob_3, ob_4, ob_5, ob_6, ob_7, ob_8, ob_9, ob_10, ob_11, ob_12, ob_13, ob_14, ob_15, ob_16, ob_17, ob_18, ob_19, ob_20, ob_21, ob_22, ob_23, ob_24, ob_25, ob_26, ob_27, ob_28, ob_29, ob_30, ob_31, ob_32, ob_33, ob_34, ob_35, ob_36, ob_37, ob_38, ob_39, ob_40, ob_41, ob_42, ob_43, ob_44, ob_45, ob_46, ob_47, ob_48, ob_49, ob_50, ob_51, ob_52, ob_53, ob_54, ob_55, ob_56, ob_57, ob_58, ob_59, ob_60, ob_61, ob_62, ob_63, ob_64, ob_65, jf7, aGi, aGb, aGz, aGj, leT, leF, ltT, ltF, eqT, eqF, r1, r3.2]
  | ok L =>
    rw [ho] at r1 r3
    have r1 : M (d + 9) 7088 [.ref m] (tw m T h) = some (.inl (some (.int (zI 1))), tw m T' h) := r1
    have r3 : T' 5 = L ∧ T' 0 16 = 0 := r3
    have L0 : LnW (T 2) L 0 := one_W W.sc ho
    have e2 : T' 2 = T 2 := f1 2 (by decide) (by decide)
    have W' : StW (T' 2) := by rw [e2]; exact W
    have A' : AhW (T' 12) := by rw [f1 12 (by decide) (by decide)]; exact hA
    have L' : LnW (T' 2) (T' 5) 0 := by rw [e2, r3.1]; exact L0
    have p' : T' 0 35 = 0 ∨ T' 0 35 = 1 := by rw [f4 35 (by decide)]; exact h35
    have jw := judT_W W' A' L' p'
    have jj := tm_judges (d := d + 3) (m := m) (h := h) W' A' L' p' (Int.le_refl _) (by decide)
    have hL5 := L'.1
    refine ⟨?_, r3.1, r3.2, L0⟩
    rw [X7104 _ (tw_recv rfl), E7104_0]
    unfold stmQ
    generalize judT T' 0 = J at jw jj
    obtain ⟨⟨w0, w6⟩, a2, a3, a4, a5, a6, a7, a8, a9, a10, a11, a12, a13, a14⟩ := jw
    have tl := tm_tells (d := d + 7) (m := m) (h := h) (T := J.2) (why := J.1) w0 w6 a8.1 a8.2
    have x0 : ∀ i, i ≠ 41 → i ≠ 42 → tlQ J.2 J.1 0 i = J.2 0 i := fun i h1 h2 => by rw [tlQ_0, fset_ne h1, fset_ne h2]
    have x5 : tlQ J.2 J.1 5 = T' 5 := by rw [tlQ_k (by decide) (by decide) (by decide) (by decide) (by decide) (by decide), a2 5 (by decide) (by decide) (by decide) (by decide) (by decide) (by decide) (by decide) (by decide) (by decide)]
    have x44 : tlQ J.2 J.1 0 44 = T 0 44 := by rw [x0 44 (by decide) (by decide), a3 44 (by decide) (by decide) (by decide) (by decide) (by decide) (by decide), f4 44 (by decide)]
    have so := tm_stores14 (d := d + 8) (m := m) (h := h) (T := tlQ J.2 J.1) (by rw [x44]; exact n0) (by rw [x44]; exact n1)
    have y5 : stQ (tlQ J.2 J.1) 14 5 = T' 5 := by rw [stQ_k (by decide) (by decide), x5]
    have to := tm_touched (d := d + 8) (m := m) (h := h) (T := stQ (tlQ J.2 J.1) 14) (to := 0) (by omega) (by omega) (by rw [stQ_0 (by decide), x0 32 (by decide) (by decide)]; exact a10.1) (by rw [stQ_0 (by decide), x0 32 (by decide) (by decide)]; exact a10.2) (by rw [stQ_0 (by decide), x0 33 (by decide) (by decide)]; exact a11.1) (by rw [stQ_0 (by decide), x0 33 (by decide) (by decide)]; exact a11.2) (by rw [y5]; exact ⟨by omega, by omega⟩)
    have et : stQ (tlQ J.2 J.1) 14 0 32 + stQ (tlQ J.2 J.1) 14 0 33 + (if stQ (tlQ J.2 J.1) 14 5 0 = 0 then 1 else 0) = touZ (tlQ J.2 J.1) := by unfold touZ; rw [stQ_0 (by decide), stQ_0 (by decide), y5, x5]
    rw [et] at to
    by_cases hw : J.1 = 0
    · rw [if_pos hw]
      rw [hw] at jj tl so to ⊢
      simp (disch := omega) only [jc_ref, rI_int, rR_ref, rR_null, rJ_long, ckR_ref, ckR_null, ckr_ref, ckr_null, ckW_int, ckW_ref, ckW_null, cI_ok, cR_ok, cR_null, cV_ok, cJ_ok, qH_eq, qD_in, aG_ref, aS_ref, aL_ref, pF_ref, cK_ref, cK_null, zI_lit, zJ_lit, zI_add, zI_sub, zI_mul, zI_neg, zI_eq, zI_lt, zI_le, Int.reduceLT, Int.reduceLE, Int.reduceAdd, Int.reduceSub, Int.reduceMul, Int.reduceNeg, Int.reduceEq, Int.reduceNe, reduceIte, tw_0, tw_1, tw_2, tw_3, tw_4, tw_5, tw_6, tw_7, tw_8, tw_9, tw_10, tw_11, tw_12, tw_13, tw_14, tw_15, tw_16, tw_17, tw_18, tw_19, tw_20, tw_21, tw_22, tw_23, tw_24, tw_25, tw_26, tw_27, tw_28, tw_29, tw_30, tw_31, ob_0, ob_1, ob_2, ob_3, ob_4, ob_5, ob_6, ob_7, ob_8, ob_9, ob_10, ob_11, ob_12, ob_13, ob_14, ob_15, ob_16, ob_17, ob_18, ob_19, ob_20, ob_21, ob_22, ob_23, ob_24, ob_25, ob_26, ob_27, ob_28, ob_29, ob_30, ob_31, ob_32, ob_33, ob_34, ob_35, ob_36, ob_37, ob_38, ob_39, ob_40, ob_41, ob_42, ob_43, ob_44, ob_45, ob_46, ob_47, ob_48, ob_49, ob_50, ob_51, ob_52, ob_53, ob_54, ob_55, ob_56, ob_57, ob_58, ob_59, ob_60, ob_61, ob_62, ob_63, ob_64, ob_65, jf7, aGi, aGb, aGz, aGj, leT, leF, ltT, ltF, eqT, eqF, r1, jj, tl, so, to]
    · rw [if_neg hw]
      simp (disch := omega) only [jc_ref, rI_int, rR_ref, rR_null, rJ_long, ckR_ref, ckR_null, ckr_ref, ckr_null, ckW_int, ckW_ref, ckW_null, cI_ok, cR_ok, cR_null, cV_ok, cJ_ok, qH_eq, qD_in, aG_ref, aS_ref, aL_ref, pF_ref, cK_ref, cK_null, zI_lit, zJ_lit, zI_add, zI_sub, zI_mul, zI_neg, zI_eq, zI_lt, zI_le, Int.reduceLT, Int.reduceLE, Int.reduceAdd, Int.reduceSub, Int.reduceMul, Int.reduceNeg, Int.reduceEq, Int.reduceNe, reduceIte, tw_0, tw_1, tw_2, tw_3, tw_4, tw_5, tw_6, tw_7, tw_8, tw_9, tw_10, tw_11, tw_12, tw_13, tw_14, tw_15, tw_16, tw_17, tw_18, tw_19, tw_20, tw_21, tw_22, tw_23, tw_24, tw_25, tw_26, tw_27, tw_28, tw_29, tw_30, tw_31, ob_0, ob_1, ob_2, ob_3, ob_4, ob_5, ob_6, ob_7, ob_8, ob_9, ob_10, ob_11, ob_12, ob_13, ob_14, ob_15, ob_16, ob_17, ob_18, ob_19, ob_20, ob_21, ob_22, ob_23, ob_24, ob_25, ob_26, ob_27, ob_28, ob_29, ob_30, ob_31, ob_32, ob_33, ob_34, ob_35, ob_36, ob_37, ob_38, ob_39, ob_40, ob_41, ob_42, ob_43, ob_44, ob_45, ob_46, ob_47, ob_48, ob_49, ob_50, ob_51, ob_52, ob_53, ob_54, ob_55, ob_56, ob_57, ob_58, ob_59, ob_60, ob_61, ob_62, ob_63, ob_64, ob_65, jf7, aGi, aGb, aGz, aGj, leT, leF, ltT, ltF, eqT, eqF, r1, jj, tl]
theorem tm_would (hC : TwC T) (W : StW (T 2)) (hA : AhW (T 12)) (h35 : T 0 35 = 0 ∨ T 0 35 = 1) : ∃ T', RdQ T T' ∧ match oneP (T 1) (T 0 2) 200 (T 2) (T 6) (T 5) with
      | .error e => M (d + 10) 7139 [.ref m] (tw m T h) = some (.inl (some (.int (zI (-2) - zI e.2))), tw m T' h) ∧ Fl T' e
      | .ok L => M (d + 10) 7139 [.ref m] (tw m T h) = some (.inl (some (.int (zI (wouQ T').1))), tw m (wouQ T').2 h) ∧ T' 5 = L ∧ T' 0 16 = 0 ∧ LnW (T 2) L 0 := by
  obtain ⟨T', r1, r2, r3⟩ := tm_readsOne (d := d) (m := m) (h := h) hC W.sc
  refine ⟨T', r2, ?_⟩
  obtain ⟨f1, f2, f3, f4⟩ := id r2
  cases ho : oneP (T 1) (T 0 2) 200 (T 2) (T 6) (T 5) with
  | error e =>
    rw [ho] at r1 r3
    have r1 : M (d + 9) 7088 [.ref m] (tw m T h) = some (.inl (some (.int (zI 0))), tw m T' h) := r1
    have r3 : Fl T' e := r3
    refine ⟨?_, r3⟩
    rw [X7139 _ (tw_recv rfl), E7139_0]
    simp (disch := omega) only [jc_ref, rI_int, rR_ref, rR_null, rJ_long, ckR_ref, ckR_null, ckr_ref, ckr_null, ckW_int, ckW_ref, ckW_null, cI_ok, cR_ok, cR_null, cV_ok, cJ_ok, qH_eq, qD_in, aG_ref, aS_ref, aL_ref, pF_ref, cK_ref, cK_null, zI_lit, zJ_lit, zI_add, zI_sub, zI_mul, zI_neg, zI_eq, zI_lt, zI_le, Int.reduceLT, Int.reduceLE, Int.reduceAdd, Int.reduceSub, Int.reduceMul, Int.reduceNeg, Int.reduceEq, Int.reduceNe, reduceIte, tw_0, tw_1, tw_2, tw_3, tw_4, tw_5, tw_6, tw_7, tw_8, tw_9, tw_10, tw_11, tw_12, tw_13, tw_14, tw_15, tw_16, tw_17, tw_18, tw_19, tw_20, tw_21, tw_22, tw_23, tw_24, tw_25, tw_26, tw_27, tw_28, tw_29, tw_30, tw_31, ob_0, ob_1, ob_2, ob_3, ob_4, ob_5, ob_6, ob_7, ob_8, ob_9, ob_10, ob_11, ob_12, ob_13, ob_14, ob_15, ob_16, ob_17, ob_18, ob_19, ob_20, ob_21, ob_22, ob_23, ob_24, ob_25, ob_26, ob_27, ob_28, ob_29, ob_30, ob_31, ob_32, ob_33, ob_34, ob_35, ob_36, ob_37, ob_38, ob_39, ob_40, ob_41, ob_42, ob_43, ob_44, ob_45, ob_46, ob_47, ob_48, ob_49, ob_50, ob_51, ob_52, ob_53, ob_54, ob_55, ob_56, ob_57, ob_58, ob_59, ob_60, ob_61, ob_62, ob_63, ob_64, ob_65, jf7, aGi, aGb, aGz, aGj, leT, leF, ltT, ltF, eqT, eqF, r1, r3.2]
  | ok L =>
    rw [ho] at r1 r3
    have r1 : M (d + 9) 7088 [.ref m] (tw m T h) = some (.inl (some (.int (zI 1))), tw m T' h) := r1
    have r3 : T' 5 = L ∧ T' 0 16 = 0 := r3
    have L0 : LnW (T 2) L 0 := one_W W.sc ho
    have e2 : T' 2 = T 2 := f1 2 (by decide) (by decide)
    have W' : StW (T' 2) := by rw [e2]; exact W
    have A' : AhW (T' 12) := by rw [f1 12 (by decide) (by decide)]; exact hA
    have L' : LnW (T' 2) (T' 5) 0 := by rw [e2, r3.1]; exact L0
    have p' : T' 0 35 = 0 ∨ T' 0 35 = 1 := by rw [f4 35 (by decide)]; exact h35
    have jw := judT_W W' A' L' p'
    have jj := tm_judges (d := d + 3) (m := m) (h := h) W' A' L' p' (Int.le_refl _) (by decide)
    have hL5 := L'.1
    refine ⟨?_, r3.1, r3.2, L0⟩
    rw [X7139 _ (tw_recv rfl), E7139_0]
    unfold wouQ
    generalize judT T' 0 = J at jw jj
    obtain ⟨⟨w0, w6⟩, a2, a3, a4, a5, a6, a7, a8, a9, a10, a11, a12, a13, a14⟩ := jw
    have tl := tm_tells (d := d + 7) (m := m) (h := h) (T := J.2) (why := J.1) w0 w6 a8.1 a8.2
    have x0 : ∀ i, i ≠ 41 → i ≠ 42 → tlQ J.2 J.1 0 i = J.2 0 i := fun i h1 h2 => by rw [tlQ_0, fset_ne h1, fset_ne h2]
    have x5 : tlQ J.2 J.1 5 = T' 5 := by rw [tlQ_k (by decide) (by decide) (by decide) (by decide) (by decide) (by decide), a2 5 (by decide) (by decide) (by decide) (by decide) (by decide) (by decide) (by decide) (by decide) (by decide)]
    have lo := wo_38 (d := d + 8) (m := m) (h := h) (i1 := J.1) 1091 0 (tlQ J.2 J.1) (by omega) (by omega) (by rw [x0 32 (by decide) (by decide)]; exact a10) (by rw [x0 33 (by decide) (by decide)]; exact a11) (by rw [x5]; exact ⟨by omega, by omega⟩)
    rw [Int.add_zero] at lo
    by_cases hw : J.1 = 0
    · rw [if_pos hw]
      rw [hw] at jj tl lo ⊢
      simp (disch := omega) only [jc_ref, rI_int, rR_ref, rR_null, rJ_long, ckR_ref, ckR_null, ckr_ref, ckr_null, ckW_int, ckW_ref, ckW_null, cI_ok, cR_ok, cR_null, cV_ok, cJ_ok, qH_eq, qD_in, aG_ref, aS_ref, aL_ref, pF_ref, cK_ref, cK_null, zI_lit, zJ_lit, zI_add, zI_sub, zI_mul, zI_neg, zI_eq, zI_lt, zI_le, Int.reduceLT, Int.reduceLE, Int.reduceAdd, Int.reduceSub, Int.reduceMul, Int.reduceNeg, Int.reduceEq, Int.reduceNe, reduceIte, tw_0, tw_1, tw_2, tw_3, tw_4, tw_5, tw_6, tw_7, tw_8, tw_9, tw_10, tw_11, tw_12, tw_13, tw_14, tw_15, tw_16, tw_17, tw_18, tw_19, tw_20, tw_21, tw_22, tw_23, tw_24, tw_25, tw_26, tw_27, tw_28, tw_29, tw_30, tw_31, ob_0, ob_1, ob_2, ob_3, ob_4, ob_5, ob_6, ob_7, ob_8, ob_9, ob_10, ob_11, ob_12, ob_13, ob_14, ob_15, ob_16, ob_17, ob_18, ob_19, ob_20, ob_21, ob_22, ob_23, ob_24, ob_25, ob_26, ob_27, ob_28, ob_29, ob_30, ob_31, ob_32, ob_33, ob_34, ob_35, ob_36, ob_37, ob_38, ob_39, ob_40, ob_41, ob_42, ob_43, ob_44, ob_45, ob_46, ob_47, ob_48, ob_49, ob_50, ob_51, ob_52, ob_53, ob_54, ob_55, ob_56, ob_57, ob_58, ob_59, ob_60, ob_61, ob_62, ob_63, ob_64, ob_65, jf7, aGi, aGb, aGz, aGj, leT, leF, ltT, ltF, eqT, eqF, r1, jj, tl, lo]
    · rw [if_neg hw]
      simp (disch := omega) only [jc_ref, rI_int, rR_ref, rR_null, rJ_long, ckR_ref, ckR_null, ckr_ref, ckr_null, ckW_int, ckW_ref, ckW_null, cI_ok, cR_ok, cR_null, cV_ok, cJ_ok, qH_eq, qD_in, aG_ref, aS_ref, aL_ref, pF_ref, cK_ref, cK_null, zI_lit, zJ_lit, zI_add, zI_sub, zI_mul, zI_neg, zI_eq, zI_lt, zI_le, Int.reduceLT, Int.reduceLE, Int.reduceAdd, Int.reduceSub, Int.reduceMul, Int.reduceNeg, Int.reduceEq, Int.reduceNe, reduceIte, tw_0, tw_1, tw_2, tw_3, tw_4, tw_5, tw_6, tw_7, tw_8, tw_9, tw_10, tw_11, tw_12, tw_13, tw_14, tw_15, tw_16, tw_17, tw_18, tw_19, tw_20, tw_21, tw_22, tw_23, tw_24, tw_25, tw_26, tw_27, tw_28, tw_29, tw_30, tw_31, ob_0, ob_1, ob_2, ob_3, ob_4, ob_5, ob_6, ob_7, ob_8, ob_9, ob_10, ob_11, ob_12, ob_13, ob_14, ob_15, ob_16, ob_17, ob_18, ob_19, ob_20, ob_21, ob_22, ob_23, ob_24, ob_25, ob_26, ob_27, ob_28, ob_29, ob_30, ob_31, ob_32, ob_33, ob_34, ob_35, ob_36, ob_37, ob_38, ob_39, ob_40, ob_41, ob_42, ob_43, ob_44, ob_45, ob_46, ob_47, ob_48, ob_49, ob_50, ob_51, ob_52, ob_53, ob_54, ob_55, ob_56, ob_57, ob_58, ob_59, ob_60, ob_61, ob_62, ob_63, ob_64, ob_65, jf7, aGi, aGb, aGz, aGj, leT, leF, ltT, ltF, eqT, eqF, r1, jj, tl]
/-- a transaction is committed, or not -/
def coQ (T : Nat → Int → Int) : Int × (Nat → Int → Int) :=
  let C := wcQ (ts (ts T 0 0 0) 0 26 0)
  if C.1 = 0 then (0, tg (kpQ (tvQ C.2)) 2 (clS (fset (T 2) 149 0))) else (C.1, tvQ C.2)
theorem tm_commit (W : StW (T 2)) (n0 : 0 ≤ T 0 44) (n1 : T 0 44 ≤ 8) : M (d + 7) 7016 [.ref m] (tw m T h) = some (.inl (some (.int (zI (coQ T).1))), tw m (coQ T).2 h) := by
  have e2 : ts (ts T 0 0 0) 0 26 0 2 = T 2 := by rw [ts_ne (by decide), ts_ne (by decide)]
  have wc := tm_whyC (d := d) (m := m) (h := h) (T := ts (ts T 0 0 0) 0 26 0) (by rw [e2]; exact W)
  have l9 := violS_le W (late := true)
  have f : ((wcQ (ts (ts T 0 0 0) 0 26 0)).1 = 0 ∨ (wcQ (ts (ts T 0 0 0) 0 26 0)).1 = 1 ∨ (wcQ (ts (ts T 0 0 0) 0 26 0)).1 = 2) ∧ (0 ≤ (wcQ (ts (ts T 0 0 0) 0 26 0)).2 0 26 ∧ (wcQ (ts (ts T 0 0 0) 0 26 0)).2 0 26 ≤ 960) ∧ (wcQ (ts (ts T 0 0 0) 0 26 0)).2 0 44 = T 0 44 ∧ (wcQ (ts (ts T 0 0 0) 0 26 0)).2 2 = T 2 := by
    unfold wcQ
    rw [e2]
    split
    · refine ⟨Or.inr (Or.inl rfl), ?_, ?_, e2⟩
      · show 0 ≤ ts (ts T 0 0 0) 0 26 0 0 26 ∧ ts (ts T 0 0 0) 0 26 0 0 26 ≤ 960
        rw [ts_eq, fset_eq]; omega
      · show ts (ts T 0 0 0) 0 26 0 0 44 = T 0 44
        rw [ts_eq, fset_ne (by decide), ts_eq, fset_ne (by decide)]
    · refine ⟨by simp only; split <;> omega, ?_, ?_, ?_⟩
      · have := (lay_vio (T := ts (ts T 0 0 0) 0 26 0) (V := violS (T 2) true)).1
        show 0 ≤ layL (ts (ts (ts T 0 0 0) 0 26 0) 0 26 0) (violS (T 2) true) 0 26 ∧ layL (ts (ts (ts T 0 0 0) 0 26 0) 0 26 0) (violS (T 2) true) 0 26 ≤ 960
        rw [this]; omega
      · show layL (ts (ts (ts T 0 0 0) 0 26 0) 0 26 0) (violS (T 2) true) 0 44 = T 0 44
        rw [lay_0 (by decide), ts_eq, fset_ne (by decide), ts_eq, fset_ne (by decide)]
      · show layL (ts (ts (ts T 0 0 0) 0 26 0) 0 26 0) (violS (T 2) true) 2 = T 2
        rw [layL_k (by decide), ts_ne (by decide), e2]
  rw [X7016 _ (tw_recv rfl), E7016_0]
  unfold coQ
  generalize hC : wcQ (ts (ts T 0 0 0) 0 26 0) = C at wc f
  rw [show ts (ts T 0 0 0) 0 26 0 = tg T 0 (fset (fset (T 0) 0 0) 26 0) by unfold ts; rw [tg_tg, tg_eq]] at wc
  obtain ⟨f1, f2, f3, f4⟩ := f
  have tv := tm_tellsV (d := d + 5) (m := m) (h := h) (T := C.2) f2.1 f2.2
  have tv : M (d + 6) 7126 [.ref m] (tw m C.2 h) = some (.inl none, tw m (tvQ C.2) h) := tv
  have v44 : tvQ C.2 0 44 = T 0 44 := by rw [tvQ_0, fset_ne (by decide)]; exact f3
  have ke := tm_keeps (d := d + 4) (m := m) (h := h) (T := tvQ C.2) (by omega) (by omega)
  have cm := tm_commits (d := d + 4) (m := m) (h := h) (T := kpQ (tvQ C.2))
  rw [kpQ_k (by decide) (by decide) (by decide), tvQ_k (by decide) (by decide) (by decide) (by decide), f4] at cm
  by_cases hz : C.1 = 0
  · rw [if_pos hz]
    rw [hz] at wc
    simp (disch := omega) only [jc_ref, rI_int, rR_ref, rR_null, rJ_long, ckR_ref, ckR_null, ckr_ref, ckr_null, ckW_int, ckW_ref, ckW_null, cI_ok, cR_ok, cR_null, cV_ok, cJ_ok, qH_eq, qD_in, aG_ref, aS_ref, aL_ref, pF_ref, cK_ref, cK_null, zI_lit, zJ_lit, zI_add, zI_sub, zI_mul, zI_neg, zI_eq, zI_lt, zI_le, Int.reduceLT, Int.reduceLE, Int.reduceAdd, Int.reduceSub, Int.reduceMul, Int.reduceNeg, Int.reduceEq, Int.reduceNe, reduceIte, tw_0, tw_1, tw_2, tw_3, tw_4, tw_5, tw_6, tw_7, tw_8, tw_9, tw_10, tw_11, tw_12, tw_13, tw_14, tw_15, tw_16, tw_17, tw_18, tw_19, tw_20, tw_21, tw_22, tw_23, tw_24, tw_25, tw_26, tw_27, tw_28, tw_29, tw_30, tw_31, ob_0, ob_1, ob_2, ob_3, ob_4, ob_5, ob_6, ob_7, ob_8, ob_9, ob_10, ob_11, ob_12, ob_13, ob_14, ob_15, ob_16, ob_17, ob_18, ob_19, ob_20, ob_21, ob_22, ob_23, ob_24, ob_25, ob_26, ob_27, ob_28, ob_29, ob_30, ob_31, ob_32, ob_33, ob_34, ob_35, ob_36, ob_37, ob_38, ob_39, ob_40, ob_41, ob_42, ob_43, ob_44, ob_45, ob_46, ob_47, ob_48, ob_49, ob_50, ob_51, ob_52, ob_53, ob_54, ob_55, ob_56, ob_57, ob_58, ob_59, ob_60, ob_61, ob_62, ob_63, ob_64, ob_65, jf7, aGi, aGb, aGz, aGj, leT, leF, ltT, ltF, eqT, eqF, tws_0, tws_1, tws_2, tws_3, tws_4, tws_5, tws_6, tws_7, tws_8, tws_9, tws_10, tws_11, tws_12, tws_13, tws_14, tws_15, tws_16, tws_17, tws_18, tws_19, tws_20, tws_21, tws_22, tws_23, tws_24, tws_25, tws_26, tws_27, tws_28, tws_29, tws_30, tws_31, obs_0, obs_2, obs_3, obs_4, obs_5, obs_12, obs_13, obs_14, obs_15, obs_16, obs_17, obs_18, obs_19, obs_20, obs_21, obs_22, obs_26, obs_31, obs_32, obs_33, obs_34, obs_35, obs_41, obs_42, obs_44, obs_48, obs_50, obs_51, obs_52, obs_55, obs_57, obs_58, obs_59, obs_60, obs_61, pF7i, pF7z, pF7j, aSi, aSj, aSb1, aSb24, aSb28, aSb31, ts, tg_eq, tg_ne, tg_tg, fset_eq, fset_ne, wc, tv, ke, cm]
  · rw [if_neg hz]
    simp (disch := omega) only [jc_ref, rI_int, rR_ref, rR_null, rJ_long, ckR_ref, ckR_null, ckr_ref, ckr_null, ckW_int, ckW_ref, ckW_null, cI_ok, cR_ok, cR_null, cV_ok, cJ_ok, qH_eq, qD_in, aG_ref, aS_ref, aL_ref, pF_ref, cK_ref, cK_null, zI_lit, zJ_lit, zI_add, zI_sub, zI_mul, zI_neg, zI_eq, zI_lt, zI_le, Int.reduceLT, Int.reduceLE, Int.reduceAdd, Int.reduceSub, Int.reduceMul, Int.reduceNeg, Int.reduceEq, Int.reduceNe, reduceIte, tw_0, tw_1, tw_2, tw_3, tw_4, tw_5, tw_6, tw_7, tw_8, tw_9, tw_10, tw_11, tw_12, tw_13, tw_14, tw_15, tw_16, tw_17, tw_18, tw_19, tw_20, tw_21, tw_22, tw_23, tw_24, tw_25, tw_26, tw_27, tw_28, tw_29, tw_30, tw_31, ob_0, ob_1, ob_2, ob_3, ob_4, ob_5, ob_6, ob_7, ob_8, ob_9, ob_10, ob_11, ob_12, ob_13, ob_14, ob_15, ob_16, ob_17, ob_18, ob_19, ob_20, ob_21, ob_22, ob_23, ob_24, ob_25, ob_26, ob_27, ob_28, ob_29, ob_30, ob_31, ob_32, ob_33, ob_34, ob_35, ob_36, ob_37, ob_38, ob_39, ob_40, ob_41, ob_42, ob_43, ob_44, ob_45, ob_46, ob_47, ob_48, ob_49, ob_50, ob_51, ob_52, ob_53, ob_54, ob_55, ob_56, ob_57, ob_58, ob_59, ob_60, ob_61, ob_62, ob_63, ob_64, ob_65, jf7, aGi, aGb, aGz, aGj, leT, leF, ltT, ltF, eqT, eqF, tws_0, tws_1, tws_2, tws_3, tws_4, tws_5, tws_6, tws_7, tws_8, tws_9, tws_10, tws_11, tws_12, tws_13, tws_14, tws_15, tws_16, tws_17, tws_18, tws_19, tws_20, tws_21, tws_22, tws_23, tws_24, tws_25, tws_26, tws_27, tws_28, tws_29, tws_30, tws_31, obs_0, obs_2, obs_3, obs_4, obs_5, obs_12, obs_13, obs_14, obs_15, obs_16, obs_17, obs_18, obs_19, obs_20, obs_21, obs_22, obs_26, obs_31, obs_32, obs_33, obs_34, obs_35, obs_41, obs_42, obs_44, obs_48, obs_50, obs_51, obs_52, obs_55, obs_57, obs_58, obs_59, obs_60, obs_61, pF7i, pF7z, pF7j, aSi, aSj, aSb1, aSb24, aSb28, aSb31, ts, tg_eq, tg_ne, tg_tg, fset_eq, fset_ne, wc, tv]
end
