/-! the twin draws deeds -/
section
variable {d m : Nat} {h : AH} {T : Nat → Int → Int}
theorem drL_k {k : Nat} (h0 : k ≠ 0) (h5 : k ≠ 5) : ∀ (j : Nat) (c : Int) (T : Nat → Int → Int), drL j c T k = T k
  | 0, _, _ => rfl
  | j + 1, c, T => by
    unfold drL
    rw [drL_k h0 h5 j, tg_ne h5, dwQ_k h0]
theorem drL_0 {i : Int} (h : i ≠ 51) : ∀ (j : Nat) (c : Int) (T : Nat → Int → Int), drL j c T 0 i = T 0 i
  | 0, _, _ => rfl
  | j + 1, c, T => by
    unfold drL
    rw [drL_0 h j, tg_ne (by decide)]
    unfold dwQ
    rw [ts_eq, fset_ne h]
theorem drL_5 : ∀ (j : Nat) (c : Int) (T : Nat → Int → Int), (∀ i, i < 3 + c ∨ 3 + c + j ≤ i → drL j c T 5 i = T 5 i) ∧ ∀ i, 3 + c ≤ i → i < 3 + c + j → -1 ≤ drL j c T 5 i ∧ drL j c T 5 i ≤ 99
  | 0, c, T => ⟨fun _ _ => rfl, fun i h1 h2 => by omega⟩
  | j + 1, c, T => by
    have rg := drV_rg (s := T 0 51) (n := 5) (by decide)
    obtain ⟨a, b⟩ := drL_5 j (c + 1) (tg (dwQ T) 5 (fset (dwQ T 5) (3 + c) (if drV (T 0 51) 5 = 4 then -1 else drV (T 0 51) 5)))
    rw [tg_eq, dwQ_k (show (5 : Nat) ≠ 0 by decide)] at a
    unfold drL
    refine ⟨fun i hi => ?_, fun i h1 h2 => ?_⟩
    · rw [dwQ_k (show (5 : Nat) ≠ 0 by decide), a i (by omega), fset_ne (by omega)]
    · by_cases e : i = 3 + c
      · rw [dwQ_k (show (5 : Nat) ≠ 0 by decide), a i (by omega), e, fset_eq]
        split <;> omega
      · exact b i (by omega) (by omega)
theorem drQ_k {what t : Int} {k : Nat} (h0 : k ≠ 0) (h5 : k ≠ 5) : drQ T what t k = T k := by
  unfold drQ
  split
  · split
    · unfold drB drX drA
      rw [tg_ne h5, dwQ_k h0, tg_ne h5, dwQ_k h0, tg_ne h5]
    · unfold drC drB drX drA
      rw [tg_ne h5, dwQ_k h0, tg_ne h5, tg_ne h5, dwQ_k h0, tg_ne h5, dwQ_k h0, tg_ne h5]
  · rw [drL_k h0 h5]
    unfold drA
    rw [tg_ne h5]
theorem drQ_0 {what t : Int} {i : Int} (h : i ≠ 51) : drQ T what t 0 i = T 0 i := by
  have dw : ∀ X : Nat → Int → Int, dwQ X 0 i = X 0 i := fun X => by unfold dwQ; rw [ts_eq, fset_ne h]
  unfold drQ
  split
  · split
    · unfold drB drX drA
      rw [tg_ne (by decide), dw, tg_ne (by decide), dw, tg_ne (by decide)]
    · unfold drC drB drX drA
      rw [tg_ne (by decide), dw, tg_ne (by decide), tg_ne (by decide), dw, tg_ne (by decide), dw, tg_ne (by decide)]
  · rw [drL_0 h]
    unfold drA
    rw [tg_ne (by decide)]
theorem drQ_L {what t : Int} (W : StW (T 2)) (w0 : 0 ≤ what) (w4 : what ≤ 4) (t0 : 0 ≤ t) (t1 : t < T 2 0) (hn : 1 ≤ T 2 (4 + t)) : LnW (T 2) (drQ T what t 5) 0 := by
  have N := W.n0
  have CO := W.co t0 (by omega)
  have r1 := drV_rg (s := T 0 51) (n := T 2 (4 + t)) (by omega)
  have r2 := drV_rg (s := drN (T 0 51)) (n := 4) (by decide)
  have r3 := drV_rg (s := drN (drN (T 0 51))) (n := 4) (by decide)
  have dw : ∀ X : Nat → Int → Int, dwQ X 5 = X 5 := fun X => dwQ_k (by decide)
  unfold drQ
  by_cases c : 3 ≤ what
  · rw [if_pos c]
    by_cases c3 : what = 3
    · rw [if_pos c3]
      have e : ∀ i, drB (drA T what t) (drV (T 0 51) (T 2 (4 + t))) (drV (drN (T 0 51)) 4) 5 i = if i = 10 then drV (drN (T 0 51)) 4 else if i = 9 then 61 else if i = 8 then drV (T 0 51) (T 2 (4 + t)) else if i = 7 then 1 else if i = 0 then 1 else if i = 2 then 0 else if i = 1 then t else T 5 i := fun i => by
        unfold drB drX drA
        rw [tg_eq, dw, tg_eq, dw, tg_eq, if_pos c]
        simp only [fset_at, c3]
        (repeat' split) <;> omega
      refine ⟨?_, ?_, fun z => ?_, fun _ => ⟨⟨?_, fun k k0 k1 => ?_⟩, ⟨?_, fun k k0 k1 => ?_⟩⟩⟩
      · rw [e]; simp
      · rw [e]; simp; omega
      · rw [e] at z; simp at z
      · rw [e]; simp
      · have k' : k = 0 := by rw [e] at k1; simp at k1; omega
        subst k'
        simp [e]
        omega
      · rw [e]; simp
      · rw [e] at k1; simp at k1; omega
    · rw [if_neg c3]
      have e : ∀ i, drC (drB (drA T what t) (drV (T 0 51) (T 2 (4 + t))) (drV (drN (T 0 51)) 4)) (drV (T 0 51) (T 2 (4 + t))) (drV (drN (drN (T 0 51))) 4) 5 i = if i = 4 then drV (drN (drN (T 0 51))) 4 else if i = 3 then drV (T 0 51) (T 2 (4 + t)) else if i = 2 then 1 else if i = 10 then drV (drN (T 0 51)) 4 else if i = 9 then 61 else if i = 8 then drV (T 0 51) (T 2 (4 + t)) else if i = 7 then 1 else if i = 0 then 2 else if i = 1 then t else T 5 i := fun i => by
        have c4 : what = 4 := by omega
        unfold drC drB drX drA
        rw [tg_eq, dw, tg_eq, tg_eq, dw, tg_eq, dw, tg_eq, if_pos c]
        simp only [fset_at, c4]
        (repeat' split) <;> omega
      refine ⟨?_, ?_, fun z => ?_, fun _ => ⟨⟨?_, fun k k0 k1 => ?_⟩, ⟨?_, fun k k0 k1 => ?_⟩⟩⟩
      · rw [e]; simp
      · rw [e]; simp; omega
      · rw [e] at z; simp at z
      · rw [e]; simp
      · have k' : k = 0 := by rw [e] at k1; simp at k1; omega
        subst k'
        simp [e]
        omega
      · rw [e]; simp
      · have k' : k = 0 := by rw [e] at k1; simp at k1; omega
        subst k'
        simp [e]
        omega
  · rw [if_neg c]
    obtain ⟨a, b⟩ := drL_5 (T 2 (4 + t)).toNat 0 (drA T what t)
    have e : ∀ i, drA T what t 5 i = if i = 0 then 0 else if i = 7 then 0 else if i = 2 then 0 else if i = 1 then t else T 5 i := fun i => by
      unfold drA
      rw [tg_eq, if_neg c]
      simp only [fset_at]
    have e0 : drL (T 2 (4 + t)).toNat 0 (drA T what t) 5 0 = 0 := by rw [a 0 (by omega), e]; simp
    have e1 : drL (T 2 (4 + t)).toNat 0 (drA T what t) 5 (0 + 1) = t := by rw [a _ (by omega), e]; simp
    refine ⟨by rw [e0]; omega, by rw [e1]; omega, fun _ => ⟨by rw [e1]; omega, fun k k0 k1 => ?_⟩, fun z => absurd e0 z⟩
    rw [e1] at k1
    exact b _ (by omega) (by omega)
/-- a deed is drawn: whether it is done -/
def ddQ (T : Nat → Int → Int) : Int × (Nat → Int → Int) :=
  let A := dwQ (dwQ T)
  let what := drV (T 0 51) 6
  let t := drV (drN (T 0 51)) (T 2 0)
  if 5 ≤ what then (if T 2 149 = 0 then (1, tg A 2 (bgS (A 2))) else if (wcQ A).1 = 0 then (1, tg (wcQ A).2 2 (clS (fset ((wcQ A).2 2) 149 0))) else (1, tg (wcQ A).2 2 (bkS ((wcQ A).2 2))))
  else (if (judT (drQ A what t) 0).1 = 0 then 1 else 0, (judT (drQ A what t) 0).2)
/-- what draws need of T -/
def DrI (T : Nat → Int → Int) : Prop := StW (T 2) ∧ AhW (T 12) ∧ (T 0 35 = 0 ∨ T 0 35 = 1) ∧ 1 ≤ T 2 0
theorem tm_drawDeed (I : DrI T) : M (d + 7) 7022 [.ref m] (tw m T h) = some (.inl (some (.int (zI (ddQ T).1))), tw m (ddQ T).2 h) := by
  obtain ⟨W, hA, h35, s0⟩ := id I
  have N := W.n0
  have hon := W.2.2.2.2.2.1
  have r1 := drV_rg (s := T 0 51) (n := 6) (by decide)
  have r2 := drV_rg (s := drN (T 0 51)) (n := T 2 0) (by omega)
  have d1 := tm_drw (d := d + 5) (m := m) (h := h) (T := T) (n := 6) rfl (by decide) (by decide)
  have d2 := tm_drw (d := d + 5) (m := m) (h := h) (T := dwQ T) (n := T 2 0) dwQ_51 (by omega) (by omega)
  have A2 : dwQ (dwQ T) 2 = T 2 := rfl
  have B2 : dwQ T 2 = T 2 := rfl
  rw [X7022 _ (tw_recv rfl), E7022_0]
  unfold ddQ
  simp only
  by_cases c : 5 ≤ drV (T 0 51) 6
  · rw [if_pos c]
    rcases hon with e | e
    · have be := tm_begins (d := d + 5) (m := m) (h := h) (T := dwQ (dwQ T))
      rw [if_pos e]
      simp (disch := omega) only [jc_ref, rI_int, rR_ref, rR_null, rJ_long, ckR_ref, ckR_null, ckr_ref, ckr_null, ckW_int, ckW_ref, ckW_null, cI_ok, cR_ok, cR_null, cV_ok, cJ_ok, qH_eq, qD_in, aG_ref, aS_ref, aL_ref, pF_ref, cK_ref, cK_null, zI_lit, zJ_lit, zI_add, zI_sub, zI_mul, zI_neg, zI_eq, zI_lt, zI_le, Int.reduceLT, Int.reduceLE, Int.reduceAdd, Int.reduceSub, Int.reduceMul, Int.reduceNeg, Int.reduceEq, Int.reduceNe, reduceIte, tw_0, tw_1, tw_2, tw_3, tw_4, tw_5, tw_6, tw_7, tw_8, tw_9, tw_10, tw_11, tw_12, tw_13, tw_14, tw_15, tw_16, tw_17, tw_18, tw_19, tw_20, tw_21, tw_22, tw_23, tw_24, tw_25, tw_26, tw_27, tw_28, tw_29, tw_30, tw_31, ob_0, ob_1, ob_2, ob_3, ob_4, ob_5, ob_6, ob_7, ob_8, ob_9, ob_10, ob_11, ob_12, ob_13, ob_14, ob_15, ob_16, ob_17, ob_18, ob_19, ob_20, ob_21, ob_22, ob_23, ob_24, ob_25, ob_26, ob_27, ob_28, ob_29, ob_30, ob_31, ob_32, ob_33, ob_34, ob_35, ob_36, ob_37, ob_38, ob_39, ob_40, ob_41, ob_42, ob_43, ob_44, ob_45, ob_46, ob_47, ob_48, ob_49, ob_50, ob_51, ob_52, ob_53, ob_54, ob_55, ob_56, ob_57, ob_58, ob_59, ob_60, ob_61, ob_62, ob_63, ob_64, ob_65, jf7, aGi, aGb, aGz, aGj, leT, leF, ltT, ltF, eqT, eqF, d1, d2, A2, B2, c, e, be]
    · have wc := tm_whyC (d := d) (m := m) (h := h) (T := dwQ (dwQ T)) W
      have f : (wcQ (dwQ (dwQ T))).1 = 0 ∨ (wcQ (dwQ (dwQ T))).1 = 1 ∨ (wcQ (dwQ (dwQ T))).1 = 2 := by unfold wcQ; split; exact Or.inr (Or.inl rfl); simp only; split <;> omega
      have cm := tm_commits (d := d + 4) (m := m) (h := h) (T := (wcQ (dwQ (dwQ T))).2)
      have bk := tm_backs (d := d + 4) (m := m) (h := h) (T := (wcQ (dwQ (dwQ T))).2)
      rw [if_neg (by omega)]
      generalize wcQ (dwQ (dwQ T)) = C at wc f cm bk ⊢
      by_cases z : C.1 = 0
      · rw [if_pos z]
        rw [z] at wc
        simp (disch := omega) only [jc_ref, rI_int, rR_ref, rR_null, rJ_long, ckR_ref, ckR_null, ckr_ref, ckr_null, ckW_int, ckW_ref, ckW_null, cI_ok, cR_ok, cR_null, cV_ok, cJ_ok, qH_eq, qD_in, aG_ref, aS_ref, aL_ref, pF_ref, cK_ref, cK_null, zI_lit, zJ_lit, zI_add, zI_sub, zI_mul, zI_neg, zI_eq, zI_lt, zI_le, Int.reduceLT, Int.reduceLE, Int.reduceAdd, Int.reduceSub, Int.reduceMul, Int.reduceNeg, Int.reduceEq, Int.reduceNe, reduceIte, tw_0, tw_1, tw_2, tw_3, tw_4, tw_5, tw_6, tw_7, tw_8, tw_9, tw_10, tw_11, tw_12, tw_13, tw_14, tw_15, tw_16, tw_17, tw_18, tw_19, tw_20, tw_21, tw_22, tw_23, tw_24, tw_25, tw_26, tw_27, tw_28, tw_29, tw_30, tw_31, ob_0, ob_1, ob_2, ob_3, ob_4, ob_5, ob_6, ob_7, ob_8, ob_9, ob_10, ob_11, ob_12, ob_13, ob_14, ob_15, ob_16, ob_17, ob_18, ob_19, ob_20, ob_21, ob_22, ob_23, ob_24, ob_25, ob_26, ob_27, ob_28, ob_29, ob_30, ob_31, ob_32, ob_33, ob_34, ob_35, ob_36, ob_37, ob_38, ob_39, ob_40, ob_41, ob_42, ob_43, ob_44, ob_45, ob_46, ob_47, ob_48, ob_49, ob_50, ob_51, ob_52, ob_53, ob_54, ob_55, ob_56, ob_57, ob_58, ob_59, ob_60, ob_61, ob_62, ob_63, ob_64, ob_65, jf7, aGi, aGb, aGz, aGj, leT, leF, ltT, ltF, eqT, eqF, d1, d2, A2, B2, c, e, wc, cm]
      · rw [if_neg z]
        simp (disch := omega) only [jc_ref, rI_int, rR_ref, rR_null, rJ_long, ckR_ref, ckR_null, ckr_ref, ckr_null, ckW_int, ckW_ref, ckW_null, cI_ok, cR_ok, cR_null, cV_ok, cJ_ok, qH_eq, qD_in, aG_ref, aS_ref, aL_ref, pF_ref, cK_ref, cK_null, zI_lit, zJ_lit, zI_add, zI_sub, zI_mul, zI_neg, zI_eq, zI_lt, zI_le, Int.reduceLT, Int.reduceLE, Int.reduceAdd, Int.reduceSub, Int.reduceMul, Int.reduceNeg, Int.reduceEq, Int.reduceNe, reduceIte, tw_0, tw_1, tw_2, tw_3, tw_4, tw_5, tw_6, tw_7, tw_8, tw_9, tw_10, tw_11, tw_12, tw_13, tw_14, tw_15, tw_16, tw_17, tw_18, tw_19, tw_20, tw_21, tw_22, tw_23, tw_24, tw_25, tw_26, tw_27, tw_28, tw_29, tw_30, tw_31, ob_0, ob_1, ob_2, ob_3, ob_4, ob_5, ob_6, ob_7, ob_8, ob_9, ob_10, ob_11, ob_12, ob_13, ob_14, ob_15, ob_16, ob_17, ob_18, ob_19, ob_20, ob_21, ob_22, ob_23, ob_24, ob_25, ob_26, ob_27, ob_28, ob_29, ob_30, ob_31, ob_32, ob_33, ob_34, ob_35, ob_36, ob_37, ob_38, ob_39, ob_40, ob_41, ob_42, ob_43, ob_44, ob_45, ob_46, ob_47, ob_48, ob_49, ob_50, ob_51, ob_52, ob_53, ob_54, ob_55, ob_56, ob_57, ob_58, ob_59, ob_60, ob_61, ob_62, ob_63, ob_64, ob_65, jf7, aGi, aGb, aGz, aGj, leT, leF, ltT, ltF, eqT, eqF, d1, d2, A2, B2, c, e, wc, bk, z]
  · have h1 := W.1.2.1 _ r2.1 r2.2
    have CO := W.co r2.1 (by omega)
    have l := tm_drawsLine (d := d + 4) (m := m) (h := h) (T := dwQ (dwQ T)) (what := drV (T 0 51) 6) (t := drV (drN (T 0 51)) (T 2 0)) r1.1 (by omega) r2.1 (by omega) ⟨h1, CO.2⟩
    have L := drQ_L (T := dwQ (dwQ T)) (what := drV (T 0 51) 6) (t := drV (drN (T 0 51)) (T 2 0)) W r1.1 (by omega) r2.1 r2.2 h1
    have q2 : drQ (dwQ (dwQ T)) (drV (T 0 51) 6) (drV (drN (T 0 51)) (T 2 0)) 2 = T 2 := drQ_k (by decide) (by decide)
    have jj := tm_judges (d := d) (m := m) (h := h) (T := drQ (dwQ (dwQ T)) (drV (T 0 51) 6) (drV (drN (T 0 51)) (T 2 0))) (to := 0) (by rw [q2]; exact W) (by rw [drQ_k (by decide) (by decide)]; exact hA) (by rw [q2]; exact L) (by rw [drQ_0 (by decide)]; exact h35) (by decide) (by decide)
    have jw := judT_W (T := drQ (dwQ (dwQ T)) (drV (T 0 51) 6) (drV (drN (T 0 51)) (T 2 0))) (to := 0) (by rw [q2]; exact W) (by rw [drQ_k (by decide) (by decide)]; exact hA) (by rw [q2]; exact L) (by rw [drQ_0 (by decide)]; exact h35)
    rw [if_neg c]
    have jr := jw.1
    generalize judT (drQ (dwQ (dwQ T)) (drV (T 0 51) 6) (drV (drN (T 0 51)) (T 2 0))) 0 = J at jj jr ⊢
    by_cases z : J.1 = 0
    · rw [if_pos z]
      rw [z] at jj
      simp (disch := omega) only [jc_ref, rI_int, rR_ref, rR_null, rJ_long, ckR_ref, ckR_null, ckr_ref, ckr_null, ckW_int, ckW_ref, ckW_null, cI_ok, cR_ok, cR_null, cV_ok, cJ_ok, qH_eq, qD_in, aG_ref, aS_ref, aL_ref, pF_ref, cK_ref, cK_null, zI_lit, zJ_lit, zI_add, zI_sub, zI_mul, zI_neg, zI_eq, zI_lt, zI_le, Int.reduceLT, Int.reduceLE, Int.reduceAdd, Int.reduceSub, Int.reduceMul, Int.reduceNeg, Int.reduceEq, Int.reduceNe, reduceIte, tw_0, tw_1, tw_2, tw_3, tw_4, tw_5, tw_6, tw_7, tw_8, tw_9, tw_10, tw_11, tw_12, tw_13, tw_14, tw_15, tw_16, tw_17, tw_18, tw_19, tw_20, tw_21, tw_22, tw_23, tw_24, tw_25, tw_26, tw_27, tw_28, tw_29, tw_30, tw_31, ob_0, ob_1, ob_2, ob_3, ob_4, ob_5, ob_6, ob_7, ob_8, ob_9, ob_10, ob_11, ob_12, ob_13, ob_14, ob_15, ob_16, ob_17, ob_18, ob_19, ob_20, ob_21, ob_22, ob_23, ob_24, ob_25, ob_26, ob_27, ob_28, ob_29, ob_30, ob_31, ob_32, ob_33, ob_34, ob_35, ob_36, ob_37, ob_38, ob_39, ob_40, ob_41, ob_42, ob_43, ob_44, ob_45, ob_46, ob_47, ob_48, ob_49, ob_50, ob_51, ob_52, ob_53, ob_54, ob_55, ob_56, ob_57, ob_58, ob_59, ob_60, ob_61, ob_62, ob_63, ob_64, ob_65, jf7, aGi, aGb, aGz, aGj, leT, leF, ltT, ltF, eqT, eqF, d1, d2, A2, B2, c, l, jj]
    · rw [if_neg z]
      simp (disch := omega) only [jc_ref, rI_int, rR_ref, rR_null, rJ_long, ckR_ref, ckR_null, ckr_ref, ckr_null, ckW_int, ckW_ref, ckW_null, cI_ok, cR_ok, cR_null, cV_ok, cJ_ok, qH_eq, qD_in, aG_ref, aS_ref, aL_ref, pF_ref, cK_ref, cK_null, zI_lit, zJ_lit, zI_add, zI_sub, zI_mul, zI_neg, zI_eq, zI_lt, zI_le, Int.reduceLT, Int.reduceLE, Int.reduceAdd, Int.reduceSub, Int.reduceMul, Int.reduceNeg, Int.reduceEq, Int.reduceNe, reduceIte, tw_0, tw_1, tw_2, tw_3, tw_4, tw_5, tw_6, tw_7, tw_8, tw_9, tw_10, tw_11, tw_12, tw_13, tw_14, tw_15, tw_16, tw_17, tw_18, tw_19, tw_20, tw_21, tw_22, tw_23, tw_24, tw_25, tw_26, tw_27, tw_28, tw_29, tw_30, tw_31, ob_0, ob_1, ob_2, ob_3, ob_4, ob_5, ob_6, ob_7, ob_8, ob_9, ob_10, ob_11, ob_12, ob_13, ob_14, ob_15, ob_16, ob_17, ob_18, ob_19, ob_20, ob_21, ob_22, ob_23, ob_24, ob_25, ob_26, ob_27, ob_28, ob_29, ob_30, ob_31, ob_32, ob_33, ob_34, ob_35, ob_36, ob_37, ob_38, ob_39, ob_40, ob_41, ob_42, ob_43, ob_44, ob_45, ob_46, ob_47, ob_48, ob_49, ob_50, ob_51, ob_52, ob_53, ob_54, ob_55, ob_56, ob_57, ob_58, ob_59, ob_60, ob_61, ob_62, ob_63, ob_64, ob_65, jf7, aGi, aGb, aGz, aGj, leT, leF, ltT, ltF, eqT, eqF, d1, d2, A2, B2, c, l, jj, z]
end
