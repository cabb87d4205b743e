/-! the twin does a book -/
section
variable {d m : Nat} {h : AH} {T : Nat → Int → Int}
/-- what doing a line needs, and keeps -/
def BkI (T : Nat → Int → Int) : Prop := StW (T 2) ∧ AhW (T 12) ∧ (T 0 35 = 0 ∨ T 0 35 = 1)
theorem deQ_I {to : Int} (I : BkI T) (hk : 0 ≤ T 5 to ∧ T 5 to ≤ 5) (L : T 5 to < 3 → LnW (T 2) (T 5) to) : BkI (deQ T to).2 ∧ DeF T (deQ T to).2 ∧ (deQ T to).2 5 = T 5 ∧ 0 ≤ (deQ T to).1 ∧ (deQ T to).1 ≤ 40 := by
  obtain ⟨W, hA, h35⟩ := id I
  have N := W.n0
  unfold deQ
  by_cases c : T 5 to < 3
  · rw [if_pos c]
    have jw := judT_W (to := to) W hA (L c) h35
    exact ⟨⟨jw.2.2.2.1, jw.2.2.2.2.2.2.2.2.2.2.2.2.2, jw.2.2.2.2.2.2.2.2.2.2.2.1⟩, DeF.jd (to := to) jw, jw.2.1 5 (by decide) (by decide) (by decide) (by decide) (by decide) (by decide) (by decide) (by decide) (by decide), jw.1.1, by have := jw.1.2; omega⟩
  · rw [if_neg c]
    by_cases c3 : T 5 to = 3
    · rw [if_pos c3]
      by_cases e : T 2 149 = 0
      · rw [if_pos e]
        refine ⟨⟨?_, hA, ?_⟩, DeF.st fun i hi => bg_lo hi, rfl, Int.le_refl _, by show (0 : Int) ≤ 40; omega⟩
        · show StW (tg T 2 (bgS (T 2)) 2)
          rw [tg_eq]; exact W.bg
        · show tg T 2 (bgS (T 2)) 0 35 = 0 ∨ tg T 2 (bgS (T 2)) 0 35 = 1
          rw [tg_ne (by decide)]; exact h35
      · rw [if_neg e]
        exact ⟨I, DeF.refl, rfl, by show (0 : Int) ≤ 11; omega, by show (11 : Int) ≤ 40; omega⟩
    · rw [if_neg c3]
      by_cases c4 : T 5 to = 4
      · rw [if_pos c4]
        have C2 : (wcQ T).2 2 = T 2 := wcQ_k (by decide) (by decide) (by decide) (by decide)
        have C5 : (wcQ T).2 5 = T 5 := wcQ_k (by decide) (by decide) (by decide) (by decide)
        have C12 : (wcQ T).2 12 = T 12 := wcQ_k (by decide) (by decide) (by decide) (by decide)
        have C35 : (wcQ T).2 0 35 = T 0 35 := wcQ_0 (by decide)
        have dC : DeF T (wcQ T).2 := DeF.wc
        have f : (wcQ T).1 = 0 ∨ (wcQ T).1 = 1 ∨ (wcQ T).1 = 2 := by unfold wcQ; split; exact Or.inr (Or.inl rfl); simp only; split <;> omega
        generalize wcQ T = C at C2 C5 C12 C35 dC f ⊢
        by_cases z : C.1 = 0
        · rw [if_pos z]
          refine ⟨⟨?_, ?_, ?_⟩, dC.tr (DeF.st fun i hi => cl_lo hi), ?_, Int.le_refl _, by show (0 : Int) ≤ 40; omega⟩
          · show StW (tg C.2 2 (clS (fset (C.2 2) 149 0)) 2)
            rw [tg_eq, C2]; exact W.co0
          · show AhW (tg C.2 2 (clS (fset (C.2 2) 149 0)) 12)
            rw [tg_ne (by decide), C12]; exact hA
          · show tg C.2 2 (clS (fset (C.2 2) 149 0)) 0 35 = 0 ∨ tg C.2 2 (clS (fset (C.2 2) 149 0)) 0 35 = 1
            rw [tg_ne (by decide), C35]; exact h35
          · show tg C.2 2 (clS (fset (C.2 2) 149 0)) 5 = T 5
            rw [tg_ne (by decide), C5]
        · rw [if_neg z]
          refine ⟨⟨?_, ?_, ?_⟩, dC, C5, by show 0 ≤ C.1 + 20; omega, by show C.1 + 20 ≤ 40; omega⟩
          · show StW (C.2 2)
            rw [C2]; exact W
          · show AhW (C.2 12)
            rw [C12]; exact hA
          · show C.2 0 35 = 0 ∨ C.2 0 35 = 1
            rw [C35]; exact h35
      · rw [if_neg c4]
        by_cases e : T 2 149 = 1
        · rw [if_pos e]
          refine ⟨⟨?_, hA, ?_⟩, DeF.st fun i hi => bk_lo hi, rfl, Int.le_refl _, by show (0 : Int) ≤ 40; omega⟩
          · show StW (tg T 2 (bkS (T 2)) 2)
            rw [tg_eq]; exact W.bk
          · show tg T 2 (bkS (T 2)) 0 35 = 0 ∨ tg T 2 (bkS (T 2)) 0 35 = 1
            rw [tg_ne (by decide)]; exact h35
        · rw [if_neg e]
          exact ⟨I, DeF.refl, rfl, by show (0 : Int) ≤ 31; omega, by show (31 : Int) ≤ 40; omega⟩
/-- a line is done: what is told of it -/
def dlQ (T : Nat → Int → Int) (i : Int) : Nat → Int → Int := ts (deQ T (20 * i)).2 25 0 (deQ T (20 * i)).1
/-- lines are done, from the i-th on, till one can't be: which -/
def doL : Nat → Int → (Nat → Int → Int) → Int × (Nat → Int → Int)
  | 0, _, T => (-1, T)
  | j + 1, i, T => if (deQ T (20 * i)).1 ≤ 0 then doL j (i + 1) (ts (dlQ T i) 25 1 (i + 1)) else (i, dlQ T i)
theorem dlQ_I {i : Int} (I : BkI T) (hk : 0 ≤ T 5 (20 * i) ∧ T 5 (20 * i) ≤ 5) (L : T 5 (20 * i) < 3 → LnW (T 2) (T 5) (20 * i)) : BkI (dlQ T i) ∧ (∀ k, k ≠ 0 → k ≠ 2 → k ≠ 8 → k ≠ 9 → k ≠ 10 → k ≠ 11 → k ≠ 12 → k ≠ 13 → k ≠ 14 → k ≠ 25 → dlQ T i k = T k) ∧ (∀ x, x ≠ 26 → x ≠ 31 → x ≠ 32 → x ≠ 33 → x ≠ 34 → x ≠ 35 → x ≠ 51 → dlQ T i 0 x = T 0 x) ∧ (∀ x, x < 148 ∨ 1239 ≤ x → dlQ T i 2 x = T 2 x) ∧ dlQ T i 25 1 = T 25 1 ∧ dlQ T i 25 0 = (deQ T (20 * i)).1 := by
  obtain ⟨a, b, c, -⟩ := deQ_I I hk L
  unfold dlQ
  generalize deQ T (20 * i) = D at a b c ⊢
  refine ⟨a, fun k h0 h2 h8 h9 h10 h11 h12 h13 h14 h25 => ?_, fun x h1 h2 h3 h4 h5 h6 h7 => ?_, fun x hx => ?_, ?_, ?_⟩
  · rw [ts_ne h25]
    by_cases h5 : k = 5
    · rw [h5]; exact c
    · exact b.1 k h0 h2 h5 h8 h9 h10 h11 h12 h13 h14
  · rw [ts_ne (by decide)]; exact b.2.1 x h1 h2 h3 h4 h5 h6 h7
  · rw [ts_ne (by decide)]; exact b.2.2 x hx
  · rw [ts_eq, fset_ne (by decide), b.1 25 (by decide) (by decide) (by decide) (by decide) (by decide) (by decide) (by decide) (by decide) (by decide) (by decide)]
  · rw [ts_eq, fset_eq]
/-- what doing a book leaves as it is -/
def BoF (T X : Nat → Int → Int) : Prop := (∀ k, k ≠ 0 → k ≠ 2 → k ≠ 8 → k ≠ 9 → k ≠ 10 → k ≠ 11 → k ≠ 12 → k ≠ 13 → k ≠ 14 → k ≠ 25 → X k = T k) ∧ (∀ x, x ≠ 26 → x ≠ 31 → x ≠ 32 → x ≠ 33 → x ≠ 34 → x ≠ 35 → x ≠ 51 → X 0 x = T 0 x) ∧ (∀ x, x < 148 ∨ 1239 ≤ x → X 2 x = T 2 x)
theorem BoF.rf : BoF T T := ⟨fun _ _ _ _ _ _ _ _ _ _ _ => rfl, fun _ _ _ _ _ _ _ _ => rfl, fun _ _ => rfl⟩
theorem BoF.tr {X Y : Nat → Int → Int} (a : BoF T X) (b : BoF X Y) : BoF T Y := ⟨fun k h0 h2 h8 h9 h10 h11 h12 h13 h14 h25 => (b.1 k h0 h2 h8 h9 h10 h11 h12 h13 h14 h25).trans (a.1 k h0 h2 h8 h9 h10 h11 h12 h13 h14 h25), fun i h1 h2 h3 h4 h5 h6 h7 => (b.2.1 i h1 h2 h3 h4 h5 h6 h7).trans (a.2.1 i h1 h2 h3 h4 h5 h6 h7), fun i hi => (b.2.2 i hi).trans (a.2.2 i hi)⟩
theorem BoF.t25 {i v : Int} : BoF T (ts T 25 i v) := ⟨fun k _ _ _ _ _ _ _ _ _ h25 => ts_ne h25, fun x _ _ _ _ _ _ _ => by rw [ts_ne (by decide)], fun x _ => by rw [ts_ne (by decide)]⟩
theorem dlQ_F {i : Int} (I : BkI T) (hk : 0 ≤ T 5 (20 * i) ∧ T 5 (20 * i) ≤ 5) (L : T 5 (20 * i) < 3 → LnW (T 2) (T 5) (20 * i)) : BoF T (dlQ T i) := by
  obtain ⟨-, a, b, c, -⟩ := dlQ_I I hk L
  exact ⟨a, b, c⟩
theorem LkW.bo {T X : Nat → Int → Int} {n : Int} (W : StW (T 2)) (h : LkW (T 2) (T 5) n) (f : BoF T X) : LkW (X 2) (X 5) n := by
  rw [f.1 5 (by decide) (by decide) (by decide) (by decide) (by decide) (by decide) (by decide) (by decide) (by decide) (by decide)]
  exact h.cg W.sc (fun _ _ _ => rfl) fun i i0 i1 => f.2.2 i (Or.inl (by omega))
theorem BkI.t25 {i v : Int} (h : BkI T) : BkI (ts T 25 i v) := h
/-- the lines' end: told, kept, or brought back -/
def boE (li : Int) (T : Nat → Int → Int) : Nat → Int → Int :=
  let X := ts (ts (layL (ts (ts T 25 2 (cntA (T 2) 150 99 0)) 0 26 0) (violS (T 2) true)) 25 3 (violS (T 2) true).length) 0 55 1
  if li = 1 then (if X 25 1 ≤ 0 then X else stQ X 26) else tg X 2 (bl 148 1239 (fun x => X 26 (x + -148)) (X 2))
theorem bo_194 {li w : Int} {i3 : Int32} (hl : li = 0 ∨ li = 1) (W : StW (T 2)) (hr : 0 ≤ T 25 1 ∧ T 25 1 ≤ 40) (n0 : 0 ≤ T 0 44) (n1 : T 0 44 ≤ 8) : G (d + 9) 7007 194 [.ref m, .int (zI li), .int (zI w), .int i3] [] (tw m T h) = some (.inl (some (.int (zI w))), tw m (boE li T) h) := by
  have rn := tm_rowsNow (d := d + 8) (m := m) (h := h) W
  have vn := tm_violNow (d := d + 3) (m := m) (h := h) (T := ts T 25 2 (cntA (T 2) 150 99 0)) W
  rw [show ts T 25 2 (cntA (T 2) 150 99 0) 2 = T 2 from ts_ne (by decide)] at vn
  obtain ⟨Y, hY⟩ : ∃ Y, Y = layL (ts (ts T 25 2 (cntA (T 2) 150 99 0)) 0 26 0) (violS (T 2) true) := ⟨_, rfl⟩
  rw [← hY, show ts T 25 2 (cntA (T 2) 150 99 0) = tg T 25 (fset (T 25) 2 (cntA (T 2) 150 99 0)) from rfl] at vn
  have y25 : Y 25 = fset (T 25) 2 (cntA (T 2) 150 99 0) := by rw [hY, layL_k (by decide), ts_ne (by decide), ts_eq]
  have y44 : Y 0 44 = T 0 44 := by rw [hY, layL_0 (by decide), ts_eq, fset_ne (by decide), ts_ne (by decide)]
  have e25 : ts (ts Y 25 3 (violS (T 2) true).length) 0 55 1 25 1 = T 25 1 := by rw [ts_ne (by decide), ts_eq, fset_ne (by decide), y25, fset_ne (by decide)]
  have e44 : ts (ts Y 25 3 (violS (T 2) true).length) 0 55 1 0 44 = T 0 44 := by rw [ts_eq, fset_ne (by decide), ts_ne (by decide), y44]
  have so := tm_stores26 (d := d + 8) (m := m) (h := h) (T := ts (ts Y 25 3 (violS (T 2) true).length) 0 55 1) (by rw [e44]; exact n0) (by rw [e44]; exact n1)
  have hE : boE li T = if li = 1 then (if ts (ts Y 25 3 (violS (T 2) true).length) 0 55 1 25 1 ≤ 0 then ts (ts Y 25 3 (violS (T 2) true).length) 0 55 1 else stQ (ts (ts Y 25 3 (violS (T 2) true).length) 0 55 1) 26) else tg (ts (ts Y 25 3 (violS (T 2) true).length) 0 55 1) 2 (bl 148 1239 (fun x => ts (ts Y 25 3 (violS (T 2) true).length) 0 55 1 26 (x + -148)) (ts (ts Y 25 3 (violS (T 2) true).length) 0 55 1 2)) := by rw [hY]; rfl
  have st : ∀ X : Rz, (if zI li = zI 1 then (if zI (T 25 1) ≤ zI 0 then (if zI li = zI 0 then G (d + 9) 7007 247 [.ref m, .int (zI li), .int (zI w), .int (zI 0)] [] (tw m (ts (ts Y 25 3 (violS (T 2) true).length) 0 55 1) h) else some (.inl (some (.int (zI w))), tw m (ts (ts Y 25 3 (violS (T 2) true).length) 0 55 1) h)) else zcV (M (d + 9) 7106 [.ref m, .ref (m + 26)] (tw m (ts (ts Y 25 3 (violS (T 2) true).length) 0 55 1) h)) (fun h15 => if zI li = zI 0 then G (d + 9) 7007 247 [.ref m, .int (zI li), .int (zI w), .int (zI 0)] [] h15 else some (.inl (some (.int (zI w))), h15)) ()) else if zI li = zI 0 then G (d + 9) 7007 247 [.ref m, .int (zI li), .int (zI w), .int (zI 0)] [] (tw m (ts (ts Y 25 3 (violS (T 2) true).length) 0 55 1) h) else some (.inl (some (.int (zI w))), tw m (ts (ts Y 25 3 (violS (T 2) true).length) 0 55 1) h)) = X → G (d + 9) 7007 194 [.ref m, .int (zI li), .int (zI w), .int i3] [] (tw m T h) = X := by
    intro X hX
    rw [← hX, E7007_194]
    rcases hl with rfl | rfl
    · simp (disch := omega) only [jc_ref, rI_int, rR_ref, rR_null, rJ_long, ckR_ref, ckR_null, ckr_ref, ckr_null, ckW_int, ckW_ref, ckW_null, cI_ok, cR_ok, cR_null, cV_ok, cJ_ok, qH_eq, qD_in, aG_ref, aS_ref, aL_ref, pF_ref, cK_ref, cK_null, zI_lit, zJ_lit, zI_add, zI_sub, zI_mul, zI_neg, zI_eq, zI_lt, zI_le, Int.reduceLT, Int.reduceLE, Int.reduceAdd, Int.reduceSub, Int.reduceMul, Int.reduceNeg, Int.reduceEq, Int.reduceNe, reduceIte, tw_0, tw_1, tw_2, tw_3, tw_4, tw_5, tw_6, tw_7, tw_8, tw_9, tw_10, tw_11, tw_12, tw_13, tw_14, tw_15, tw_16, tw_17, tw_18, tw_19, tw_20, tw_21, tw_22, tw_23, tw_24, tw_25, tw_26, tw_27, tw_28, tw_29, tw_30, tw_31, ob_0, ob_1, ob_2, ob_3, ob_4, ob_5, ob_6, ob_7, ob_8, ob_9, ob_10, ob_11, ob_12, ob_13, ob_14, ob_15, ob_16, ob_17, ob_18, ob_19, ob_20, ob_21, ob_22, ob_23, ob_24, ob_25, ob_26, ob_27, ob_28, ob_29, ob_30, ob_31, ob_32, ob_33, ob_34, ob_35, ob_36, ob_37, ob_38, ob_39, ob_40, ob_41, ob_42, ob_43, ob_44, ob_45, ob_46, ob_47, ob_48, ob_49, ob_50, ob_51, ob_52, ob_53, ob_54, ob_55, ob_56, ob_57, ob_58, ob_59, ob_60, ob_61, ob_62, ob_63, ob_64, ob_65, jf7, aGi, aGb, aGz, aGj, leT, leF, ltT, ltF, eqT, eqF, tws_0, tws_1, tws_2, tws_3, tws_4, tws_5, tws_6, tws_7, tws_8, tws_9, tws_10, tws_11, tws_12, tws_13, tws_14, tws_15, tws_16, tws_17, tws_18, tws_19, tws_20, tws_21, tws_22, tws_23, tws_24, tws_25, tws_26, tws_27, tws_28, tws_29, tws_30, tws_31, obs_0, obs_2, obs_3, obs_4, obs_5, obs_12, obs_13, obs_14, obs_15, obs_16, obs_17, obs_18, obs_19, obs_20, obs_21, obs_22, obs_26, obs_31, obs_32, obs_33, obs_34, obs_35, obs_41, obs_42, obs_44, obs_48, obs_50, obs_51, obs_52, obs_55, obs_57, obs_58, obs_59, obs_60, obs_61, pF7i, pF7z, pF7j, aSi, aSj, aSb1, aSb24, aSb28, aSb31, ts, tg_eq, tg_ne, tg_tg, fset_eq, fset_ne, rn, vn, y25]
    · simp (disch := omega) only [jc_ref, rI_int, rR_ref, rR_null, rJ_long, ckR_ref, ckR_null, ckr_ref, ckr_null, ckW_int, ckW_ref, ckW_null, cI_ok, cR_ok, cR_null, cV_ok, cJ_ok, qH_eq, qD_in, aG_ref, aS_ref, aL_ref, pF_ref, cK_ref, cK_null, zI_lit, zJ_lit, zI_add, zI_sub, zI_mul, zI_neg, zI_eq, zI_lt, zI_le, Int.reduceLT, Int.reduceLE, Int.reduceAdd, Int.reduceSub, Int.reduceMul, Int.reduceNeg, Int.reduceEq, Int.reduceNe, reduceIte, tw_0, tw_1, tw_2, tw_3, tw_4, tw_5, tw_6, tw_7, tw_8, tw_9, tw_10, tw_11, tw_12, tw_13, tw_14, tw_15, tw_16, tw_17, tw_18, tw_19, tw_20, tw_21, tw_22, tw_23, tw_24, tw_25, tw_26, tw_27, tw_28, tw_29, tw_30, tw_31, ob_0, ob_1, ob_2, ob_3, ob_4, ob_5, ob_6, ob_7, ob_8, ob_9, ob_10, ob_11, ob_12, ob_13, ob_14, ob_15, ob_16, ob_17, ob_18, ob_19, ob_20, ob_21, ob_22, ob_23, ob_24, ob_25, ob_26, ob_27, ob_28, ob_29, ob_30, ob_31, ob_32, ob_33, ob_34, ob_35, ob_36, ob_37, ob_38, ob_39, ob_40, ob_41, ob_42, ob_43, ob_44, ob_45, ob_46, ob_47, ob_48, ob_49, ob_50, ob_51, ob_52, ob_53, ob_54, ob_55, ob_56, ob_57, ob_58, ob_59, ob_60, ob_61, ob_62, ob_63, ob_64, ob_65, jf7, aGi, aGb, aGz, aGj, leT, leF, ltT, ltF, eqT, eqF, tws_0, tws_1, tws_2, tws_3, tws_4, tws_5, tws_6, tws_7, tws_8, tws_9, tws_10, tws_11, tws_12, tws_13, tws_14, tws_15, tws_16, tws_17, tws_18, tws_19, tws_20, tws_21, tws_22, tws_23, tws_24, tws_25, tws_26, tws_27, tws_28, tws_29, tws_30, tws_31, obs_0, obs_2, obs_3, obs_4, obs_5, obs_12, obs_13, obs_14, obs_15, obs_16, obs_17, obs_18, obs_19, obs_20, obs_21, obs_22, obs_26, obs_31, obs_32, obs_33, obs_34, obs_35, obs_41, obs_42, obs_44, obs_48, obs_50, obs_51, obs_52, obs_55, obs_57, obs_58, obs_59, obs_60, obs_61, pF7i, pF7z, pF7j, aSi, aSj, aSb1, aSb24, aSb28, aSb31, ts, tg_eq, tg_ne, tg_tg, fset_eq, fset_ne, rn, vn, y25]
      rfl
  refine st _ ?_
  rw [hE, e25]
  rcases hl with rfl | rfl
  · have l := bo_247 (d := d + 9) (m := m) (h := h) (i1 := zI 0) (i2 := zI w) 1091 0 (ts (ts Y 25 3 (violS (T 2) true).length) 0 55 1) (by omega) (by omega)
    rw [Int.add_zero] at l
    rw [if_neg (show ¬ (zI 0 = zI 1) by decide), if_pos rfl, if_neg (show ¬ ((0 : Int) = 1) by decide)]
    exact l
  · rw [if_pos rfl, if_pos rfl]
    by_cases c : T 25 1 ≤ 0
    · rw [if_pos c, if_pos (show zI (T 25 1) ≤ zI 0 by rw [zI_le (by omega) (by omega) (by omega) (by omega)]; exact c), if_neg (show ¬ (zI 1 = zI 0) by decide)]
    · rw [if_neg c, if_neg (show ¬ (zI (T 25 1) ≤ zI 0) by rw [zI_le (by omega) (by omega) (by omega) (by omega)]; exact c), so, cV_ok, if_neg (show ¬ (zI 1 = zI 0) by decide)]
theorem bo_138 {i1 : Int32} {n : Int} : ∀ (j : Nat) (i : Int) (T : Nat → Int → Int), BkI T → LkW (T 2) (T 5) n → T 0 52 = n → n ≤ 40 → 0 ≤ i → i + j = n → T 25 1 = i →
    (∃ x : Int32, G (d + 9) 7007 138 [.ref m, .int i1, .int (zI (-1)), .int (zI i)] [] (tw m T h) = G (d + 9) 7007 194 [.ref m, .int i1, .int (zI (doL j i T).1), .int x] [] (tw m (doL j i T).2 h)) ∧ BkI (doL j i T).2 ∧ BoF T (doL j i T).2 ∧ (-1 ≤ (doL j i T).1 ∧ (doL j i T).1 ≤ 40) ∧ (0 ≤ (doL j i T).2 25 1 ∧ (doL j i T).2 25 1 ≤ 40) := by
  intro j
  induction j with
  | zero =>
    intro i T I K hn n4 i0 hi h1
    refine ⟨⟨zI i, ?_⟩, I, BoF.rf, ⟨Int.le_refl _, by show (-1 : Int) ≤ 40; omega⟩, by show 0 ≤ T 25 1; omega, by show T 25 1 ≤ 40; omega⟩
    show _ = G (d + 9) 7007 194 [.ref m, .int i1, .int (zI (-1)), .int (zI i)] [] (tw m T h)
    conv => lhs; rw [E7007_138]
    simp (disch := omega) only [jc_ref, rI_int, rR_ref, rR_null, rJ_long, ckR_ref, ckR_null, ckr_ref, ckr_null, ckW_int, ckW_ref, ckW_null, cI_ok, cR_ok, cR_null, cV_ok, cJ_ok, qH_eq, qD_in, aG_ref, aS_ref, aL_ref, pF_ref, cK_ref, cK_null, zI_lit, zJ_lit, zI_add, zI_sub, zI_mul, zI_neg, zI_eq, zI_lt, zI_le, Int.reduceLT, Int.reduceLE, Int.reduceAdd, Int.reduceSub, Int.reduceMul, Int.reduceNeg, Int.reduceEq, Int.reduceNe, reduceIte, tw_0, tw_1, tw_2, tw_3, tw_4, tw_5, tw_6, tw_7, tw_8, tw_9, tw_10, tw_11, tw_12, tw_13, tw_14, tw_15, tw_16, tw_17, tw_18, tw_19, tw_20, tw_21, tw_22, tw_23, tw_24, tw_25, tw_26, tw_27, tw_28, tw_29, tw_30, tw_31, ob_0, ob_1, ob_2, ob_3, ob_4, ob_5, ob_6, ob_7, ob_8, ob_9, ob_10, ob_11, ob_12, ob_13, ob_14, ob_15, ob_16, ob_17, ob_18, ob_19, ob_20, ob_21, ob_22, ob_23, ob_24, ob_25, ob_26, ob_27, ob_28, ob_29, ob_30, ob_31, ob_32, ob_33, ob_34, ob_35, ob_36, ob_37, ob_38, ob_39, ob_40, ob_41, ob_42, ob_43, ob_44, ob_45, ob_46, ob_47, ob_48, ob_49, ob_50, ob_51, ob_52, ob_53, ob_54, ob_55, ob_56, ob_57, ob_58, ob_59, ob_60, ob_61, ob_62, ob_63, ob_64, ob_65, jf7, aGi, aGb, aGz, aGj, leT, leF, ltT, ltF, eqT, eqF, hn]
  | succ j ih =>
    intro i T I K hn n4 i0 hi h1
    obtain ⟨k1, k2⟩ := K i i0 (by omega)
    have de := tm_does (d := d + 2) (m := m) (h := h) (to := 20 * i) I.1 I.2.1 I.2.2 (by omega) (by omega) k1 k2
    have dr := (deQ_I I k1 k2).2.2.2
    obtain ⟨q1, q2, q3, q4, q5, q6⟩ := dlQ_I I k1 k2
    have qF := dlQ_F I k1 k2
    have q52 : (deQ T (20 * i)).2 0 52 = T 0 52 := by
      have := q3 52 (by decide) (by decide) (by decide) (by decide) (by decide) (by decide) (by decide)
      unfold dlQ at this
      rwa [ts_ne (by decide)] at this
    have q25 : (deQ T (20 * i)).2 25 1 = T 25 1 := by
      unfold dlQ at q5
      rwa [ts_eq, fset_ne (by decide)] at q5
    by_cases c : (deQ T (20 * i)).1 ≤ 0
    · have u : doL (j + 1) i T = doL j (i + 1) (ts (dlQ T i) 25 1 (i + 1)) := by
        show (if _ then _ else _) = _
        rw [if_pos c]
      have F1 : BoF T (ts (dlQ T i) 25 1 (i + 1)) := qF.tr BoF.t25
      obtain ⟨⟨x, r1⟩, r2, r3, r4⟩ := ih (i + 1) (ts (dlQ T i) 25 1 (i + 1)) q1.t25 (K.bo I.1 F1) (by rw [F1.2.1 52 (by decide) (by decide) (by decide) (by decide) (by decide) (by decide) (by decide)]; exact hn) n4 (by omega) (by omega) (by rw [ts_eq, fset_eq])
      rw [u]
      refine ⟨⟨x, ?_⟩, r2, F1.tr r3, r4⟩
      rw [← r1]
      unfold dlQ
      conv => lhs; rw [E7007_138]
      generalize deQ T (20 * i) = D at de c dr q52 q25 ⊢
      have z : D.1 = 0 := by omega
      rw [z] at de ⊢
      simp (disch := omega) only [jc_ref, rI_int, rR_ref, rR_null, rJ_long, ckR_ref, ckR_null, ckr_ref, ckr_null, ckW_int, ckW_ref, ckW_null, cI_ok, cR_ok, cR_null, cV_ok, cJ_ok, qH_eq, qD_in, aG_ref, aS_ref, aL_ref, pF_ref, cK_ref, cK_null, zI_lit, zJ_lit, zI_add, zI_sub, zI_mul, zI_neg, zI_eq, zI_lt, zI_le, Int.reduceLT, Int.reduceLE, Int.reduceAdd, Int.reduceSub, Int.reduceMul, Int.reduceNeg, Int.reduceEq, Int.reduceNe, reduceIte, tw_0, tw_1, tw_2, tw_3, tw_4, tw_5, tw_6, tw_7, tw_8, tw_9, tw_10, tw_11, tw_12, tw_13, tw_14, tw_15, tw_16, tw_17, tw_18, tw_19, tw_20, tw_21, tw_22, tw_23, tw_24, tw_25, tw_26, tw_27, tw_28, tw_29, tw_30, tw_31, ob_0, ob_1, ob_2, ob_3, ob_4, ob_5, ob_6, ob_7, ob_8, ob_9, ob_10, ob_11, ob_12, ob_13, ob_14, ob_15, ob_16, ob_17, ob_18, ob_19, ob_20, ob_21, ob_22, ob_23, ob_24, ob_25, ob_26, ob_27, ob_28, ob_29, ob_30, ob_31, ob_32, ob_33, ob_34, ob_35, ob_36, ob_37, ob_38, ob_39, ob_40, ob_41, ob_42, ob_43, ob_44, ob_45, ob_46, ob_47, ob_48, ob_49, ob_50, ob_51, ob_52, ob_53, ob_54, ob_55, ob_56, ob_57, ob_58, ob_59, ob_60, ob_61, ob_62, ob_63, ob_64, ob_65, jf7, aGi, aGb, aGz, aGj, leT, leF, ltT, ltF, eqT, eqF, tws_0, tws_1, tws_2, tws_3, tws_4, tws_5, tws_6, tws_7, tws_8, tws_9, tws_10, tws_11, tws_12, tws_13, tws_14, tws_15, tws_16, tws_17, tws_18, tws_19, tws_20, tws_21, tws_22, tws_23, tws_24, tws_25, tws_26, tws_27, tws_28, tws_29, tws_30, tws_31, obs_0, obs_2, obs_3, obs_4, obs_5, obs_12, obs_13, obs_14, obs_15, obs_16, obs_17, obs_18, obs_19, obs_20, obs_21, obs_22, obs_26, obs_31, obs_32, obs_33, obs_34, obs_35, obs_41, obs_42, obs_44, obs_48, obs_50, obs_51, obs_52, obs_55, obs_57, obs_58, obs_59, obs_60, obs_61, pF7i, pF7z, pF7j, aSi, aSj, aSb1, aSb24, aSb28, aSb31, ts, tg_eq, tg_ne, tg_tg, fset_eq, fset_ne, hn, de, q25, h1]
    · have u : doL (j + 1) i T = (i, dlQ T i) := by
        show (if _ then _ else _) = _
        rw [if_neg c]
      rw [u]
      have st : G (d + 9) 7007 138 [.ref m, .int i1, .int (zI (-1)), .int (zI i)] [] (tw m T h) = G (d + 9) 7007 138 [.ref m, .int i1, .int (zI i), .int (zI (i + 1))] [] (tw m (dlQ T i) h) := by
        unfold dlQ
        conv => lhs; rw [E7007_138]
        generalize deQ T (20 * i) = D at de c dr q52 q25 ⊢
        simp (disch := omega) only [jc_ref, rI_int, rR_ref, rR_null, rJ_long, ckR_ref, ckR_null, ckr_ref, ckr_null, ckW_int, ckW_ref, ckW_null, cI_ok, cR_ok, cR_null, cV_ok, cJ_ok, qH_eq, qD_in, aG_ref, aS_ref, aL_ref, pF_ref, cK_ref, cK_null, zI_lit, zJ_lit, zI_add, zI_sub, zI_mul, zI_neg, zI_eq, zI_lt, zI_le, Int.reduceLT, Int.reduceLE, Int.reduceAdd, Int.reduceSub, Int.reduceMul, Int.reduceNeg, Int.reduceEq, Int.reduceNe, reduceIte, tw_0, tw_1, tw_2, tw_3, tw_4, tw_5, tw_6, tw_7, tw_8, tw_9, tw_10, tw_11, tw_12, tw_13, tw_14, tw_15, tw_16, tw_17, tw_18, tw_19, tw_20, tw_21, tw_22, tw_23, tw_24, tw_25, tw_26, tw_27, tw_28, tw_29, tw_30, tw_31, ob_0, ob_1, ob_2, ob_3, ob_4, ob_5, ob_6, ob_7, ob_8, ob_9, ob_10, ob_11, ob_12, ob_13, ob_14, ob_15, ob_16, ob_17, ob_18, ob_19, ob_20, ob_21, ob_22, ob_23, ob_24, ob_25, ob_26, ob_27, ob_28, ob_29, ob_30, ob_31, ob_32, ob_33, ob_34, ob_35, ob_36, ob_37, ob_38, ob_39, ob_40, ob_41, ob_42, ob_43, ob_44, ob_45, ob_46, ob_47, ob_48, ob_49, ob_50, ob_51, ob_52, ob_53, ob_54, ob_55, ob_56, ob_57, ob_58, ob_59, ob_60, ob_61, ob_62, ob_63, ob_64, ob_65, jf7, aGi, aGb, aGz, aGj, leT, leF, ltT, ltF, eqT, eqF, tws_0, tws_1, tws_2, tws_3, tws_4, tws_5, tws_6, tws_7, tws_8, tws_9, tws_10, tws_11, tws_12, tws_13, tws_14, tws_15, tws_16, tws_17, tws_18, tws_19, tws_20, tws_21, tws_22, tws_23, tws_24, tws_25, tws_26, tws_27, tws_28, tws_29, tws_30, tws_31, obs_0, obs_2, obs_3, obs_4, obs_5, obs_12, obs_13, obs_14, obs_15, obs_16, obs_17, obs_18, obs_19, obs_20, obs_21, obs_22, obs_26, obs_31, obs_32, obs_33, obs_34, obs_35, obs_41, obs_42, obs_44, obs_48, obs_50, obs_51, obs_52, obs_55, obs_57, obs_58, obs_59, obs_60, obs_61, pF7i, pF7z, pF7j, aSi, aSj, aSb1, aSb24, aSb28, aSb31, ts, tg_eq, tg_ne, tg_tg, fset_eq, fset_ne, hn, de, c]
      refine ⟨⟨zI (i + 1), ?_⟩, q1, qF, ⟨by show -1 ≤ i; omega, by show i ≤ 40; omega⟩, by show 0 ≤ dlQ T i 25 1; omega, by show dlQ T i 25 1 ≤ 40; omega⟩
      rw [st]
      show _ = G (d + 9) 7007 194 [.ref m, .int i1, .int (zI i), .int (zI (i + 1))] [] (tw m (dlQ T i) h)
      have hn' : dlQ T i 0 52 = n := (q3 52 (by decide) (by decide) (by decide) (by decide) (by decide) (by decide) (by decide)).trans hn
      generalize dlQ T i = X at hn' ⊢
      conv => lhs; rw [E7007_138]
      by_cases e : n ≤ i + 1
      · simp (disch := omega) only [jc_ref, rI_int, rR_ref, rR_null, rJ_long, ckR_ref, ckR_null, ckr_ref, ckr_null, ckW_int, ckW_ref, ckW_null, cI_ok, cR_ok, cR_null, cV_ok, cJ_ok, qH_eq, qD_in, aG_ref, aS_ref, aL_ref, pF_ref, cK_ref, cK_null, zI_lit, zJ_lit, zI_add, zI_sub, zI_mul, zI_neg, zI_eq, zI_lt, zI_le, Int.reduceLT, Int.reduceLE, Int.reduceAdd, Int.reduceSub, Int.reduceMul, Int.reduceNeg, Int.reduceEq, Int.reduceNe, reduceIte, tw_0, tw_1, tw_2, tw_3, tw_4, tw_5, tw_6, tw_7, tw_8, tw_9, tw_10, tw_11, tw_12, tw_13, tw_14, tw_15, tw_16, tw_17, tw_18, tw_19, tw_20, tw_21, tw_22, tw_23, tw_24, tw_25, tw_26, tw_27, tw_28, tw_29, tw_30, tw_31, ob_0, ob_1, ob_2, ob_3, ob_4, ob_5, ob_6, ob_7, ob_8, ob_9, ob_10, ob_11, ob_12, ob_13, ob_14, ob_15, ob_16, ob_17, ob_18, ob_19, ob_20, ob_21, ob_22, ob_23, ob_24, ob_25, ob_26, ob_27, ob_28, ob_29, ob_30, ob_31, ob_32, ob_33, ob_34, ob_35, ob_36, ob_37, ob_38, ob_39, ob_40, ob_41, ob_42, ob_43, ob_44, ob_45, ob_46, ob_47, ob_48, ob_49, ob_50, ob_51, ob_52, ob_53, ob_54, ob_55, ob_56, ob_57, ob_58, ob_59, ob_60, ob_61, ob_62, ob_63, ob_64, ob_65, jf7, aGi, aGb, aGz, aGj, leT, leF, ltT, ltF, eqT, eqF, hn', e]
      · simp (disch := omega) only [jc_ref, rI_int, rR_ref, rR_null, rJ_long, ckR_ref, ckR_null, ckr_ref, ckr_null, ckW_int, ckW_ref, ckW_null, cI_ok, cR_ok, cR_null, cV_ok, cJ_ok, qH_eq, qD_in, aG_ref, aS_ref, aL_ref, pF_ref, cK_ref, cK_null, zI_lit, zJ_lit, zI_add, zI_sub, zI_mul, zI_neg, zI_eq, zI_lt, zI_le, Int.reduceLT, Int.reduceLE, Int.reduceAdd, Int.reduceSub, Int.reduceMul, Int.reduceNeg, Int.reduceEq, Int.reduceNe, reduceIte, tw_0, tw_1, tw_2, tw_3, tw_4, tw_5, tw_6, tw_7, tw_8, tw_9, tw_10, tw_11, tw_12, tw_13, tw_14, tw_15, tw_16, tw_17, tw_18, tw_19, tw_20, tw_21, tw_22, tw_23, tw_24, tw_25, tw_26, tw_27, tw_28, tw_29, tw_30, tw_31, ob_0, ob_1, ob_2, ob_3, ob_4, ob_5, ob_6, ob_7, ob_8, ob_9, ob_10, ob_11, ob_12, ob_13, ob_14, ob_15, ob_16, ob_17, ob_18, ob_19, ob_20, ob_21, ob_22, ob_23, ob_24, ob_25, ob_26, ob_27, ob_28, ob_29, ob_30, ob_31, ob_32, ob_33, ob_34, ob_35, ob_36, ob_37, ob_38, ob_39, ob_40, ob_41, ob_42, ob_43, ob_44, ob_45, ob_46, ob_47, ob_48, ob_49, ob_50, ob_51, ob_52, ob_53, ob_54, ob_55, ob_56, ob_57, ob_58, ob_59, ob_60, ob_61, ob_62, ob_63, ob_64, ob_65, jf7, aGi, aGb, aGz, aGj, leT, leF, ltT, ltF, eqT, eqF, hn', e]
/-- a book that is read (T): what is told of it, what it leaves -/
def boB (T : Nat → Int → Int) : Nat → Int → Int := tg (tg T 26 (bl 0 1091 (fun x => T 2 (148 + x)) (T 26))) 25 (bl 0 4 (fun _ => 0) (T 25))
def boQ (T : Nat → Int → Int) (li : Int) : Int × (Nat → Int → Int) := ((doL (T 0 52).toNat 0 (boB T)).1, boE li (doL (T 0 52).toNat 0 (boB T)).2)
theorem tm_book {li : Int} (hl : Rg li) (hC : TwC T) (I : BkI T) (n0 : 0 ≤ T 0 44) (n1 : T 0 44 ≤ 8) : if isInZ li 0 1 = false then M (d + 10) 7007 [.ref m, .int (zI li)] (tw m T h) = some (.inl (some (.int (zI (-1000)))), tw m (ts T 0 0 0) h) else
    ∃ T', BF (ts (tk0 T 400) 0 52 0) T' ∧ match bksP (T 1) (T 0 2) 400 (T 2) (T 6) 41 (T 5) 0 0 with
      | .error e => M (d + 10) 7007 [.ref m, .int (zI li)] (tw m T h) = some (.inl (some (.int (zI (-2 - e.2)))), tw m T' h) ∧ Fl T' e
      | .ok a => M (d + 10) 7007 [.ref m, .int (zI li)] (tw m T h) = some (.inl (some (.int (zI (boQ T' li).1))), tw m (boQ T' li).2 h) ∧ T' 5 = a.1 ∧ T' 0 52 = a.2 ∧ T' 0 16 = 0 ∧ (0 ≤ a.2 ∧ a.2 ≤ 40) ∧ LkW (T 2) a.1 a.2 := by
  have hi := tm_isIn (d := d + 8) (h := tw m (ts T 0 0 0) h) hl (low := 0) (high := 1) ⟨by omega, by omega⟩ ⟨by omega, by omega⟩
  rw [show ts T 0 0 0 = tg T 0 (fset (T 0) 0 0) from rfl] at hi ⊢
  by_cases c : isInZ li 0 1 = false
  · rw [if_pos c, X7007 _ (tw_recv rfl), E7007_0]
    simp (disch := omega) only [jc_ref, rI_int, rR_ref, rR_null, rJ_long, ckR_ref, ckR_null, ckr_ref, ckr_null, ckW_int, ckW_ref, ckW_null, cI_ok, cR_ok, cR_null, cV_ok, cJ_ok, qH_eq, qD_in, aG_ref, aS_ref, aL_ref, pF_ref, cK_ref, cK_null, zI_lit, zJ_lit, zI_add, zI_sub, zI_mul, zI_neg, zI_eq, zI_lt, zI_le, Int.reduceLT, Int.reduceLE, Int.reduceAdd, Int.reduceSub, Int.reduceMul, Int.reduceNeg, Int.reduceEq, Int.reduceNe, reduceIte, tw_0, tw_1, tw_2, tw_3, tw_4, tw_5, tw_6, tw_7, tw_8, tw_9, tw_10, tw_11, tw_12, tw_13, tw_14, tw_15, tw_16, tw_17, tw_18, tw_19, tw_20, tw_21, tw_22, tw_23, tw_24, tw_25, tw_26, tw_27, tw_28, tw_29, tw_30, tw_31, ob_0, ob_1, ob_2, ob_3, ob_4, ob_5, ob_6, ob_7, ob_8, ob_9, ob_10, ob_11, ob_12, ob_13, ob_14, ob_15, ob_16, ob_17, ob_18, ob_19, ob_20, ob_21, ob_22, ob_23, ob_24, ob_25, ob_26, ob_27, ob_28, ob_29, ob_30, ob_31, ob_32, ob_33, ob_34, ob_35, ob_36, ob_37, ob_38, ob_39, ob_40, ob_41, ob_42, ob_43, ob_44, ob_45, ob_46, ob_47, ob_48, ob_49, ob_50, ob_51, ob_52, ob_53, ob_54, ob_55, ob_56, ob_57, ob_58, ob_59, ob_60, ob_61, ob_62, ob_63, ob_64, ob_65, jf7, aGi, aGb, aGz, aGj, leT, leF, ltT, ltF, eqT, eqF, tws_0, tws_1, tws_2, tws_3, tws_4, tws_5, tws_6, tws_7, tws_8, tws_9, tws_10, tws_11, tws_12, tws_13, tws_14, tws_15, tws_16, tws_17, tws_18, tws_19, tws_20, tws_21, tws_22, tws_23, tws_24, tws_25, tws_26, tws_27, tws_28, tws_29, tws_30, tws_31, obs_0, obs_2, obs_3, obs_4, obs_5, obs_12, obs_13, obs_14, obs_15, obs_16, obs_17, obs_18, obs_19, obs_20, obs_21, obs_22, obs_26, obs_31, obs_32, obs_33, obs_34, obs_35, obs_41, obs_42, obs_44, obs_48, obs_50, obs_51, obs_52, obs_55, obs_57, obs_58, obs_59, obs_60, obs_61, pF7i, pF7z, pF7j, aSi, aSj, aSb1, aSb24, aSb28, aSb31, ts, tg_eq, tg_ne, tg_tg, fset_eq, fset_ne, hi, c, beq_tt, beq_tf, beq_ft, beq_ff, Bool.true_and, Bool.false_and, Bool.and_true, Bool.and_false, Bool.true_or, Bool.false_or, Bool.or_true, Bool.or_false, Bool.true_eq_false, Bool.false_eq_true, Bool.not_true, Bool.not_false, bZ_t, bZ_f, zI_b0, zI_b1, zI_bb, okZ_0, okZ_1]
  · rw [if_neg c]
    have c' : isInZ li 0 1 = true := by simpa using c
    have li01 : li = 0 ∨ li = 1 := by have := isInZ_t c'; omega
    have C2 : TwC (ts T 0 52 0) := ⟨hC.1, hC.2.1, hC.2.2.1, by rw [ts_eq, fset_ne (by decide)]; exact hC.2.2.2⟩
    obtain ⟨T1, t1, t2, R1⟩ := rd_tk0 (d := d + 7) (m := m) (h := h) (T := ts T 0 52 0) (lim := 400) C2 (by omega) (by omega)
    have eT : tk0 (ts T 0 52 0) 400 = tg T 0 (fset (fset (fset (fset (fset (fset (fset (T 0) 0 0) 3 (T 0 2)) 2 0) 4 0) 5 400) 16 0) 52 0) := by
      unfold tk0
      rw [show ts T 0 52 0 = tg T 0 (fset (T 0) 52 0) from rfl, tg_tg, tg_eq, fset_ne (show (2 : Int) ≠ 52 by decide), fset_comm (show (52 : Int) ≠ 0 by decide), fset_comm (show (52 : Int) ≠ 3 by decide), fset_comm (show (52 : Int) ≠ 2 by decide), fset_comm (show (52 : Int) ≠ 4 by decide), fset_comm (show (52 : Int) ≠ 5 by decide), fset_comm (show (52 : Int) ≠ 16 by decide)]
    have e1 : ts T 0 52 0 1 = T 1 := rfl
    have e02 : ts T 0 52 0 0 2 = T 0 2 := by rw [ts_eq, fset_ne (by decide)]
    rw [e1, e02] at R1
    have k2 : T1 2 = T 2 := by rw [t2.1 2 (by decide), tk0_k (by decide)]; rfl
    have k5 : T1 5 = T 5 := by rw [t2.1 5 (by decide), tk0_k (by decide)]; rfl
    have k6 : T1 6 = T 6 := by rw [t2.1 6 (by decide), tk0_k (by decide)]; rfl
    have k52 : T1 0 52 = 0 := by rw [t2.2 52 (by omega), eT, tg_eq, fset_eq]
    have fT : ts (tk0 T 400) 0 52 0 = tk0 (ts T 0 52 0) 400 := by
      rw [eT]; unfold tk0 ts; rw [tg_tg, tg_eq]
    have W := I.1
    obtain ⟨T', u1, u2⟩ := bo_39 (d := d) (m := m) (h := h) (i1 := zI li) 41 T1 0 0 R1 (by rw [k2]; exact W.sc) k52 (by omega) (by omega) (by omega) (fun i i0 i1 => by omega)
    rw [k2, k5, k6] at u2
    have BFT : BF (ts (tk0 T 400) 0 52 0) T' := by rw [fT]; exact (BF.pf t2).tr u1
    refine ⟨T', BFT, ?_⟩
    have tk := tm_taken (d := d + 8) (m := m) (h := h) (T := tg T 0 (fset (T 0) 0 0)) (lim := 400)
    simp (disch := omega) only [ts, tg_eq, tg_tg, fset_ne] at tk
    rw [eT] at t1
    have st : M (d + 10) 7007 [.ref m, .int (zI li)] (tw m T h) = G (d + 9) 7007 39 [.ref m, .int (zI li), jno, jno] [] (tw m T1 h) := by
      rw [X7007 _ (tw_recv rfl), E7007_0]
      simp (disch := omega) only [jc_ref, rI_int, rR_ref, rR_null, rJ_long, ckR_ref, ckR_null, ckr_ref, ckr_null, ckW_int, ckW_ref, ckW_null, cI_ok, cR_ok, cR_null, cV_ok, cJ_ok, qH_eq, qD_in, aG_ref, aS_ref, aL_ref, pF_ref, cK_ref, cK_null, zI_lit, zJ_lit, zI_add, zI_sub, zI_mul, zI_neg, zI_eq, zI_lt, zI_le, Int.reduceLT, Int.reduceLE, Int.reduceAdd, Int.reduceSub, Int.reduceMul, Int.reduceNeg, Int.reduceEq, Int.reduceNe, reduceIte, tw_0, tw_1, tw_2, tw_3, tw_4, tw_5, tw_6, tw_7, tw_8, tw_9, tw_10, tw_11, tw_12, tw_13, tw_14, tw_15, tw_16, tw_17, tw_18, tw_19, tw_20, tw_21, tw_22, tw_23, tw_24, tw_25, tw_26, tw_27, tw_28, tw_29, tw_30, tw_31, ob_0, ob_1, ob_2, ob_3, ob_4, ob_5, ob_6, ob_7, ob_8, ob_9, ob_10, ob_11, ob_12, ob_13, ob_14, ob_15, ob_16, ob_17, ob_18, ob_19, ob_20, ob_21, ob_22, ob_23, ob_24, ob_25, ob_26, ob_27, ob_28, ob_29, ob_30, ob_31, ob_32, ob_33, ob_34, ob_35, ob_36, ob_37, ob_38, ob_39, ob_40, ob_41, ob_42, ob_43, ob_44, ob_45, ob_46, ob_47, ob_48, ob_49, ob_50, ob_51, ob_52, ob_53, ob_54, ob_55, ob_56, ob_57, ob_58, ob_59, ob_60, ob_61, ob_62, ob_63, ob_64, ob_65, jf7, aGi, aGb, aGz, aGj, leT, leF, ltT, ltF, eqT, eqF, tws_0, tws_1, tws_2, tws_3, tws_4, tws_5, tws_6, tws_7, tws_8, tws_9, tws_10, tws_11, tws_12, tws_13, tws_14, tws_15, tws_16, tws_17, tws_18, tws_19, tws_20, tws_21, tws_22, tws_23, tws_24, tws_25, tws_26, tws_27, tws_28, tws_29, tws_30, tws_31, obs_0, obs_2, obs_3, obs_4, obs_5, obs_12, obs_13, obs_14, obs_15, obs_16, obs_17, obs_18, obs_19, obs_20, obs_21, obs_22, obs_26, obs_31, obs_32, obs_33, obs_34, obs_35, obs_41, obs_42, obs_44, obs_48, obs_50, obs_51, obs_52, obs_55, obs_57, obs_58, obs_59, obs_60, obs_61, pF7i, pF7z, pF7j, aSi, aSj, aSb1, aSb24, aSb28, aSb31, ts, tg_eq, tg_ne, tg_tg, fset_eq, fset_ne, hi, c', beq_tt, beq_tf, beq_ft, beq_ff, Bool.true_and, Bool.false_and, Bool.and_true, Bool.and_false, Bool.true_or, Bool.false_or, Bool.or_true, Bool.or_false, Bool.true_eq_false, Bool.false_eq_true, Bool.not_true, Bool.not_false, bZ_t, bZ_f, zI_b0, zI_b1, zI_bb, okZ_0, okZ_1, tk, t1]
    cases hr : bksP (T 1) (T 0 2) 400 (T 2) (T 6) 41 (T 5) 0 0 with
    | error e =>
      rw [hr] at u2
      exact ⟨st.trans u2.1, u2.2⟩
    | ok a =>
      rw [hr] at u2
      obtain ⟨v1, v2, v3, v4, v5, v6⟩ := u2
      refine ⟨?_, v2, v3, v4, v5, v6⟩
      have K2 : T' 2 = T 2 := by rw [BFT.1 2 (by decide) (by decide), ts_ne (by decide), tk0_k (by decide)]
      have K12 : T' 12 = T 12 := by rw [BFT.1 12 (by decide) (by decide), ts_ne (by decide), tk0_k (by decide)]
      have K35 : T' 0 35 = T 0 35 := by rw [BFT.2 35 (by omega) (by omega), ts_eq, fset_ne (by decide), tk0_0]; simp (disch := omega) only [fset_ne]
      have K44 : T' 0 44 = T 0 44 := by rw [BFT.2 44 (by omega) (by omega), ts_eq, fset_ne (by decide), tk0_0]; simp (disch := omega) only [fset_ne]
      have I' : BkI (boB T') := ⟨by show StW (T' 2); rw [K2]; exact W, by show AhW (T' 12); rw [K12]; exact I.2.1, by show T' 0 35 = 0 ∨ T' 0 35 = 1; rw [K35]; exact I.2.2⟩
      have lk : LkW (boB T' 2) (boB T' 5) a.2 := by
        show LkW (T' 2) (T' 5) a.2
        rw [K2, v2]; exact v6
      have b1 := bo_85 (d := d + 9) (m := m) (h := h) (i1 := zI li) 1091 0 T' (by omega) (by omega)
      have b2 := bo_116 (d := d + 9) (m := m) (h := h) (i1 := zI li) 4 0 (tg T' 26 (bl 0 1091 (fun x => T' 2 (148 + x)) (T' 26))) (by omega) (by omega)
      rw [tg_ne (show (25 : Nat) ≠ 26 by decide)] at b2
      have b25 : boB T' 25 1 = 0 := by
        unfold boB
        rw [tg_eq]; rfl
      obtain ⟨⟨x, c1⟩, c2, c3, c4, c5⟩ := bo_138 (d := d) (m := m) (h := h) (i1 := zI li) (n := a.2) (a.2).toNat 0 (boB T') I' lk (by show T' 0 52 = a.2; exact v3) v5.2 (Int.le_refl _) (by omega) b25
      have e44 : (doL (a.2).toNat 0 (boB T')).2 0 44 = T 0 44 := by rw [c3.2.1 44 (by decide) (by decide) (by decide) (by decide) (by decide) (by decide) (by decide)]; exact K44
      have g := bo_194 (d := d) (m := m) (h := h) (w := (doL (a.2).toNat 0 (boB T')).1) (i3 := x) li01 c2.1 c5 (by rw [e44]; exact n0) (by rw [e44]; exact n1)
      have hQ : boQ T' li = ((doL (a.2).toNat 0 (boB T')).1, boE li (doL (a.2).toNat 0 (boB T')).2) := by unfold boQ; rw [v3]
      rw [hQ]
      exact st.trans (v1.trans (b1.trans (b2.trans (c1.trans g))))
end
