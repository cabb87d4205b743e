/-! what a statement finds, and wants -/
abbrev FS : Type := Int × (Int → Int) × WS
section
variable (S L : Int → Int) (to : Int)
def setW (r : Int) : Nat → Int → WS → WS
  | 0, _, w => w
  | j + 1, k, w => setW r j (k + 1) (want1 w (4 * r + L (to + 3 + 2 * k)) (L (to + 4 + 2 * k)))
def fdL : Nat → Int → FS → FS
  | 0, _, x => x
  | j + 1, r, x => fdL j (r + 1) (if fndS S L to r = true then (x.1 + 1, if L to = 1 then fset x.2.1 r 0 else x.2.1, setW L to r (L (to + 2)).toNat 0 x.2.2) else x)
end
/-- what is set is well made -/
def SeW (S L : Int → Int) (to : Int) : Prop := (0 ≤ L (to + 2) ∧ L (to + 2) ≤ 2) ∧ ∀ k, 0 ≤ k → k < L (to + 2) → (0 ≤ L (to + 3 + 2 * k) ∧ L (to + 3 + 2 * k) < S (4 + L (to + 1))) ∧ -1 ≤ L (to + 4 + 2 * k) ∧ L (to + 4 + 2 * k) ≤ 99
def LnW (S L : Int → Int) (to : Int) : Prop := (0 ≤ L to ∧ L to ≤ 2) ∧ (0 ≤ L (to + 1) ∧ L (to + 1) < S 0) ∧ (L to = 0 → InW S L to) ∧ (L to ≠ 0 → CnW S L to ∧ SeW S L to)
def FT (T : Nat → Int → Int) (n : Int) (Go : Int → Int) (w : WS) : Nat → Int → Int := putW (tg (ts T 0 31 n) 13 Go) w
section
variable {T : Nat → Int → Int} {n : Int} {Go : Int → Int} {w : WS}
theorem FT_k {k : Nat} (h0 : k ≠ 0) (h1 : k ≠ 11) (h2 : k ≠ 13) : FT T n Go w k = T k := by unfold FT; rw [putW_at h0 h1, tg_ne h2, ts_ne h0]
theorem FT_13 : FT T n Go w 13 = Go := by unfold FT; rw [putW_at (by decide) (by decide), tg_eq]
theorem FT_0 : FT T n Go w 0 = fset (fset (fset (T 0) 31 n) 34 w.2.1) 35 w.2.2 := by unfold FT; rw [putW_00, tg_ne (by decide), ts_eq]
theorem FT_31 : FT T n Go w 0 31 = n := by rw [FT_0]; simp (disch := omega) only [fset_ne, fset_eq]
theorem FT_s31 {v : Int} : tg (FT T n Go w) 0 (fset (FT T n Go w 0) 31 v) = FT T v Go w := by
  funext k
  by_cases h0 : k = 0
  · subst h0
    rw [tg_eq, FT_0, FT_0, fset_comm (g := fset (fset (T 0) 31 n) 34 w.2.1) (show (35 : Int) ≠ 31 by decide), fset_comm (g := fset (T 0) 31 n) (show (34 : Int) ≠ 31 by decide), fset_fset]
  · rw [tg_ne h0]
    by_cases h1 : k = 11
    · subst h1; unfold FT; rw [putW_w, putW_w]
    · by_cases h2 : k = 13
      · subst h2; rw [FT_13, FT_13]
      · rw [FT_k h0 h1 h2, FT_k h0 h1 h2]
theorem FT_s13 {g : Int → Int} : tg (FT T n Go w) 13 g = FT T n g w := by
  funext k
  by_cases h2 : k = 13
  · subst h2; rw [tg_eq, FT_13]
  · rw [tg_ne h2]
    by_cases h0 : k = 0
    · subst h0; rw [FT_0, FT_0]
    · by_cases h1 : k = 11
      · subst h1; unfold FT; rw [putW_w, putW_w]
      · rw [FT_k h0 h1 h2, FT_k h0 h1 h2]
end
section
variable {d m : Nat} {T : Nat → Int → Int} {h : AH} {to : Int}
theorem setW_W {S L : Int → Int} {r : Int} (E : SeW S L to) : ∀ (j : Nat) (k : Int) (w : WS), WsW w → 0 ≤ k → k + j = L (to + 2) → WsW (setW L to r j k w) := by
  intro j
  induction j with
  | zero => intro k w hw _ _; exact hw
  | succ j ih => intro k w hw k0 hk; exact ih (k + 1) _ (want1_W hw (E.2 k k0 (by omega)).2) (by omega) (by omega)
theorem jd_152 {r : Int} (W : StW (T 2)) (E : SeW (T 2) (T 5) to) (t0 : 0 ≤ T 5 (to + 1)) (t1 : T 5 (to + 1) < T 2 0) (h0 : 0 ≤ to) (h1 : to ≤ 780) (r0 : 0 ≤ r) (r1 : r < 99) : ∀ (j : Nat) (k : Int) (w : WS), WsW w → 0 ≤ k → k + j = T 5 (to + 2) →
    G (d + 1) 7059 152 [.ref m, .int (zI to), .int (zI r), .int (zI k)] [] (tw m (putW T w) h) = G (d + 1) 7059 96 [.ref m, .int (zI to), .int (zI (r + 1)), .int (zI (T 5 (to + 2)))] [] (tw m (putW T (setW (T 5) to r j k w)) h) := by
  have n := W.n0
  have co := W.co t0 (by omega)
  have p5 : ∀ w, putW T w 5 = T 5 := fun w => putW_at (by decide) (by decide)
  obtain ⟨⟨e1, e2⟩, e3⟩ := id E
  intro j
  induction j with
  | zero =>
    intro k w hw k0 hk
    obtain rfl : k = T 5 (to + 2) := by omega
    simp only [setW]
    conv => lhs; rw [E7059_152]
    simp (disch := omega) only [jc_ref, rI_int, rR_ref, rR_null, rJ_long, ckR_ref, ckR_null, ckr_ref, ckr_null, ckW_int, ckW_ref, ckW_null, cI_ok, cR_ok, cR_null, cV_ok, cJ_ok, qH_eq, qD_in, aG_ref, aS_ref, aL_ref, pF_ref, cK_ref, cK_null, zI_lit, zJ_lit, zI_add, zI_sub, zI_mul, zI_neg, zI_eq, zI_lt, zI_le, Int.reduceLT, Int.reduceLE, Int.reduceAdd, Int.reduceSub, Int.reduceMul, Int.reduceNeg, Int.reduceEq, Int.reduceNe, reduceIte, tw_0, tw_1, tw_2, tw_3, tw_4, tw_5, tw_6, tw_7, tw_8, tw_9, tw_10, tw_11, tw_12, tw_13, tw_14, tw_15, tw_16, tw_17, tw_18, tw_19, tw_20, tw_21, tw_22, tw_23, tw_24, tw_25, tw_26, tw_27, tw_28, tw_29, tw_30, tw_31, ob_0, ob_1, ob_2, ob_3, ob_4, ob_5, ob_6, ob_7, ob_8, ob_9, ob_10, ob_11, ob_12, ob_13, ob_14, ob_15, ob_16, ob_17, ob_18, ob_19, ob_20, ob_21, ob_22, ob_23, ob_24, ob_25, ob_26, ob_27, ob_28, ob_29, ob_30, ob_31, ob_32, ob_33, ob_34, ob_35, ob_36, ob_37, ob_38, ob_39, ob_40, ob_41, ob_42, ob_43, ob_44, ob_45, ob_46, ob_47, ob_48, ob_49, ob_50, ob_51, ob_52, ob_53, ob_54, ob_55, ob_56, ob_57, ob_58, ob_59, ob_60, ob_61, ob_62, ob_63, ob_64, ob_65, jf7, aGi, aGb, aGz, aGj, leT, leF, ltT, ltF, eqT, eqF, putW_w, putW_cl, putW_mo, putW_s11, putW_s34, putW_s35, putW_at, p5]
  | succ j ih =>
    intro k w hw k0 hk
    obtain ⟨g1, g2⟩ := e3 k k0 (by omega)
    have ih' := ih (k + 1) _ (want1_W (i := 4 * r + T 5 (to + 3 + 2 * k)) (v := T 5 (to + 4 + 2 * k)) hw g2) (by omega) (by omega)
    have ww := tm_wants (d := d) (m := m) (T := T) (h := h) (r := r) (c := T 5 (to + 3 + 2 * k)) (v := T 5 (to + 4 + 2 * k)) hw r0 r1 g1.1 (by omega) g2.1 g2.2
    simp only [setW]
    rw [← ih']
    conv => lhs; rw [E7059_152]
    simp (disch := omega) only [jc_ref, rI_int, rR_ref, rR_null, rJ_long, ckR_ref, ckR_null, ckr_ref, ckr_null, ckW_int, ckW_ref, ckW_null, cI_ok, cR_ok, cR_null, cV_ok, cJ_ok, qH_eq, qD_in, aG_ref, aS_ref, aL_ref, pF_ref, cK_ref, cK_null, zI_lit, zJ_lit, zI_add, zI_sub, zI_mul, zI_neg, zI_eq, zI_lt, zI_le, Int.reduceLT, Int.reduceLE, Int.reduceAdd, Int.reduceSub, Int.reduceMul, Int.reduceNeg, Int.reduceEq, Int.reduceNe, reduceIte, tw_0, tw_1, tw_2, tw_3, tw_4, tw_5, tw_6, tw_7, tw_8, tw_9, tw_10, tw_11, tw_12, tw_13, tw_14, tw_15, tw_16, tw_17, tw_18, tw_19, tw_20, tw_21, tw_22, tw_23, tw_24, tw_25, tw_26, tw_27, tw_28, tw_29, tw_30, tw_31, ob_0, ob_1, ob_2, ob_3, ob_4, ob_5, ob_6, ob_7, ob_8, ob_9, ob_10, ob_11, ob_12, ob_13, ob_14, ob_15, ob_16, ob_17, ob_18, ob_19, ob_20, ob_21, ob_22, ob_23, ob_24, ob_25, ob_26, ob_27, ob_28, ob_29, ob_30, ob_31, ob_32, ob_33, ob_34, ob_35, ob_36, ob_37, ob_38, ob_39, ob_40, ob_41, ob_42, ob_43, ob_44, ob_45, ob_46, ob_47, ob_48, ob_49, ob_50, ob_51, ob_52, ob_53, ob_54, ob_55, ob_56, ob_57, ob_58, ob_59, ob_60, ob_61, ob_62, ob_63, ob_64, ob_65, jf7, aGi, aGb, aGz, aGj, leT, leF, ltT, ltF, eqT, eqF, putW_w, putW_cl, putW_mo, putW_s11, putW_s34, putW_s35, putW_at, p5, ww]
theorem fdL_W {S L : Int → Int} (E : SeW S L to) : ∀ (j : Nat) (r : Int) (x : FS), GoW x.2.1 → WsW x.2.2 → 0 ≤ x.1 → GoW (fdL S L to j r x).2.1 ∧ WsW (fdL S L to j r x).2.2 ∧ 0 ≤ (fdL S L to j r x).1 ∧ (fdL S L to j r x).1 ≤ x.1 + j := by
  intro j
  induction j with
  | zero => intro r x a b c; exact ⟨a, b, c, by simp [fdL]⟩
  | succ j ih =>
    intro r x a b c
    simp only [fdL]
    by_cases e : fndS S L to r = true
    · rw [if_pos e]
      have key : GoW (if L to = 1 then fset x.2.1 r 0 else x.2.1) := by
        split
        · intro i i0 i1
          rw [fset_at]
          split
          · omega
          · exact a i i0 i1
        · exact a
      have e1 := E.1
      obtain ⟨i1, i2, i3, i4⟩ := ih (r + 1) (x.1 + 1, if L to = 1 then fset x.2.1 r 0 else x.2.1, setW L to r (L (to + 2)).toNat 0 x.2.2) key (setW_W E _ 0 _ b (by omega) (by omega)) (by simp only; omega)
      simp only at i4
      exact ⟨i1, i2, i3, by omega⟩
    · rw [if_neg e]
      obtain ⟨i1, i2, i3, i4⟩ := ih (r + 1) x a b c
      exact ⟨i1, i2, i3, by omega⟩
theorem jd_96 (W : StW (T 2)) (C : CnW (T 2) (T 5) to) (E : SeW (T 2) (T 5) to) (k0 : 0 < T 5 to) (k2 : T 5 to ≤ 2) (t0 : 0 ≤ T 5 (to + 1)) (t1 : T 5 (to + 1) < T 2 0) (h0 : 0 ≤ to) (h1 : to ≤ 780) : ∀ (j : Nat) (r : Int) (x : FS) (v3 : Value), GoW x.2.1 → WsW x.2.2 → 0 ≤ x.1 → x.1 ≤ r → 0 ≤ r → r + j = 99 →
    ∃ v3', G (d + 2) 7059 96 [.ref m, .int (zI to), .int (zI r), v3] [] (tw m (FT T x.1 x.2.1 x.2.2) h) = zcV (M (d + 2) 7013 [.ref m] (tw m (FT T (fdL (T 2) (T 5) to j r x).1 (fdL (T 2) (T 5) to j r x).2.1 (fdL (T 2) (T 5) to j r x).2.2) h)) (fun h2 => G (d + 2) 7059 211 [.ref m, .int (zI to), .int (zI 0), v3'] [] h2) () := by
  intro j
  induction j with
  | zero =>
    intro r x v3 hG hw n0 n1 r0 hr
    obtain rfl : r = 99 := by omega
    refine ⟨v3, ?_⟩
    simp only [fdL]
    conv => lhs; rw [E7059_96]
    simp (disch := omega) only [jc_ref, rI_int, rR_ref, rR_null, rJ_long, ckR_ref, ckR_null, ckr_ref, ckr_null, ckW_int, ckW_ref, ckW_null, cI_ok, cR_ok, cR_null, cV_ok, cJ_ok, qH_eq, qD_in, aG_ref, aS_ref, aL_ref, pF_ref, cK_ref, cK_null, zI_lit, zJ_lit, zI_add, zI_sub, zI_mul, zI_neg, zI_eq, zI_lt, zI_le, Int.reduceLT, Int.reduceLE, Int.reduceAdd, Int.reduceSub, Int.reduceMul, Int.reduceNeg, Int.reduceEq, Int.reduceNe, reduceIte, tw_0, tw_1, tw_2, tw_3, tw_4, tw_5, tw_6, tw_7, tw_8, tw_9, tw_10, tw_11, tw_12, tw_13, tw_14, tw_15, tw_16, tw_17, tw_18, tw_19, tw_20, tw_21, tw_22, tw_23, tw_24, tw_25, tw_26, tw_27, tw_28, tw_29, tw_30, tw_31, ob_0, ob_1, ob_2, ob_3, ob_4, ob_5, ob_6, ob_7, ob_8, ob_9, ob_10, ob_11, ob_12, ob_13, ob_14, ob_15, ob_16, ob_17, ob_18, ob_19, ob_20, ob_21, ob_22, ob_23, ob_24, ob_25, ob_26, ob_27, ob_28, ob_29, ob_30, ob_31, ob_32, ob_33, ob_34, ob_35, ob_36, ob_37, ob_38, ob_39, ob_40, ob_41, ob_42, ob_43, ob_44, ob_45, ob_46, ob_47, ob_48, ob_49, ob_50, ob_51, ob_52, ob_53, ob_54, ob_55, ob_56, ob_57, ob_58, ob_59, ob_60, ob_61, ob_62, ob_63, ob_64, ob_65, jf7, aGi, aGb, aGz, aGj, leT, leF, ltT, ltF, eqT, eqF]
    rfl
  | succ j ih =>
    intro r x v3 hG hw n0 n1 r0 hr
    have f2 : ∀ n g w, FT T n g w 2 = T 2 := fun n g w => FT_k (by decide) (by decide) (by decide)
    have f5 : ∀ n g w, FT T n g w 5 = T 5 := fun n g w => FT_k (by decide) (by decide) (by decide)
    have fd := tm_isFound (d := d) (m := m) (h := h) (T := FT T x.1 x.2.1 x.2.2) (r := r) (to := to) (by rw [f2]; exact W) (by rw [f2, f5]; exact C) h0 h1 (by rw [f5]; exact t0) (by rw [f5, f2]; exact t1) r0 (by omega)
    rw [f2, f5] at fd
    simp only [fdL]
    by_cases e : fndS (T 2) (T 5) to r = true
    · rw [if_pos e]
      have e1 := E.1
      have key : GoW (if T 5 to = 1 then fset x.2.1 r 0 else x.2.1) := by
        split
        · intro i i0 i1
          rw [fset_at]
          split
          · omega
          · exact hG i i0 i1
        · exact hG
      obtain ⟨v3', i⟩ := ih (r + 1) (x.1 + 1, if T 5 to = 1 then fset x.2.1 r 0 else x.2.1, setW (T 5) to r (T 5 (to + 2)).toNat 0 x.2.2) (.int (zI (T 5 (to + 2)))) key (setW_W E _ 0 _ hw (by omega) (by omega)) (by simp only; omega) (by simp only; omega) (by omega) (by omega)
      refine ⟨v3', ?_⟩
      rw [← i]
      simp only
      have l := jd_152 (d := d + 1) (m := m) (h := h) (T := tg (ts T 0 31 (x.1 + 1)) 13 (if T 5 to = 1 then fset x.2.1 r 0 else x.2.1)) (to := to) (r := r)
        (by rw [tg_ne (by decide), ts_ne (by decide)]; exact W) (by rw [tg_ne (by decide), ts_ne (by decide), tg_ne (by decide), ts_ne (by decide)]; exact E) (by rw [tg_ne (by decide), ts_ne (by decide)]; exact t0) (by rw [tg_ne (by decide), ts_ne (by decide), tg_ne (by decide), ts_ne (by decide)]; exact t1) h0 h1 r0 (by omega) (T 5 (to + 2)).toNat 0 x.2.2 hw (by omega) (by rw [tg_ne (by decide), ts_ne (by decide)]; omega)
      rw [tg_ne (show (5 : Nat) ≠ 13 by decide), ts_ne (show (5 : Nat) ≠ 0 by decide)] at l
      have l' : G (d + 2) 7059 152 [.ref m, .int (zI to), .int (zI r), .int (zI 0)] [] (tw m (FT T (x.1 + 1) (if T 5 to = 1 then fset x.2.1 r 0 else x.2.1) x.2.2) h) = G (d + 2) 7059 96 [.ref m, .int (zI to), .int (zI (r + 1)), .int (zI (T 5 (to + 2)))] [] (tw m (FT T (x.1 + 1) (if T 5 to = 1 then fset x.2.1 r 0 else x.2.1) (setW (T 5) to r (T 5 (to + 2)).toNat 0 x.2.2)) h) := l
      rw [← l']
      have e := e
      by_cases e4 : T 5 to = 1
      · rw [if_pos e4]
        conv => lhs; rw [E7059_96]
        simp (disch := omega) only [jc_ref, rI_int, rR_ref, rR_null, rJ_long, ckR_ref, ckR_null, ckr_ref, ckr_null, ckW_int, ckW_ref, ckW_null, cI_ok, cR_ok, cR_null, cV_ok, cJ_ok, qH_eq, qD_in, aG_ref, aS_ref, aL_ref, pF_ref, cK_ref, cK_null, zI_lit, zJ_lit, zI_add, zI_sub, zI_mul, zI_neg, zI_eq, zI_lt, zI_le, Int.reduceLT, Int.reduceLE, Int.reduceAdd, Int.reduceSub, Int.reduceMul, Int.reduceNeg, Int.reduceEq, Int.reduceNe, reduceIte, tw_0, tw_1, tw_2, tw_3, tw_4, tw_5, tw_6, tw_7, tw_8, tw_9, tw_10, tw_11, tw_12, tw_13, tw_14, tw_15, tw_16, tw_17, tw_18, tw_19, tw_20, tw_21, tw_22, tw_23, tw_24, tw_25, tw_26, tw_27, tw_28, tw_29, tw_30, tw_31, ob_0, ob_1, ob_2, ob_3, ob_4, ob_5, ob_6, ob_7, ob_8, ob_9, ob_10, ob_11, ob_12, ob_13, ob_14, ob_15, ob_16, ob_17, ob_18, ob_19, ob_20, ob_21, ob_22, ob_23, ob_24, ob_25, ob_26, ob_27, ob_28, ob_29, ob_30, ob_31, ob_32, ob_33, ob_34, ob_35, ob_36, ob_37, ob_38, ob_39, ob_40, ob_41, ob_42, ob_43, ob_44, ob_45, ob_46, ob_47, ob_48, ob_49, ob_50, ob_51, ob_52, ob_53, ob_54, ob_55, ob_56, ob_57, ob_58, ob_59, ob_60, ob_61, ob_62, ob_63, ob_64, ob_65, jf7, aGi, aGb, aGz, aGj, leT, leF, ltT, ltF, eqT, eqF, tws_0, tws_1, tws_2, tws_3, tws_4, tws_5, tws_6, tws_7, tws_8, tws_9, tws_10, tws_11, tws_12, tws_13, tws_14, tws_15, tws_16, tws_17, tws_18, tws_19, tws_20, tws_21, tws_22, tws_23, tws_24, tws_25, tws_26, tws_27, tws_28, tws_29, tws_30, tws_31, obs_0, obs_2, obs_3, obs_4, obs_5, obs_12, obs_13, obs_14, obs_15, obs_16, obs_17, obs_18, obs_19, obs_20, obs_21, obs_22, obs_26, obs_31, obs_32, obs_33, obs_34, obs_35, obs_41, obs_42, obs_44, obs_48, obs_50, obs_51, obs_52, obs_55, obs_57, obs_58, obs_59, obs_60, obs_61, pF7i, aSi, beq_tt, beq_tf, beq_ft, beq_ff, Bool.true_and, Bool.false_and, Bool.and_true, Bool.and_false, Bool.true_or, Bool.false_or, Bool.or_true, Bool.or_false, Bool.true_eq_false, Bool.false_eq_true, Bool.not_true, Bool.not_false, bZ_t, bZ_f, zI_b0, zI_b1, zI_bb, okZ_0, okZ_1, f2, f5, fd, e, FT_31, FT_13, FT_s31, FT_s13, e4]
      · rw [if_neg e4]
        conv => lhs; rw [E7059_96]
        simp (disch := omega) only [jc_ref, rI_int, rR_ref, rR_null, rJ_long, ckR_ref, ckR_null, ckr_ref, ckr_null, ckW_int, ckW_ref, ckW_null, cI_ok, cR_ok, cR_null, cV_ok, cJ_ok, qH_eq, qD_in, aG_ref, aS_ref, aL_ref, pF_ref, cK_ref, cK_null, zI_lit, zJ_lit, zI_add, zI_sub, zI_mul, zI_neg, zI_eq, zI_lt, zI_le, Int.reduceLT, Int.reduceLE, Int.reduceAdd, Int.reduceSub, Int.reduceMul, Int.reduceNeg, Int.reduceEq, Int.reduceNe, reduceIte, tw_0, tw_1, tw_2, tw_3, tw_4, tw_5, tw_6, tw_7, tw_8, tw_9, tw_10, tw_11, tw_12, tw_13, tw_14, tw_15, tw_16, tw_17, tw_18, tw_19, tw_20, tw_21, tw_22, tw_23, tw_24, tw_25, tw_26, tw_27, tw_28, tw_29, tw_30, tw_31, ob_0, ob_1, ob_2, ob_3, ob_4, ob_5, ob_6, ob_7, ob_8, ob_9, ob_10, ob_11, ob_12, ob_13, ob_14, ob_15, ob_16, ob_17, ob_18, ob_19, ob_20, ob_21, ob_22, ob_23, ob_24, ob_25, ob_26, ob_27, ob_28, ob_29, ob_30, ob_31, ob_32, ob_33, ob_34, ob_35, ob_36, ob_37, ob_38, ob_39, ob_40, ob_41, ob_42, ob_43, ob_44, ob_45, ob_46, ob_47, ob_48, ob_49, ob_50, ob_51, ob_52, ob_53, ob_54, ob_55, ob_56, ob_57, ob_58, ob_59, ob_60, ob_61, ob_62, ob_63, ob_64, ob_65, jf7, aGi, aGb, aGz, aGj, leT, leF, ltT, ltF, eqT, eqF, tws_0, tws_1, tws_2, tws_3, tws_4, tws_5, tws_6, tws_7, tws_8, tws_9, tws_10, tws_11, tws_12, tws_13, tws_14, tws_15, tws_16, tws_17, tws_18, tws_19, tws_20, tws_21, tws_22, tws_23, tws_24, tws_25, tws_26, tws_27, tws_28, tws_29, tws_30, tws_31, obs_0, obs_2, obs_3, obs_4, obs_5, obs_12, obs_13, obs_14, obs_15, obs_16, obs_17, obs_18, obs_19, obs_20, obs_21, obs_22, obs_26, obs_31, obs_32, obs_33, obs_34, obs_35, obs_41, obs_42, obs_44, obs_48, obs_50, obs_51, obs_52, obs_55, obs_57, obs_58, obs_59, obs_60, obs_61, pF7i, aSi, beq_tt, beq_tf, beq_ft, beq_ff, Bool.true_and, Bool.false_and, Bool.and_true, Bool.and_false, Bool.true_or, Bool.false_or, Bool.or_true, Bool.or_false, Bool.true_eq_false, Bool.false_eq_true, Bool.not_true, Bool.not_false, bZ_t, bZ_f, zI_b0, zI_b1, zI_bb, okZ_0, okZ_1, f2, f5, fd, e, FT_31, FT_13, FT_s31, FT_s13, e4]
    · rw [if_neg e]
      obtain ⟨v3', i⟩ := ih (r + 1) x v3 hG hw n0 (by omega) (by omega) (by omega)
      refine ⟨v3', ?_⟩
      have e := Bool.eq_false_iff.mpr e
      rw [← i]
      conv => lhs; rw [E7059_96]
      simp (disch := omega) only [jc_ref, rI_int, rR_ref, rR_null, rJ_long, ckR_ref, ckR_null, ckr_ref, ckr_null, ckW_int, ckW_ref, ckW_null, cI_ok, cR_ok, cR_null, cV_ok, cJ_ok, qH_eq, qD_in, aG_ref, aS_ref, aL_ref, pF_ref, cK_ref, cK_null, zI_lit, zJ_lit, zI_add, zI_sub, zI_mul, zI_neg, zI_eq, zI_lt, zI_le, Int.reduceLT, Int.reduceLE, Int.reduceAdd, Int.reduceSub, Int.reduceMul, Int.reduceNeg, Int.reduceEq, Int.reduceNe, reduceIte, tw_0, tw_1, tw_2, tw_3, tw_4, tw_5, tw_6, tw_7, tw_8, tw_9, tw_10, tw_11, tw_12, tw_13, tw_14, tw_15, tw_16, tw_17, tw_18, tw_19, tw_20, tw_21, tw_22, tw_23, tw_24, tw_25, tw_26, tw_27, tw_28, tw_29, tw_30, tw_31, ob_0, ob_1, ob_2, ob_3, ob_4, ob_5, ob_6, ob_7, ob_8, ob_9, ob_10, ob_11, ob_12, ob_13, ob_14, ob_15, ob_16, ob_17, ob_18, ob_19, ob_20, ob_21, ob_22, ob_23, ob_24, ob_25, ob_26, ob_27, ob_28, ob_29, ob_30, ob_31, ob_32, ob_33, ob_34, ob_35, ob_36, ob_37, ob_38, ob_39, ob_40, ob_41, ob_42, ob_43, ob_44, ob_45, ob_46, ob_47, ob_48, ob_49, ob_50, ob_51, ob_52, ob_53, ob_54, ob_55, ob_56, ob_57, ob_58, ob_59, ob_60, ob_61, ob_62, ob_63, ob_64, ob_65, jf7, aGi, aGb, aGz, aGj, leT, leF, ltT, ltF, eqT, eqF, beq_tt, beq_tf, beq_ft, beq_ff, Bool.true_and, Bool.false_and, Bool.and_true, Bool.and_false, Bool.true_or, Bool.false_or, Bool.or_true, Bool.or_false, Bool.true_eq_false, Bool.false_eq_true, Bool.not_true, Bool.not_false, bZ_t, bZ_f, zI_b0, zI_b1, zI_bb, okZ_0, okZ_1, f2, f5, fd, e]
end
