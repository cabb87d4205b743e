/-! rounds end -/
def cu (g : Int → Int) : Nat → Int → Nat
  | 0, _ => 0
  | j + 1, r => (if g r = -9 then 1 else 0) + cu g j (r + 1)
theorem cu_out {g : Int → Int} {i n : Int} : ∀ (j : Nat) (r : Int), (i < r ∨ r + j ≤ i) → cu (fset g i n) j r = cu g j r := by
  intro j
  induction j with
  | zero => intro r _; rfl
  | succ j ih =>
    intro r h
    simp only [cu]
    rw [ih (r + 1) (by omega), fset_ne (by omega)]
theorem cu_in {g : Int → Int} {i n : Int} (hn : n ≠ -9) (hg : g i = -9) : ∀ (j : Nat) (r : Int), r ≤ i → i < r + j → cu (fset g i n) j r + 1 = cu g j r := by
  intro j
  induction j with
  | zero => intro r _ _; omega
  | succ j ih =>
    intro r h0 h1
    simp only [cu]
    by_cases e : r = i
    · subst e
      rw [cu_out j (r + 1) (by omega), fset_eq, if_neg hn, if_pos hg]
      omega
    · have := ih (r + 1) (by omega) (by omega)
      rw [fset_ne e]
      omega
theorem cu_le {g : Int → Int} : ∀ (j : Nat) (r : Int), cu g j r ≤ j := by
  intro j
  induction j with
  | zero => intro r; exact Nat.le_refl _
  | succ j ih =>
    intro r
    have := ih (r + 1)
    simp only [cu]
    split <;> omega
def ph (w : WS) : Nat := cu w.1 396 0 + (if w.2.2 = 1 then 1 else 0)
section
variable {w : WS} {S A Go : Int → Int}
theorem want1_P {i v : Int} (h0 : 0 ≤ i) (h1 : i < 396) (hv : v ≠ -9) : ph (want1 w i v) ≤ ph w := by
  unfold want1 ph
  by_cases e : w.1 i = -9
  · rw [if_pos e]
    have := cu_in (g := w.1) (n := v) hv e 396 0 h0 (by omega)
    simp only [if_true]
    split <;> omega
  · rw [if_neg e]
    exact Nat.le_refl _
theorem wantsA_P {r f : Int} {b : Bool} (W : StW S) (r0 : 0 ≤ r) (r1 : r < 99) (f0 : 0 ≤ f) (f1 : f < S 2) : ph (wantsA S r f b w) ≤ ph w := by
  obtain ⟨a1, a2, a3, -⟩ := W.ref f0 f1
  have key : ∀ c, 0 ≤ c → c < 4 → (if b = true then S (8 + 4 * S (58 + f) + c) else -1) ≠ -9 := by
    intro c c0 c1
    split
    · have := W.bx (i := 8 + 4 * S (58 + f) + c) (by omega) (by omega); omega
    · decide
  unfold wantsA
  have h1 : ph (if S (64 + f) < 0 then w else want1 w (4 * r + S (64 + f)) (if b = true then S (8 + 4 * S (58 + f) + S (64 + f)) else -1)) ≤ ph w := by
    split
    · exact Nat.le_refl _
    · exact want1_P (by omega) (by omega) (key _ (by omega) (by omega))
  by_cases h2 : S (70 + f) < 0
  · simp only [if_pos h2]; exact h1
  · simp only [if_neg h2]; exact Nat.le_trans (want1_P (by omega) (by omega) (key _ (by omega) (by omega))) h1
theorem folK_P {r f q : Int} (W : StW S) (hw : WsW w) (r0 : 0 ≤ r) (r1 : r < 99) (f0 : 0 ≤ f) (f1 : f < S 2) (q0 : 0 ≤ q) (q1 : q < 99) : ph (folK S r f q w) ≤ ph w := by
  obtain ⟨k1, k2, -, k3, -⟩ := W.key2 f0 f1
  have ky := W.key k1.1 k1.2
  have rf := W.ref f0 f1
  have hv : ∀ c, 0 ≤ c → c < 4 → isOth S w q c = true → w.1 (4 * q + c) ≠ -9 := fun c c0 c1 e => by have := isOth_v hw q0 q1 c0 c1 e; omega
  have key2 : ∀ w0, w0 = (if S (94 + f) ≤ 1 then w else wantsA S r f (decide (S (94 + f) = 3)) w) → ph w0 ≤ ph w ∧ ∀ c, 0 ≤ c → c < 4 → isOth S w q c = true → w0.1 (4 * q + c) ≠ -9 := by
    intro w0 e0
    subst e0
    split
    · exact ⟨Nat.le_refl _, hv⟩
    · exact ⟨wantsA_P W r0 r1 f0 f1, fun c c0 c1 e => wantsA_L W f0 f1 _ (hv c c0 c1 e)⟩
  have hab : folK S r f q w = if isOth S w q (S (46 + S (82 + f))) = false ∧ (!decide (S (52 + S (82 + f)) < 0) && isOth S w q (S (52 + S (82 + f)))) = false then w else
      if S (94 + f) ≠ 1 then (if S (94 + f) ≤ 1 then w else wantsA S r f (decide (S (94 + f) = 3)) w) else
      let w1 := if isOth S w q (S (46 + S (82 + f))) = true then want1 (if S (94 + f) ≤ 1 then w else wantsA S r f (decide (S (94 + f) = 3)) w) (4 * r + S (64 + f)) ((if S (94 + f) ≤ 1 then w else wantsA S r f (decide (S (94 + f) = 3)) w).1 (4 * q + S (46 + S (82 + f)))) else (if S (94 + f) ≤ 1 then w else wantsA S r f (decide (S (94 + f) = 3)) w)
      if (!decide (S (52 + S (82 + f)) < 0) && isOth S w q (S (52 + S (82 + f)))) = true then want1 w1 (4 * r + S (70 + f)) (w1.1 (4 * q + S (52 + S (82 + f)))) else w1 := rfl
  rw [hab]
  generalize hw0 : (if S (94 + f) ≤ 1 then w else wantsA S r f (decide (S (94 + f) = 3)) w) = w0
  obtain ⟨k4, k5⟩ := key2 w0 hw0.symm
  by_cases e1 : isOth S w q (S (46 + S (82 + f))) = false ∧ (!decide (S (52 + S (82 + f)) < 0) && isOth S w q (S (52 + S (82 + f)))) = false
  · rw [if_pos e1]; exact Nat.le_refl _
  · rw [if_neg e1]
    by_cases e2 : S (94 + f) ≠ 1
    · rw [if_pos e2]; exact k4
    · rw [if_neg e2]
      have hA : ph (if isOth S w q (S (46 + S (82 + f))) = true then want1 w0 (4 * r + S (64 + f)) (w0.1 (4 * q + S (46 + S (82 + f)))) else w0) ≤ ph w ∧ ∀ c, 0 ≤ c → c < 4 → isOth S w q c = true → (if isOth S w q (S (46 + S (82 + f))) = true then want1 w0 (4 * r + S (64 + f)) (w0.1 (4 * q + S (46 + S (82 + f)))) else w0).1 (4 * q + c) ≠ -9 := by
        by_cases e : isOth S w q (S (46 + S (82 + f))) = true
        · rw [if_pos e]
          have hv := k5 _ ky.2.1.1 ky.2.1.2 e
          exact ⟨Nat.le_trans (want1_P (by omega) (by omega) hv) k4, fun c c0 c1 hc => want1_L hv _ (k5 c c0 c1 hc)⟩
        · rw [if_neg e]; exact ⟨k4, k5⟩
      simp only
      generalize (if isOth S w q (S (46 + S (82 + f))) = true then want1 w0 (4 * r + S (64 + f)) (w0.1 (4 * q + S (46 + S (82 + f)))) else w0) = w1 at hA ⊢
      split
      · rename_i e
        simp only [Bool.and_eq_true, Bool.not_eq_true', decide_eq_false_iff_not] at e
        exact Nat.le_trans (want1_P (by omega) (by omega) (hA.2 _ (by omega) ky.2.2.1.2 e.2)) hA.1
      · exact hA.1
theorem fol1_P {r f q : Int} (W : StW S) (hw : WsW w) (r0 : 0 ≤ r) (r1 : r < 99) (f0 : 0 ≤ f) (f1 : f < S 2) (q1 : q < 99) : ph (fol1 S Go r f q w) ≤ ph w := by
  unfold fol1
  split
  · exact Nat.le_refl _
  · split
    · exact folK_P W hw r0 r1 f0 f1 (by omega) q1
    · split
      · exact Nat.le_refl _
      · exact wantsA_P W r0 r1 f0 f1
theorem folS_P (W : StW S) (hA : AhW A) {r : Int} (r0 : 0 ≤ r) (r1 : r < 99) : ∀ (j : Nat) (f : Int) (w : WS), WsW w → 0 ≤ f → f + j = S 2 → ph (folS S A Go r j f w) ≤ ph w := by
  intro j
  induction j with
  | zero => intro f w hw _ _; exact Nat.le_refl _
  | succ j ih =>
    intro f w hw f0 hf
    have n := W.n0
    have q := (q_rg (S := S) hA r0 r1 f0 (show f < 6 by omega)).2
    exact Nat.le_trans (ih (f + 1) _ (fol1_W W hw f0 (by omega) q) (by omega) (by omega)) (fol1_P W hw r0 r1 f0 (by omega) q)
theorem folR_P (W : StW S) (hA : AhW A) : ∀ (j : Nat) (r : Int) (w : WS), WsW w → 0 ≤ r → r + j = 99 → ph (folR S A Go j r w) ≤ ph w := by
  intro j
  induction j with
  | zero => intro r w hw _ _; exact Nat.le_refl _
  | succ j ih =>
    intro r w hw r0 hr
    have n := W.n0
    simp only [folR]
    by_cases e : S (150 + r) = 1 ∧ Go r < 0
    · rw [if_pos e]
      exact Nat.le_trans (ih (r + 1) _ (folS_W W hA r0 (by omega) _ 0 w hw (by omega) (by omega)) (by omega) (by omega)) (folS_P W hA r0 (by omega) _ 0 w hw (by omega) (by omega))
    · rw [if_neg e]
      exact ih (r + 1) _ hw (by omega) (by omega)
end
section
variable {d m : Nat} {T : Nat → Int → Int} {h : AH} {to : Int}
theorem jd_272 {v3 : Value} (W : StW (T 2)) (hA : AhW (T 12)) (hG : GoW (T 13)) : ∀ (j : Nat) (r : Int) (w : WS), WsW w → 0 ≤ r → r + j = 99 →
    G (d + 4) 7059 272 [.ref m, .int (zI to), .int (zI r), v3] [] (tw m (putW T w) h) = G (d + 4) 7059 251 [.ref m, .int (zI to), .int (zI 99), v3] [] (tw m (putW T (folR (T 2) (T 12) (T 13) j r w)) h) := by
  have n := W.n0
  have p2 : ∀ w, putW T w 2 = T 2 := fun w => putW_at (by decide) (by decide)
  have p13 : ∀ w, putW T w 13 = T 13 := fun w => putW_at (by decide) (by decide)
  intro j
  induction j with
  | zero =>
    intro r w hw r0 hr
    obtain rfl : r = 99 := by omega
    simp only [folR]
    conv => lhs; rw [E7059_272]
    simp (disch := omega) only [jc_ref, rI_int, rR_ref, rR_null, rJ_long, ckR_ref, ckR_null, ckr_ref, ckr_null, ckW_int, ckW_ref, ckW_null, cI_ok, cR_ok, cR_null, cV_ok, cJ_ok, qH_eq, qD_in, aG_ref, aS_ref, aL_ref, pF_ref, cK_ref, cK_null, zI_lit, zJ_lit, zI_add, zI_sub, zI_mul, zI_neg, zI_eq, zI_lt, zI_le, Int.reduceLT, Int.reduceLE, Int.reduceAdd, Int.reduceSub, Int.reduceMul, Int.reduceNeg, Int.reduceEq, Int.reduceNe, reduceIte, tw_0, tw_1, tw_2, tw_3, tw_4, tw_5, tw_6, tw_7, tw_8, tw_9, tw_10, tw_11, tw_12, tw_13, tw_14, tw_15, tw_16, tw_17, tw_18, tw_19, tw_20, tw_21, tw_22, tw_23, tw_24, tw_25, tw_26, tw_27, tw_28, tw_29, tw_30, tw_31, ob_0, ob_1, ob_2, ob_3, ob_4, ob_5, ob_6, ob_7, ob_8, ob_9, ob_10, ob_11, ob_12, ob_13, ob_14, ob_15, ob_16, ob_17, ob_18, ob_19, ob_20, ob_21, ob_22, ob_23, ob_24, ob_25, ob_26, ob_27, ob_28, ob_29, ob_30, ob_31, ob_32, ob_33, ob_34, ob_35, ob_36, ob_37, ob_38, ob_39, ob_40, ob_41, ob_42, ob_43, ob_44, ob_45, ob_46, ob_47, ob_48, ob_49, ob_50, ob_51, ob_52, ob_53, ob_54, ob_55, ob_56, ob_57, ob_58, ob_59, ob_60, ob_61, ob_62, ob_63, ob_64, ob_65, jf7, aGi, aGb, aGz, aGj, leT, leF, ltT, ltF, eqT, eqF]
  | succ j ih =>
    intro r w hw r0 hr
    have al := W.al r0 (show r < 99 by omega)
    have g := hG r r0 (by omega)
    simp only [folR]
    by_cases e1 : T 2 (150 + r) = 1
    · by_cases e2 : T 13 r < 0
      · rw [if_pos ⟨e1, e2⟩]
        have fo := tm_follows (d := d) (m := m) (h := h) (T := T) W hA hG r0 (show r < 99 by omega) hw
        have ih' := ih (r + 1) _ (folS_W (Go := T 13) W hA r0 (show r < 99 by omega) (T 2 2).toNat 0 w hw (by omega) (by omega)) (by omega) (by omega)
        rw [← ih']
        conv => lhs; rw [E7059_272]
        simp (disch := omega) only [jc_ref, rI_int, rR_ref, rR_null, rJ_long, ckR_ref, ckR_null, ckr_ref, ckr_null, ckW_int, ckW_ref, ckW_null, cI_ok, cR_ok, cR_null, cV_ok, cJ_ok, qH_eq, qD_in, aG_ref, aS_ref, aL_ref, pF_ref, cK_ref, cK_null, zI_lit, zJ_lit, zI_add, zI_sub, zI_mul, zI_neg, zI_eq, zI_lt, zI_le, Int.reduceLT, Int.reduceLE, Int.reduceAdd, Int.reduceSub, Int.reduceMul, Int.reduceNeg, Int.reduceEq, Int.reduceNe, reduceIte, tw_0, tw_1, tw_2, tw_3, tw_4, tw_5, tw_6, tw_7, tw_8, tw_9, tw_10, tw_11, tw_12, tw_13, tw_14, tw_15, tw_16, tw_17, tw_18, tw_19, tw_20, tw_21, tw_22, tw_23, tw_24, tw_25, tw_26, tw_27, tw_28, tw_29, tw_30, tw_31, ob_0, ob_1, ob_2, ob_3, ob_4, ob_5, ob_6, ob_7, ob_8, ob_9, ob_10, ob_11, ob_12, ob_13, ob_14, ob_15, ob_16, ob_17, ob_18, ob_19, ob_20, ob_21, ob_22, ob_23, ob_24, ob_25, ob_26, ob_27, ob_28, ob_29, ob_30, ob_31, ob_32, ob_33, ob_34, ob_35, ob_36, ob_37, ob_38, ob_39, ob_40, ob_41, ob_42, ob_43, ob_44, ob_45, ob_46, ob_47, ob_48, ob_49, ob_50, ob_51, ob_52, ob_53, ob_54, ob_55, ob_56, ob_57, ob_58, ob_59, ob_60, ob_61, ob_62, ob_63, ob_64, ob_65, jf7, aGi, aGb, aGz, aGj, leT, leF, ltT, ltF, eqT, eqF, p2, p13, e1, e2, fo]
      · rw [if_neg (by simp [e2])]
        rw [← ih (r + 1) w hw (by omega) (by omega)]
        conv => lhs; rw [E7059_272]
        simp (disch := omega) only [jc_ref, rI_int, rR_ref, rR_null, rJ_long, ckR_ref, ckR_null, ckr_ref, ckr_null, ckW_int, ckW_ref, ckW_null, cI_ok, cR_ok, cR_null, cV_ok, cJ_ok, qH_eq, qD_in, aG_ref, aS_ref, aL_ref, pF_ref, cK_ref, cK_null, zI_lit, zJ_lit, zI_add, zI_sub, zI_mul, zI_neg, zI_eq, zI_lt, zI_le, Int.reduceLT, Int.reduceLE, Int.reduceAdd, Int.reduceSub, Int.reduceMul, Int.reduceNeg, Int.reduceEq, Int.reduceNe, reduceIte, tw_0, tw_1, tw_2, tw_3, tw_4, tw_5, tw_6, tw_7, tw_8, tw_9, tw_10, tw_11, tw_12, tw_13, tw_14, tw_15, tw_16, tw_17, tw_18, tw_19, tw_20, tw_21, tw_22, tw_23, tw_24, tw_25, tw_26, tw_27, tw_28, tw_29, tw_30, tw_31, ob_0, ob_1, ob_2, ob_3, ob_4, ob_5, ob_6, ob_7, ob_8, ob_9, ob_10, ob_11, ob_12, ob_13, ob_14, ob_15, ob_16, ob_17, ob_18, ob_19, ob_20, ob_21, ob_22, ob_23, ob_24, ob_25, ob_26, ob_27, ob_28, ob_29, ob_30, ob_31, ob_32, ob_33, ob_34, ob_35, ob_36, ob_37, ob_38, ob_39, ob_40, ob_41, ob_42, ob_43, ob_44, ob_45, ob_46, ob_47, ob_48, ob_49, ob_50, ob_51, ob_52, ob_53, ob_54, ob_55, ob_56, ob_57, ob_58, ob_59, ob_60, ob_61, ob_62, ob_63, ob_64, ob_65, jf7, aGi, aGb, aGz, aGj, leT, leF, ltT, ltF, eqT, eqF, p2, p13, e1, e2]
    · rw [if_neg (by simp [e1])]
      rw [← ih (r + 1) w hw (by omega) (by omega)]
      conv => lhs; rw [E7059_272]
      simp (disch := omega) only [jc_ref, rI_int, rR_ref, rR_null, rJ_long, ckR_ref, ckR_null, ckr_ref, ckr_null, ckW_int, ckW_ref, ckW_null, cI_ok, cR_ok, cR_null, cV_ok, cJ_ok, qH_eq, qD_in, aG_ref, aS_ref, aL_ref, pF_ref, cK_ref, cK_null, zI_lit, zJ_lit, zI_add, zI_sub, zI_mul, zI_neg, zI_eq, zI_lt, zI_le, Int.reduceLT, Int.reduceLE, Int.reduceAdd, Int.reduceSub, Int.reduceMul, Int.reduceNeg, Int.reduceEq, Int.reduceNe, reduceIte, tw_0, tw_1, tw_2, tw_3, tw_4, tw_5, tw_6, tw_7, tw_8, tw_9, tw_10, tw_11, tw_12, tw_13, tw_14, tw_15, tw_16, tw_17, tw_18, tw_19, tw_20, tw_21, tw_22, tw_23, tw_24, tw_25, tw_26, tw_27, tw_28, tw_29, tw_30, tw_31, ob_0, ob_1, ob_2, ob_3, ob_4, ob_5, ob_6, ob_7, ob_8, ob_9, ob_10, ob_11, ob_12, ob_13, ob_14, ob_15, ob_16, ob_17, ob_18, ob_19, ob_20, ob_21, ob_22, ob_23, ob_24, ob_25, ob_26, ob_27, ob_28, ob_29, ob_30, ob_31, ob_32, ob_33, ob_34, ob_35, ob_36, ob_37, ob_38, ob_39, ob_40, ob_41, ob_42, ob_43, ob_44, ob_45, ob_46, ob_47, ob_48, ob_49, ob_50, ob_51, ob_52, ob_53, ob_54, ob_55, ob_56, ob_57, ob_58, ob_59, ob_60, ob_61, ob_62, ob_63, ob_64, ob_65, jf7, aGi, aGb, aGz, aGj, leT, leF, ltT, ltF, eqT, eqF, p2, p13, e1]
theorem jd_251 {v3 : Value} (W : StW (T 2)) (hA : AhW (T 12)) (hG : GoW (T 13)) : ∀ (k : Nat) (i2 : Int) (w : WS), WsW w → cu w.1 396 0 < k →
    ∃ i2', G (d + 4) 7059 251 [.ref m, .int (zI to), .int (zI i2), v3] [] (tw m (putW T w) h) = G (d + 4) 7059 315 [.ref m, .int (zI to), .int (zI i2'), v3] [] (tw m (putW T (rounds (T 2) (T 12) (T 13) k w)) h) ∧ WsW (rounds (T 2) (T 12) (T 13) k w) := by
  intro k
  induction k with
  | zero => intro i2 w hw hk; omega
  | succ k ih =>
    intro i2 w hw hk
    obtain ⟨a, b, c⟩ := id hw
    simp only [rounds]
    by_cases e1 : w.2.2 = 0
    · rw [if_pos (Or.inl e1)]
      refine ⟨i2, ?_, hw⟩
      conv => lhs; rw [E7059_251]
      simp (disch := omega) only [jc_ref, rI_int, rR_ref, rR_null, rJ_long, ckR_ref, ckR_null, ckr_ref, ckr_null, ckW_int, ckW_ref, ckW_null, cI_ok, cR_ok, cR_null, cV_ok, cJ_ok, qH_eq, qD_in, aG_ref, aS_ref, aL_ref, pF_ref, cK_ref, cK_null, zI_lit, zJ_lit, zI_add, zI_sub, zI_mul, zI_neg, zI_eq, zI_lt, zI_le, Int.reduceLT, Int.reduceLE, Int.reduceAdd, Int.reduceSub, Int.reduceMul, Int.reduceNeg, Int.reduceEq, Int.reduceNe, reduceIte, tw_0, tw_1, tw_2, tw_3, tw_4, tw_5, tw_6, tw_7, tw_8, tw_9, tw_10, tw_11, tw_12, tw_13, tw_14, tw_15, tw_16, tw_17, tw_18, tw_19, tw_20, tw_21, tw_22, tw_23, tw_24, tw_25, tw_26, tw_27, tw_28, tw_29, tw_30, tw_31, ob_0, ob_1, ob_2, ob_3, ob_4, ob_5, ob_6, ob_7, ob_8, ob_9, ob_10, ob_11, ob_12, ob_13, ob_14, ob_15, ob_16, ob_17, ob_18, ob_19, ob_20, ob_21, ob_22, ob_23, ob_24, ob_25, ob_26, ob_27, ob_28, ob_29, ob_30, ob_31, ob_32, ob_33, ob_34, ob_35, ob_36, ob_37, ob_38, ob_39, ob_40, ob_41, ob_42, ob_43, ob_44, ob_45, ob_46, ob_47, ob_48, ob_49, ob_50, ob_51, ob_52, ob_53, ob_54, ob_55, ob_56, ob_57, ob_58, ob_59, ob_60, ob_61, ob_62, ob_63, ob_64, ob_65, jf7, aGi, aGb, aGz, aGj, leT, leF, ltT, ltF, eqT, eqF, putW_w, putW_cl, putW_mo, putW_s11, putW_s34, putW_s35, putW_at, e1]
    · by_cases e2 : w.2.1 = 1
      · rw [if_pos (Or.inr e2)]
        refine ⟨i2, ?_, hw⟩
        conv => lhs; rw [E7059_251]
        simp (disch := omega) only [jc_ref, rI_int, rR_ref, rR_null, rJ_long, ckR_ref, ckR_null, ckr_ref, ckr_null, ckW_int, ckW_ref, ckW_null, cI_ok, cR_ok, cR_null, cV_ok, cJ_ok, qH_eq, qD_in, aG_ref, aS_ref, aL_ref, pF_ref, cK_ref, cK_null, zI_lit, zJ_lit, zI_add, zI_sub, zI_mul, zI_neg, zI_eq, zI_lt, zI_le, Int.reduceLT, Int.reduceLE, Int.reduceAdd, Int.reduceSub, Int.reduceMul, Int.reduceNeg, Int.reduceEq, Int.reduceNe, reduceIte, tw_0, tw_1, tw_2, tw_3, tw_4, tw_5, tw_6, tw_7, tw_8, tw_9, tw_10, tw_11, tw_12, tw_13, tw_14, tw_15, tw_16, tw_17, tw_18, tw_19, tw_20, tw_21, tw_22, tw_23, tw_24, tw_25, tw_26, tw_27, tw_28, tw_29, tw_30, tw_31, ob_0, ob_1, ob_2, ob_3, ob_4, ob_5, ob_6, ob_7, ob_8, ob_9, ob_10, ob_11, ob_12, ob_13, ob_14, ob_15, ob_16, ob_17, ob_18, ob_19, ob_20, ob_21, ob_22, ob_23, ob_24, ob_25, ob_26, ob_27, ob_28, ob_29, ob_30, ob_31, ob_32, ob_33, ob_34, ob_35, ob_36, ob_37, ob_38, ob_39, ob_40, ob_41, ob_42, ob_43, ob_44, ob_45, ob_46, ob_47, ob_48, ob_49, ob_50, ob_51, ob_52, ob_53, ob_54, ob_55, ob_56, ob_57, ob_58, ob_59, ob_60, ob_61, ob_62, ob_63, ob_64, ob_65, jf7, aGi, aGb, aGz, aGj, leT, leF, ltT, ltF, eqT, eqF, putW_w, putW_cl, putW_mo, putW_s11, putW_s34, putW_s35, putW_at, e1, e2]
      · rw [if_neg (by omega)]
        have hw0 : WsW (w.1, w.2.1, 0) := ⟨a, b, Or.inl rfl⟩
        have l := jd_272 (d := d) (m := m) (h := h) (to := to) (v3 := v3) W hA hG 99 0 (w.1, w.2.1, 0) hw0 (by omega) (by omega)
        have hW := folR_W (Go := T 13) W hA 99 0 (w.1, w.2.1, 0) hw0 (by omega) (by omega)
        have hp := folR_P (Go := T 13) W hA 99 0 (w.1, w.2.1, 0) hw0 (by omega) (by omega)
        have hgo : G (d + 4) 7059 251 [.ref m, .int (zI to), .int (zI i2), v3] [] (tw m (putW T w) h) = G (d + 4) 7059 251 [.ref m, .int (zI to), .int (zI 99), v3] [] (tw m (putW T (folR (T 2) (T 12) (T 13) 99 0 (w.1, w.2.1, 0))) h) := by
          rw [← l]
          conv => lhs; rw [E7059_251]
          simp (disch := omega) only [jc_ref, rI_int, rR_ref, rR_null, rJ_long, ckR_ref, ckR_null, ckr_ref, ckr_null, ckW_int, ckW_ref, ckW_null, cI_ok, cR_ok, cR_null, cV_ok, cJ_ok, qH_eq, qD_in, aG_ref, aS_ref, aL_ref, pF_ref, cK_ref, cK_null, zI_lit, zJ_lit, zI_add, zI_sub, zI_mul, zI_neg, zI_eq, zI_lt, zI_le, Int.reduceLT, Int.reduceLE, Int.reduceAdd, Int.reduceSub, Int.reduceMul, Int.reduceNeg, Int.reduceEq, Int.reduceNe, reduceIte, tw_0, tw_1, tw_2, tw_3, tw_4, tw_5, tw_6, tw_7, tw_8, tw_9, tw_10, tw_11, tw_12, tw_13, tw_14, tw_15, tw_16, tw_17, tw_18, tw_19, tw_20, tw_21, tw_22, tw_23, tw_24, tw_25, tw_26, tw_27, tw_28, tw_29, tw_30, tw_31, ob_0, ob_1, ob_2, ob_3, ob_4, ob_5, ob_6, ob_7, ob_8, ob_9, ob_10, ob_11, ob_12, ob_13, ob_14, ob_15, ob_16, ob_17, ob_18, ob_19, ob_20, ob_21, ob_22, ob_23, ob_24, ob_25, ob_26, ob_27, ob_28, ob_29, ob_30, ob_31, ob_32, ob_33, ob_34, ob_35, ob_36, ob_37, ob_38, ob_39, ob_40, ob_41, ob_42, ob_43, ob_44, ob_45, ob_46, ob_47, ob_48, ob_49, ob_50, ob_51, ob_52, ob_53, ob_54, ob_55, ob_56, ob_57, ob_58, ob_59, ob_60, ob_61, ob_62, ob_63, ob_64, ob_65, jf7, aGi, aGb, aGz, aGj, leT, leF, ltT, ltF, eqT, eqF, tws_0, tws_1, tws_2, tws_3, tws_4, tws_5, tws_6, tws_7, tws_8, tws_9, tws_10, tws_11, tws_12, tws_13, tws_14, tws_15, tws_16, tws_17, tws_18, tws_19, tws_20, tws_21, tws_22, tws_23, tws_24, tws_25, tws_26, tws_27, tws_28, tws_29, tws_30, tws_31, obs_0, obs_2, obs_3, obs_4, obs_5, obs_12, obs_13, obs_14, obs_15, obs_16, obs_17, obs_18, obs_19, obs_20, obs_21, obs_22, obs_26, obs_31, obs_32, obs_33, obs_34, obs_35, obs_41, obs_42, obs_44, obs_48, obs_50, obs_51, obs_52, obs_55, obs_57, obs_58, obs_59, obs_60, obs_61, pF7i, pF7z, pF7j, aSi, aSj, aSb1, aSb24, aSb28, aSb31, ts, tg_eq, tg_ne, tg_tg, fset_eq, fset_ne, putW_w, putW_cl, putW_mo, putW_s11, putW_s34, putW_s35, putW_at, e1, e2]
        rw [hgo]
        unfold ph at hp
        generalize folR (T 2) (T 12) (T 13) 99 0 (w.1, w.2.1, 0) = y at hW hp ⊢
        simp only [show ¬ ((0 : Int) = 1) by decide, if_false, Nat.add_zero] at hp
        by_cases e3 : y.2.2 = 1
        · rw [if_pos e3] at hp
          exact ih 99 y hW (by omega)
        · have e4 : y.2.2 = 0 := by rcases hW.2.2 with e | e <;> omega
          have er : rounds (T 2) (T 12) (T 13) k y = y := by
            cases k with
            | zero => rfl
            | succ k => simp only [rounds]; rw [if_pos (Or.inl e4)]
          rw [er]
          refine ⟨99, ?_, hW⟩
          conv => lhs; rw [E7059_251]
          simp (disch := omega) only [jc_ref, rI_int, rR_ref, rR_null, rJ_long, ckR_ref, ckR_null, ckr_ref, ckr_null, ckW_int, ckW_ref, ckW_null, cI_ok, cR_ok, cR_null, cV_ok, cJ_ok, qH_eq, qD_in, aG_ref, aS_ref, aL_ref, pF_ref, cK_ref, cK_null, zI_lit, zJ_lit, zI_add, zI_sub, zI_mul, zI_neg, zI_eq, zI_lt, zI_le, Int.reduceLT, Int.reduceLE, Int.reduceAdd, Int.reduceSub, Int.reduceMul, Int.reduceNeg, Int.reduceEq, Int.reduceNe, reduceIte, tw_0, tw_1, tw_2, tw_3, tw_4, tw_5, tw_6, tw_7, tw_8, tw_9, tw_10, tw_11, tw_12, tw_13, tw_14, tw_15, tw_16, tw_17, tw_18, tw_19, tw_20, tw_21, tw_22, tw_23, tw_24, tw_25, tw_26, tw_27, tw_28, tw_29, tw_30, tw_31, ob_0, ob_1, ob_2, ob_3, ob_4, ob_5, ob_6, ob_7, ob_8, ob_9, ob_10, ob_11, ob_12, ob_13, ob_14, ob_15, ob_16, ob_17, ob_18, ob_19, ob_20, ob_21, ob_22, ob_23, ob_24, ob_25, ob_26, ob_27, ob_28, ob_29, ob_30, ob_31, ob_32, ob_33, ob_34, ob_35, ob_36, ob_37, ob_38, ob_39, ob_40, ob_41, ob_42, ob_43, ob_44, ob_45, ob_46, ob_47, ob_48, ob_49, ob_50, ob_51, ob_52, ob_53, ob_54, ob_55, ob_56, ob_57, ob_58, ob_59, ob_60, ob_61, ob_62, ob_63, ob_64, ob_65, jf7, aGi, aGb, aGz, aGj, leT, leF, ltT, ltF, eqT, eqF, putW_w, putW_cl, putW_mo, putW_s11, putW_s34, putW_s35, putW_at, e4]
end
