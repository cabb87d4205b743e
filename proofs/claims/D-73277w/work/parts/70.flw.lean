/-! what a row follows; the rounds -/
def AhW (A : Int → Int) : Prop := ∀ i, 0 ≤ i → i < 594 → -1 ≤ A i ∧ A i < 99
def GoW (Go : Int → Int) : Prop := ∀ i, 0 ≤ i → i < 99 → -1 ≤ Go i ∧ Go i ≤ 200
section
variable (S A Go : Int → Int)
def fol1 (r f q : Int) (w : WS) : WS := if q < 0 then w else if Go q < 0 then folK S r f q w else if S (88 + f) ≤ 1 then w else wantsA S r f (decide (S (88 + f) = 3)) w
def folS (r : Int) : Nat → Int → WS → WS
  | 0, _, w => w
  | j + 1, f, w => folS r j (f + 1) (fol1 S Go r f (if S (58 + f) = S (249 + r) then A (6 * r + f) else -1) w)
def folR : Nat → Int → WS → WS
  | 0, _, w => w
  | j + 1, r, w => folR j (r + 1) (if S (150 + r) = 1 ∧ Go r < 0 then folS S A Go r (S 2).toNat 0 w else w)
/-- rounds, as long as there is more and nothing clashes -/
def rounds : Nat → WS → WS
  | 0, w => w
  | n + 1, w => if w.2.2 = 0 ∨ w.2.1 = 1 then w else rounds n (folR S A Go 99 0 (w.1, w.2.1, 0))
end
section
variable {d m : Nat} {T : Nat → Int → Int} {h : AH} {w : WS} {S A Go : Int → Int}
theorem folK_W {r f q : Int} (W : StW S) (hw : WsW w) (f0 : 0 ≤ f) (f1 : f < S 2) (q0 : 0 ≤ q) (q1 : q < 99) : WsW (folK S r f q w) := by
  obtain ⟨k1, k2, -, k3, -⟩ := W.key2 f0 f1
  have ky := W.key k1.1 k1.2
  have key : ∀ w0, WsW w0 → (∀ c, 0 ≤ c → c < 4 → isOth S w q c = true → -1 ≤ w0.1 (4 * q + c) ∧ w0.1 (4 * q + c) ≤ 99) →
      WsW (let w1 := if isOth S w q (S (46 + S (82 + f))) = true then want1 w0 (4 * r + S (64 + f)) (w0.1 (4 * q + S (46 + S (82 + f)))) else w0
      if (!decide (S (52 + S (82 + f)) < 0) && isOth S w q (S (52 + S (82 + f)))) = true then want1 w1 (4 * r + S (70 + f)) (w1.1 (4 * q + S (52 + S (82 + f)))) else w1) := by
    intro w0 h0 h1
    have hA : WsW (if isOth S w q (S (46 + S (82 + f))) = true then want1 w0 (4 * r + S (64 + f)) (w0.1 (4 * q + S (46 + S (82 + f)))) else w0) ∧ ∀ c, 0 ≤ c → c < 4 → isOth S w q c = true → -1 ≤ (if isOth S w q (S (46 + S (82 + f))) = true then want1 w0 (4 * r + S (64 + f)) (w0.1 (4 * q + S (46 + S (82 + f)))) else w0).1 (4 * q + c) ∧ (if isOth S w q (S (46 + S (82 + f))) = true then want1 w0 (4 * r + S (64 + f)) (w0.1 (4 * q + S (46 + S (82 + f)))) else w0).1 (4 * q + c) ≤ 99 := by
      by_cases e : isOth S w q (S (46 + S (82 + f))) = true
      · rw [if_pos e]
        have hv := h1 _ ky.2.1.1 ky.2.1.2 e
        have hW := want1_W (i := 4 * r + S (64 + f)) h0 hv
        refine ⟨hW, fun c c0 c1 hc => ?_⟩
        have h2 := h1 c c0 c1 hc
        have h3 := want1_L (w := w0) (i := 4 * r + S (64 + f)) (v := w0.1 (4 * q + S (46 + S (82 + f)))) (by omega) (4 * q + c) (by omega)
        rcases hW.1 (4 * q + c) (by omega) (by omega) with h4 | h4
        · exact absurd h4 h3
        · exact h4
      · rw [if_neg e]; exact ⟨h0, h1⟩
    simp only
    generalize (if isOth S w q (S (46 + S (82 + f))) = true then want1 w0 (4 * r + S (64 + f)) (w0.1 (4 * q + S (46 + S (82 + f)))) else w0) = w1 at hA ⊢
    split
    · rename_i e
      simp only [Bool.and_eq_true, Bool.not_eq_true', decide_eq_false_iff_not] at e
      exact want1_W hA.1 (hA.2 _ (by omega) ky.2.2.1.2 e.2)
    · exact hA.1
  have hv : ∀ c, 0 ≤ c → c < 4 → isOth S w q c = true → -1 ≤ w.1 (4 * q + c) ∧ w.1 (4 * q + c) ≤ 99 := fun c c0 c1 e => isOth_v hw q0 q1 c0 c1 e
  have key2 : ∀ w0, w0 = (if S (94 + f) ≤ 1 then w else wantsA S r f (decide (S (94 + f) = 3)) w) → WsW w0 ∧ (∀ c, 0 ≤ c → c < 4 → isOth S w q c = true → -1 ≤ w0.1 (4 * q + c) ∧ w0.1 (4 * q + c) ≤ 99) := by
    intro w0 e0
    subst e0
    split
    · exact ⟨hw, hv⟩
    · have h5 : WsW (wantsA S r f (decide (S (94 + f) = 3)) w) := wantsA_W W hw f0 f1
      refine ⟨h5, fun c c0 c1 e => ?_⟩
      have h2 := hv c c0 c1 e
      have h3 := wantsA_L (w := w) (r := r) (b := decide (S (94 + f) = 3)) W f0 f1 (4 * q + c) (by omega)
      rcases h5.1 (4 * q + c) (by omega) (by omega) with h4 | h4
      · exact absurd h4 h3
      · exact h4
  have hab : folK S r f q w = if isOth S w q (S (46 + S (82 + f))) = false ∧ (!decide (S (52 + S (82 + f)) < 0) && isOth S w q (S (52 + S (82 + f)))) = false then w else
      if S (94 + f) ≠ 1 then (if S (94 + f) ≤ 1 then w else wantsA S r f (decide (S (94 + f) = 3)) w) else
      let w1 := if isOth S w q (S (46 + S (82 + f))) = true then want1 (if S (94 + f) ≤ 1 then w else wantsA S r f (decide (S (94 + f) = 3)) w) (4 * r + S (64 + f)) ((if S (94 + f) ≤ 1 then w else wantsA S r f (decide (S (94 + f) = 3)) w).1 (4 * q + S (46 + S (82 + f)))) else (if S (94 + f) ≤ 1 then w else wantsA S r f (decide (S (94 + f) = 3)) w)
      if (!decide (S (52 + S (82 + f)) < 0) && isOth S w q (S (52 + S (82 + f)))) = true then want1 w1 (4 * r + S (70 + f)) (w1.1 (4 * q + S (52 + S (82 + f)))) else w1 := rfl
  rw [hab]
  generalize hw0 : (if S (94 + f) ≤ 1 then w else wantsA S r f (decide (S (94 + f) = 3)) w) = w0
  obtain ⟨k4, k5⟩ := key2 w0 hw0.symm
  by_cases e1 : isOth S w q (S (46 + S (82 + f))) = false ∧ (!decide (S (52 + S (82 + f)) < 0) && isOth S w q (S (52 + S (82 + f)))) = false
  · rw [if_pos e1]; exact hw
  · rw [if_neg e1]
    by_cases e2 : S (94 + f) ≠ 1
    · rw [if_pos e2]; exact k4
    · rw [if_neg e2]; exact key w0 k4 k5
theorem fol1_W {r f q : Int} (W : StW S) (hw : WsW w) (f0 : 0 ≤ f) (f1 : f < S 2) (q1 : q < 99) : WsW (fol1 S Go r f q w) := by
  unfold fol1
  split
  · exact hw
  · split
    · exact folK_W W hw f0 f1 (by omega) q1
    · split
      · exact hw
      · exact wantsA_W W hw f0 f1
theorem q_rg {r f : Int} (hA : AhW A) (r0 : 0 ≤ r) (r1 : r < 99) (f0 : 0 ≤ f) (f1 : f < 6) : -1 ≤ (if S (58 + f) = S (249 + r) then A (6 * r + f) else -1) ∧ (if S (58 + f) = S (249 + r) then A (6 * r + f) else -1) < 99 := by
  split
  · exact hA _ (by omega) (by omega)
  · omega
theorem folS_W (W : StW S) (hA : AhW A) {r : Int} (r0 : 0 ≤ r) (r1 : r < 99) : ∀ (j : Nat) (f : Int) (w : WS), WsW w → 0 ≤ f → f + j = S 2 → WsW (folS S A Go r j f w) := by
  intro j
  induction j with
  | zero => intro f w hw _ _; exact hw
  | succ j ih =>
    intro f w hw f0 hf
    have n := W.n0
    exact ih (f + 1) _ (fol1_W W hw f0 (by omega) (q_rg hA r0 r1 f0 (by omega)).2) (by omega) (by omega)
theorem folR_W (W : StW S) (hA : AhW A) : ∀ (j : Nat) (r : Int) (w : WS), WsW w → 0 ≤ r → r + j = 99 → WsW (folR S A Go j r w) := by
  intro j
  induction j with
  | zero => intro r w hw _ _; exact hw
  | succ j ih =>
    intro r w hw r0 hr
    have n := W.n0
    refine ih (r + 1) _ ?_ (by omega) (by omega)
    split
    · exact folS_W W hA r0 (by omega) _ 0 w hw (by omega) (by omega)
    · exact hw
theorem fl_2 {r : Int} (W : StW (T 2)) (hA : AhW (T 12)) (hG : GoW (T 13)) (r0 : 0 ≤ r) (r1 : r < 99) : ∀ (j : Nat) (f : Int) (w : WS) (v3 : Value), WsW w → 0 ≤ f → f + j = T 2 2 →
    G (d + 3) 7028 2 [.ref m, .int (zI r), .int (zI f), v3] [] (tw m (putW T w) h) = some (.inl none, tw m (putW T (folS (T 2) (T 12) (T 13) r j f w)) h) := by
  have n := W.n0
  have p2 : ∀ w, putW T w 2 = T 2 := fun w => putW_at (by decide) (by decide)
  have p12 : ∀ w, putW T w 12 = T 12 := fun w => putW_at (by decide) (by decide)
  have p13 : ∀ w, putW T w 13 = T 13 := fun w => putW_at (by decide) (by decide)
  intro j
  induction j with
  | zero =>
    intro f w v3 hw f0 hf
    rw [E7028_2]
    simp (disch := omega) only [jc_ref, rI_int, rR_ref, rR_null, rJ_long, ckR_ref, ckR_null, ckr_ref, ckr_null, ckW_int, ckW_ref, ckW_null, cI_ok, cR_ok, cR_null, cV_ok, cJ_ok, qH_eq, qD_in, aG_ref, aS_ref, aL_ref, pF_ref, cK_ref, cK_null, zI_lit, zJ_lit, zI_add, zI_sub, zI_mul, zI_neg, zI_eq, zI_lt, zI_le, Int.reduceLT, Int.reduceLE, Int.reduceAdd, Int.reduceSub, Int.reduceMul, Int.reduceNeg, Int.reduceEq, Int.reduceNe, reduceIte, tw_0, tw_1, tw_2, tw_3, tw_4, tw_5, tw_6, tw_7, tw_8, tw_9, tw_10, tw_11, tw_12, tw_13, tw_14, tw_15, tw_16, tw_17, tw_18, tw_19, tw_20, tw_21, tw_22, tw_23, tw_24, tw_25, tw_26, tw_27, tw_28, tw_29, tw_30, tw_31, ob_0, ob_1, ob_2, ob_3, ob_4, ob_5, ob_6, ob_7, ob_8, ob_9, ob_10, ob_11, ob_12, ob_13, ob_14, ob_15, ob_16, ob_17, ob_18, ob_19, ob_20, ob_21, ob_22, ob_23, ob_24, ob_25, ob_26, ob_27, ob_28, ob_29, ob_30, ob_31, ob_32, ob_33, ob_34, ob_35, ob_36, ob_37, ob_38, ob_39, ob_40, ob_41, ob_42, ob_43, ob_44, ob_45, ob_46, ob_47, ob_48, ob_49, ob_50, ob_51, ob_52, ob_53, ob_54, ob_55, ob_56, ob_57, ob_58, ob_59, ob_60, ob_61, ob_62, ob_63, ob_64, ob_65, jf7, aGi, aGb, aGz, aGj, leT, leF, ltT, ltF, eqT, eqF, putW_w, putW_cl, putW_mo, putW_s11, putW_s34, putW_s35, putW_at, p2, folS]
  | succ j ih =>
    intro f w v3 hw f0 hf
    have hw' := fol1_W (Go := T 13) (r := r) W hw f0 (show f < T 2 2 by omega) (q_rg (S := T 2) hA r0 r1 f0 (by omega)).2
    have hq := q_rg (S := T 2) hA r0 r1 f0 (show f < 6 by omega)
    have rf := W.ref f0 (show f < T 2 2 by omega)
    have ky := W.key2 f0 (show f < T 2 2 by omega)
    have ta := W.ta r0 r1
    simp only [folS]
    have ih' := fun v3 => ih (f + 1) _ v3 hw' (by omega) (by omega)
    have hgo : G (d + 3) 7028 2 [.ref m, .int (zI r), .int (zI f), v3] [] (tw m (putW T w) h) = G (d + 3) 7028 49 [.ref m, .int (zI r), .int (zI f), v3] [.int (zI (if T 2 (58 + f) = T 2 (249 + r) then T 12 (6 * r + f) else -1))] (tw m (putW T w) h) := by
      conv => lhs; rw [E7028_2]
      by_cases e1 : T 2 (58 + f) = T 2 (249 + r)
      · rw [if_pos e1]
        simp (disch := omega) only [jc_ref, rI_int, rR_ref, rR_null, rJ_long, ckR_ref, ckR_null, ckr_ref, ckr_null, ckW_int, ckW_ref, ckW_null, cI_ok, cR_ok, cR_null, cV_ok, cJ_ok, qH_eq, qD_in, aG_ref, aS_ref, aL_ref, pF_ref, cK_ref, cK_null, zI_lit, zJ_lit, zI_add, zI_sub, zI_mul, zI_neg, zI_eq, zI_lt, zI_le, Int.reduceLT, Int.reduceLE, Int.reduceAdd, Int.reduceSub, Int.reduceMul, Int.reduceNeg, Int.reduceEq, Int.reduceNe, reduceIte, tw_0, tw_1, tw_2, tw_3, tw_4, tw_5, tw_6, tw_7, tw_8, tw_9, tw_10, tw_11, tw_12, tw_13, tw_14, tw_15, tw_16, tw_17, tw_18, tw_19, tw_20, tw_21, tw_22, tw_23, tw_24, tw_25, tw_26, tw_27, tw_28, tw_29, tw_30, tw_31, ob_0, ob_1, ob_2, ob_3, ob_4, ob_5, ob_6, ob_7, ob_8, ob_9, ob_10, ob_11, ob_12, ob_13, ob_14, ob_15, ob_16, ob_17, ob_18, ob_19, ob_20, ob_21, ob_22, ob_23, ob_24, ob_25, ob_26, ob_27, ob_28, ob_29, ob_30, ob_31, ob_32, ob_33, ob_34, ob_35, ob_36, ob_37, ob_38, ob_39, ob_40, ob_41, ob_42, ob_43, ob_44, ob_45, ob_46, ob_47, ob_48, ob_49, ob_50, ob_51, ob_52, ob_53, ob_54, ob_55, ob_56, ob_57, ob_58, ob_59, ob_60, ob_61, ob_62, ob_63, ob_64, ob_65, jf7, aGi, aGb, aGz, aGj, leT, leF, ltT, ltF, eqT, eqF, putW_w, putW_cl, putW_mo, putW_s11, putW_s34, putW_s35, putW_at, p2, p12, e1]
      · rw [if_neg e1]
        simp (disch := omega) only [jc_ref, rI_int, rR_ref, rR_null, rJ_long, ckR_ref, ckR_null, ckr_ref, ckr_null, ckW_int, ckW_ref, ckW_null, cI_ok, cR_ok, cR_null, cV_ok, cJ_ok, qH_eq, qD_in, aG_ref, aS_ref, aL_ref, pF_ref, cK_ref, cK_null, zI_lit, zJ_lit, zI_add, zI_sub, zI_mul, zI_neg, zI_eq, zI_lt, zI_le, Int.reduceLT, Int.reduceLE, Int.reduceAdd, Int.reduceSub, Int.reduceMul, Int.reduceNeg, Int.reduceEq, Int.reduceNe, reduceIte, tw_0, tw_1, tw_2, tw_3, tw_4, tw_5, tw_6, tw_7, tw_8, tw_9, tw_10, tw_11, tw_12, tw_13, tw_14, tw_15, tw_16, tw_17, tw_18, tw_19, tw_20, tw_21, tw_22, tw_23, tw_24, tw_25, tw_26, tw_27, tw_28, tw_29, tw_30, tw_31, ob_0, ob_1, ob_2, ob_3, ob_4, ob_5, ob_6, ob_7, ob_8, ob_9, ob_10, ob_11, ob_12, ob_13, ob_14, ob_15, ob_16, ob_17, ob_18, ob_19, ob_20, ob_21, ob_22, ob_23, ob_24, ob_25, ob_26, ob_27, ob_28, ob_29, ob_30, ob_31, ob_32, ob_33, ob_34, ob_35, ob_36, ob_37, ob_38, ob_39, ob_40, ob_41, ob_42, ob_43, ob_44, ob_45, ob_46, ob_47, ob_48, ob_49, ob_50, ob_51, ob_52, ob_53, ob_54, ob_55, ob_56, ob_57, ob_58, ob_59, ob_60, ob_61, ob_62, ob_63, ob_64, ob_65, jf7, aGi, aGb, aGz, aGj, leT, leF, ltT, ltF, eqT, eqF, putW_w, putW_cl, putW_mo, putW_s11, putW_s34, putW_s35, putW_at, p2, p12, e1]
    rw [hgo]
    generalize (if T 2 (58 + f) = T 2 (249 + r) then T 12 (6 * r + f) else -1) = q at hq hw' ih' ⊢
    unfold fol1 at hw' ih' ⊢
    rw [← ih' (.int (zI q))]
    by_cases e1 : q < 0
    · rw [if_pos e1]
      conv => lhs; rw [E7028_49]
      simp (disch := omega) only [jc_ref, rI_int, rR_ref, rR_null, rJ_long, ckR_ref, ckR_null, ckr_ref, ckr_null, ckW_int, ckW_ref, ckW_null, cI_ok, cR_ok, cR_null, cV_ok, cJ_ok, qH_eq, qD_in, aG_ref, aS_ref, aL_ref, pF_ref, cK_ref, cK_null, zI_lit, zJ_lit, zI_add, zI_sub, zI_mul, zI_neg, zI_eq, zI_lt, zI_le, Int.reduceLT, Int.reduceLE, Int.reduceAdd, Int.reduceSub, Int.reduceMul, Int.reduceNeg, Int.reduceEq, Int.reduceNe, reduceIte, tw_0, tw_1, tw_2, tw_3, tw_4, tw_5, tw_6, tw_7, tw_8, tw_9, tw_10, tw_11, tw_12, tw_13, tw_14, tw_15, tw_16, tw_17, tw_18, tw_19, tw_20, tw_21, tw_22, tw_23, tw_24, tw_25, tw_26, tw_27, tw_28, tw_29, tw_30, tw_31, ob_0, ob_1, ob_2, ob_3, ob_4, ob_5, ob_6, ob_7, ob_8, ob_9, ob_10, ob_11, ob_12, ob_13, ob_14, ob_15, ob_16, ob_17, ob_18, ob_19, ob_20, ob_21, ob_22, ob_23, ob_24, ob_25, ob_26, ob_27, ob_28, ob_29, ob_30, ob_31, ob_32, ob_33, ob_34, ob_35, ob_36, ob_37, ob_38, ob_39, ob_40, ob_41, ob_42, ob_43, ob_44, ob_45, ob_46, ob_47, ob_48, ob_49, ob_50, ob_51, ob_52, ob_53, ob_54, ob_55, ob_56, ob_57, ob_58, ob_59, ob_60, ob_61, ob_62, ob_63, ob_64, ob_65, jf7, aGi, aGb, aGz, aGj, leT, leF, ltT, ltF, eqT, eqF, putW_w, putW_cl, putW_mo, putW_s11, putW_s34, putW_s35, putW_at, e1]
    · rw [if_neg e1]
      have g := hG q (by omega) (by omega)
      by_cases e2 : T 13 q < 0
      · rw [if_pos e2]
        have fk := tm_followsKey (d := d) (m := m) (h := h) (T := T) W r0 r1 f0 (show f < T 2 2 by omega) (show 0 ≤ q by omega) (by omega) hw
        conv => lhs; rw [E7028_49]
        simp (disch := omega) only [jc_ref, rI_int, rR_ref, rR_null, rJ_long, ckR_ref, ckR_null, ckr_ref, ckr_null, ckW_int, ckW_ref, ckW_null, cI_ok, cR_ok, cR_null, cV_ok, cJ_ok, qH_eq, qD_in, aG_ref, aS_ref, aL_ref, pF_ref, cK_ref, cK_null, zI_lit, zJ_lit, zI_add, zI_sub, zI_mul, zI_neg, zI_eq, zI_lt, zI_le, Int.reduceLT, Int.reduceLE, Int.reduceAdd, Int.reduceSub, Int.reduceMul, Int.reduceNeg, Int.reduceEq, Int.reduceNe, reduceIte, tw_0, tw_1, tw_2, tw_3, tw_4, tw_5, tw_6, tw_7, tw_8, tw_9, tw_10, tw_11, tw_12, tw_13, tw_14, tw_15, tw_16, tw_17, tw_18, tw_19, tw_20, tw_21, tw_22, tw_23, tw_24, tw_25, tw_26, tw_27, tw_28, tw_29, tw_30, tw_31, ob_0, ob_1, ob_2, ob_3, ob_4, ob_5, ob_6, ob_7, ob_8, ob_9, ob_10, ob_11, ob_12, ob_13, ob_14, ob_15, ob_16, ob_17, ob_18, ob_19, ob_20, ob_21, ob_22, ob_23, ob_24, ob_25, ob_26, ob_27, ob_28, ob_29, ob_30, ob_31, ob_32, ob_33, ob_34, ob_35, ob_36, ob_37, ob_38, ob_39, ob_40, ob_41, ob_42, ob_43, ob_44, ob_45, ob_46, ob_47, ob_48, ob_49, ob_50, ob_51, ob_52, ob_53, ob_54, ob_55, ob_56, ob_57, ob_58, ob_59, ob_60, ob_61, ob_62, ob_63, ob_64, ob_65, jf7, aGi, aGb, aGz, aGj, leT, leF, ltT, ltF, eqT, eqF, putW_w, putW_cl, putW_mo, putW_s11, putW_s34, putW_s35, putW_at, p13, e1, e2, fk]
      · rw [if_neg e2]
        by_cases e3 : T 2 (88 + f) ≤ 1
        · rw [if_pos e3]
          conv => lhs; rw [E7028_49]
          simp (disch := omega) only [jc_ref, rI_int, rR_ref, rR_null, rJ_long, ckR_ref, ckR_null, ckr_ref, ckr_null, ckW_int, ckW_ref, ckW_null, cI_ok, cR_ok, cR_null, cV_ok, cJ_ok, qH_eq, qD_in, aG_ref, aS_ref, aL_ref, pF_ref, cK_ref, cK_null, zI_lit, zJ_lit, zI_add, zI_sub, zI_mul, zI_neg, zI_eq, zI_lt, zI_le, Int.reduceLT, Int.reduceLE, Int.reduceAdd, Int.reduceSub, Int.reduceMul, Int.reduceNeg, Int.reduceEq, Int.reduceNe, reduceIte, tw_0, tw_1, tw_2, tw_3, tw_4, tw_5, tw_6, tw_7, tw_8, tw_9, tw_10, tw_11, tw_12, tw_13, tw_14, tw_15, tw_16, tw_17, tw_18, tw_19, tw_20, tw_21, tw_22, tw_23, tw_24, tw_25, tw_26, tw_27, tw_28, tw_29, tw_30, tw_31, ob_0, ob_1, ob_2, ob_3, ob_4, ob_5, ob_6, ob_7, ob_8, ob_9, ob_10, ob_11, ob_12, ob_13, ob_14, ob_15, ob_16, ob_17, ob_18, ob_19, ob_20, ob_21, ob_22, ob_23, ob_24, ob_25, ob_26, ob_27, ob_28, ob_29, ob_30, ob_31, ob_32, ob_33, ob_34, ob_35, ob_36, ob_37, ob_38, ob_39, ob_40, ob_41, ob_42, ob_43, ob_44, ob_45, ob_46, ob_47, ob_48, ob_49, ob_50, ob_51, ob_52, ob_53, ob_54, ob_55, ob_56, ob_57, ob_58, ob_59, ob_60, ob_61, ob_62, ob_63, ob_64, ob_65, jf7, aGi, aGb, aGz, aGj, leT, leF, ltT, ltF, eqT, eqF, putW_w, putW_cl, putW_mo, putW_s11, putW_s34, putW_s35, putW_at, p2, p13, e1, e2, e3]
        · rw [if_neg e3]
          by_cases e4 : T 2 (88 + f) = 3
          · have wa := tm_wantsAll (d := d + 1) (m := m) (h := h) (T := T) (b := true) W hw r0 r1 f0 (show f < T 2 2 by omega)
            rw [bZ_t] at wa
            conv => lhs; rw [E7028_49]
            simp (disch := omega) only [jc_ref, rI_int, rR_ref, rR_null, rJ_long, ckR_ref, ckR_null, ckr_ref, ckr_null, ckW_int, ckW_ref, ckW_null, cI_ok, cR_ok, cR_null, cV_ok, cJ_ok, qH_eq, qD_in, aG_ref, aS_ref, aL_ref, pF_ref, cK_ref, cK_null, zI_lit, zJ_lit, zI_add, zI_sub, zI_mul, zI_neg, zI_eq, zI_lt, zI_le, Int.reduceLT, Int.reduceLE, Int.reduceAdd, Int.reduceSub, Int.reduceMul, Int.reduceNeg, Int.reduceEq, Int.reduceNe, reduceIte, tw_0, tw_1, tw_2, tw_3, tw_4, tw_5, tw_6, tw_7, tw_8, tw_9, tw_10, tw_11, tw_12, tw_13, tw_14, tw_15, tw_16, tw_17, tw_18, tw_19, tw_20, tw_21, tw_22, tw_23, tw_24, tw_25, tw_26, tw_27, tw_28, tw_29, tw_30, tw_31, ob_0, ob_1, ob_2, ob_3, ob_4, ob_5, ob_6, ob_7, ob_8, ob_9, ob_10, ob_11, ob_12, ob_13, ob_14, ob_15, ob_16, ob_17, ob_18, ob_19, ob_20, ob_21, ob_22, ob_23, ob_24, ob_25, ob_26, ob_27, ob_28, ob_29, ob_30, ob_31, ob_32, ob_33, ob_34, ob_35, ob_36, ob_37, ob_38, ob_39, ob_40, ob_41, ob_42, ob_43, ob_44, ob_45, ob_46, ob_47, ob_48, ob_49, ob_50, ob_51, ob_52, ob_53, ob_54, ob_55, ob_56, ob_57, ob_58, ob_59, ob_60, ob_61, ob_62, ob_63, ob_64, ob_65, jf7, aGi, aGb, aGz, aGj, leT, leF, ltT, ltF, eqT, eqF, putW_w, putW_cl, putW_mo, putW_s11, putW_s34, putW_s35, putW_at, p2, p13, e1, e2, e3, e4, wa, decide_true]
          · have wa := tm_wantsAll (d := d + 1) (m := m) (h := h) (T := T) (b := false) W hw r0 r1 f0 (show f < T 2 2 by omega)
            rw [bZ_f] at wa
            conv => lhs; rw [E7028_49]
            simp (disch := omega) only [jc_ref, rI_int, rR_ref, rR_null, rJ_long, ckR_ref, ckR_null, ckr_ref, ckr_null, ckW_int, ckW_ref, ckW_null, cI_ok, cR_ok, cR_null, cV_ok, cJ_ok, qH_eq, qD_in, aG_ref, aS_ref, aL_ref, pF_ref, cK_ref, cK_null, zI_lit, zJ_lit, zI_add, zI_sub, zI_mul, zI_neg, zI_eq, zI_lt, zI_le, Int.reduceLT, Int.reduceLE, Int.reduceAdd, Int.reduceSub, Int.reduceMul, Int.reduceNeg, Int.reduceEq, Int.reduceNe, reduceIte, tw_0, tw_1, tw_2, tw_3, tw_4, tw_5, tw_6, tw_7, tw_8, tw_9, tw_10, tw_11, tw_12, tw_13, tw_14, tw_15, tw_16, tw_17, tw_18, tw_19, tw_20, tw_21, tw_22, tw_23, tw_24, tw_25, tw_26, tw_27, tw_28, tw_29, tw_30, tw_31, ob_0, ob_1, ob_2, ob_3, ob_4, ob_5, ob_6, ob_7, ob_8, ob_9, ob_10, ob_11, ob_12, ob_13, ob_14, ob_15, ob_16, ob_17, ob_18, ob_19, ob_20, ob_21, ob_22, ob_23, ob_24, ob_25, ob_26, ob_27, ob_28, ob_29, ob_30, ob_31, ob_32, ob_33, ob_34, ob_35, ob_36, ob_37, ob_38, ob_39, ob_40, ob_41, ob_42, ob_43, ob_44, ob_45, ob_46, ob_47, ob_48, ob_49, ob_50, ob_51, ob_52, ob_53, ob_54, ob_55, ob_56, ob_57, ob_58, ob_59, ob_60, ob_61, ob_62, ob_63, ob_64, ob_65, jf7, aGi, aGb, aGz, aGj, leT, leF, ltT, ltF, eqT, eqF, putW_w, putW_cl, putW_mo, putW_s11, putW_s34, putW_s35, putW_at, p2, p13, e1, e2, e3, e4, wa, decide_false]
theorem tm_follows {r : Int} (W : StW (T 2)) (hA : AhW (T 12)) (hG : GoW (T 13)) (r0 : 0 ≤ r) (r1 : r < 99) (hw : WsW w) : M (d + 4) 7028 [.ref m, .int (zI r)] (tw m (putW T w) h) = some (.inl none, tw m (putW T (folS (T 2) (T 12) (T 13) r (T 2 2).toNat 0 w)) h) := by
  have n := W.n0
  have l := fl_2 (d := d) (m := m) (h := h) W hA hG r0 r1 (T 2 2).toNat 0 w jno hw (by omega) (by omega)
  rw [X7028 _ (tw_recv rfl), E7028_0, ← l]
  simp (disch := omega) only [jc_ref, rI_int, rR_ref, rR_null, rJ_long, ckR_ref, ckR_null, ckr_ref, ckr_null, ckW_int, ckW_ref, ckW_null, cI_ok, cR_ok, cR_null, cV_ok, cJ_ok, qH_eq, qD_in, aG_ref, aS_ref, aL_ref, pF_ref, cK_ref, cK_null, zI_lit, zJ_lit, zI_add, zI_sub, zI_mul, zI_neg, zI_eq, zI_lt, zI_le, Int.reduceLT, Int.reduceLE, Int.reduceAdd, Int.reduceSub, Int.reduceMul, Int.reduceNeg, Int.reduceEq, Int.reduceNe, reduceIte, tw_0, tw_1, tw_2, tw_3, tw_4, tw_5, tw_6, tw_7, tw_8, tw_9, tw_10, tw_11, tw_12, tw_13, tw_14, tw_15, tw_16, tw_17, tw_18, tw_19, tw_20, tw_21, tw_22, tw_23, tw_24, tw_25, tw_26, tw_27, tw_28, tw_29, tw_30, tw_31, ob_0, ob_1, ob_2, ob_3, ob_4, ob_5, ob_6, ob_7, ob_8, ob_9, ob_10, ob_11, ob_12, ob_13, ob_14, ob_15, ob_16, ob_17, ob_18, ob_19, ob_20, ob_21, ob_22, ob_23, ob_24, ob_25, ob_26, ob_27, ob_28, ob_29, ob_30, ob_31, ob_32, ob_33, ob_34, ob_35, ob_36, ob_37, ob_38, ob_39, ob_40, ob_41, ob_42, ob_43, ob_44, ob_45, ob_46, ob_47, ob_48, ob_49, ob_50, ob_51, ob_52, ob_53, ob_54, ob_55, ob_56, ob_57, ob_58, ob_59, ob_60, ob_61, ob_62, ob_63, ob_64, ob_65, jf7, aGi, aGb, aGz, aGj, leT, leF, ltT, ltF, eqT, eqF]
end
