/-! the twin's walk: rows for simp at its class -/
theorem if_true_ {α : Type} {a b : α} {p : Prop} [Decidable p] (h : p) : (if p then a else b) = a := if_pos h
theorem if_false_ {α : Type} {a b : α} {p : Prop} [Decidable p] (h : ¬ p) : (if p then a else b) = b := if_neg h
theorem leT {a b : Int} (h : a ≤ b) : (a ≤ b) = True := eq_true h
theorem leF {a b : Int} (h : ¬ a ≤ b) : (a ≤ b) = False := eq_false h
theorem ltT {a b : Int} (h : a < b) : (a < b) = True := eq_true h
theorem ltF {a b : Int} (h : ¬ a < b) : (a < b) = False := eq_false h
theorem eqT {a b : Int} (h : a = b) : (a = b) = True := eq_true h
theorem eqF {a b : Int} (h : ¬ a = b) : (a = b) = False := eq_false h
theorem jf7 {n k : Nat} {f : Nat → Value} : jf (some (7, n, f)) [7] k = f k := jf_in rfl
section
variable {β : Type} {h : AH} {a n k : Nat} {f : Nat → Value} {g : Int → Int} {i v z : Int}
theorem pF7i {x : Int32} {κ : AH → Option β} {u : Ph κ} : pFc h a (some (7, n, f)) [7] k 0 (.int x) κ u = κ (jset h a (7, n, ju f k (.int x))) := pFc_in rfl rfl
theorem pF7z {κ : AH → Option β} {u : Ph κ} (hz : z = 0 ∨ z = 1) : pFc h a (some (7, n, f)) [7] k 3 (.int (zI z)) κ u = κ (jset h a (7, n, ju f k (.int (zI z)))) := pFc_in rfl (okF_z hz)
theorem pF7j {x : Int64} {κ : AH → Option β} {u : Ph κ} : pFc h a (some (7, n, f)) [7] k 1 (.long x) κ u = κ (jset h a (7, n, ju f k (.long x))) := pFc_in rfl rfl
theorem aGi {κ : Value → Option β} {u : Ph κ} (h1 : 0 ≤ i) (h2 : i < (n : Int)) (hn : n < 2147483648) : aGc (some (1000, n, aI g)) [1000, 1001] (zI i) κ u = κ (.int (zI (g i))) := aGc_I rfl h1 h2 hn
theorem aGb {κ : Value → Option β} {u : Ph κ} (h1 : 0 ≤ i) (h2 : i < (n : Int)) (hn : n < 2147483648) : aGc (some (1010, n, aI g)) [1010, 1011, 1020] (zI i) κ u = κ (.int (zI (g i))) := aGc_I rfl h1 h2 hn
theorem aGz {κ : Value → Option β} {u : Ph κ} (h1 : 0 ≤ i) (h2 : i < (n : Int)) (hn : n < 2147483648) : aGc (some (1020, n, aI g)) [1010, 1011, 1020] (zI i) κ u = κ (.int (zI (g i))) := aGc_I rfl h1 h2 hn
theorem aGj {κ : Value → Option β} {u : Ph κ} (h1 : 0 ≤ i) (h2 : i < (n : Int)) (hn : n < 2147483648) : aGc (some (1030, n, aJ g)) [1030] (zI i) κ u = κ (.long (zJ (g i))) := aGc_J rfl h1 h2 hn
theorem aSi {κ : AH → Option β} {u : Ph κ} (h1 : 0 ≤ i) (h2 : i < (n : Int)) (hn : n < 2147483648) : aSc h a (some (1000, n, aI g)) [1000] (zI i) (.int (zI v)) κ u = κ (jset h a (1000, n, aI (fset g i v))) := aSc_I rfl h1 h2 hn
theorem aSj {κ : AH → Option β} {u : Ph κ} (h1 : 0 ≤ i) (h2 : i < (n : Int)) (hn : n < 2147483648) : aSc h a (some (1030, n, aJ g)) [1030] (zI i) (.long (zJ v)) κ u = κ (jset h a (1030, n, aJ (fset g i v))) := aSc_J rfl h1 h2 hn
/-- an int's lowest byte, with its sign -/
def zB (x : Int32) : Int := x.toInt8.toInt
theorem zB_lo (x : Int32) : -128 ≤ zB x := Int.le_trans (show (-128 : Int) ≤ -2 ^ 7 by decide) x.toInt8.le_toInt
theorem zB_hi (x : Int32) : zB x < 128 := Int.lt_of_lt_of_le x.toInt8.toInt_lt (show (2 ^ 7 : Int) ≤ 128 by decide)
theorem zI_zB {x : Int32} : x.toInt8.toInt32 = zI (zB x) := Int32.toInt_inj.mp (by
  rw [zI_toInt (by have := zB_lo x; omega) (by have := zB_hi x; omega)]
  simp [zB])
theorem zB_b {x : Int32} : zB x.toInt8.toInt32 = zB x := by simp [zB]
theorem aSb_B {x : Int32} {κ : AH → Option β} {u : Ph κ} (hm : jm h a = some (1010, n, aI g)) (h1 : 0 ≤ i) (h2 : i < (n : Int)) (hn : n < 2147483648) : zqB h (.ref a) (zI i) x κ u = κ (jset h a (1010, n, aI (fset g i (zB x)))) := by
  show aSb h (.ref a) (zI i) x κ = _
  unfold aSb
  rw [jc_ref, hm]
  show aS h (.ref a) [1010] (zI i) (.int x.toInt8.toInt32) κ = _
  have e : aS h (.ref a) [1010] (zI i) (.int x.toInt8.toInt32) κ = aSc h a (jm h a) [1010] (zI i) (.int x.toInt8.toInt32) κ () := rfl
  rw [e, hm, zI_zB]
  exact aSc_I rfl h1 h2 hn
theorem aSb_Z {κ : AH → Option β} {u : Ph κ} (hm : jm h a = some (1020, n, aI g)) (hz : z = 0 ∨ z = 1) (h1 : 0 ≤ i) (h2 : i < (n : Int)) (hn : n < 2147483648) : zqB h (.ref a) (zI i) (zI z) κ u = κ (jset h a (1020, n, aI (fset g i z))) := by
  show aSb h (.ref a) (zI i) (zI z) κ = _
  unfold aSb
  rw [jc_ref, hm]
  have e : ((zI z == 0) || (zI z == 1)) = true := by rcases hz with rfl | rfl <;> decide
  show gd ((zI z == 0) || (zI z == 1)) (aS h (.ref a) [1020] (zI i) (.int (zI z)) κ) = _
  rw [e]
  show aS h (.ref a) [1020] (zI i) (.int (zI z)) κ = _
  have e : aS h (.ref a) [1020] (zI i) (.int (zI z)) κ = aSc h a (jm h a) [1020] (zI i) (.int (zI z)) κ () := rfl
  rw [e, hm]
  exact aSc_I rfl h1 h2 hn
end
section
variable {m : Nat} {T : Nat → Int → Int} {h : AH} {i z : Int} {x : Int32} {β : Type} {κ : AH → Option β} {u : Ph κ}
theorem aSb1 (h1 : 0 ≤ i) (h2 : i < 940) : zqB (tw m T h) (.ref (m + 1)) (zI i) x κ u = κ (tw m (ts T 1 i (zB x)) h) := by rw [aSb_B tw_1 h1 (by omega) (by omega), tws_1]; rfl
theorem aSb24 (h1 : 0 ≤ i) (h2 : i < 30) : zqB (tw m T h) (.ref (m + 24)) (zI i) x κ u = κ (tw m (ts T 24 i (zB x)) h) := by rw [aSb_B tw_24 h1 (by omega) (by omega), tws_24]; rfl
theorem aSb28 (hz : z = 0 ∨ z = 1) (h1 : 0 ≤ i) (h2 : i < 45) : zqB (tw m T h) (.ref (m + 28)) (zI i) (zI z) κ u = κ (tw m (ts T 28 i z) h) := by rw [aSb_Z tw_28 hz h1 (by omega) (by omega), tws_28]; rfl
theorem aSb31 (hz : z = 0 ∨ z = 1) (h1 : 0 ≤ i) (h2 : i < 2) : zqB (tw m T h) (.ref (m + 31)) (zI i) (zI z) κ u = κ (tw m (ts T 31 i z) h) := by rw [aSb_Z tw_31 hz h1 (by omega) (by omega), tws_31]; rfl
end
theorem and255 {b : Int} (h1 : -128 ≤ b) (h2 : b < 128) : zI b &&& zI 255 = zI (b % 256) := by
  have key : ∀ k : Fin 256, zI (((k.val : Nat) : Int) - 128) &&& zI 255 = zI ((((k.val : Nat) : Int) - 128) % 256) := by decide +kernel
  have := key ⟨(b + 128).toNat, by omega⟩
  have e : (((b + 128).toNat : Nat) : Int) - 128 = b := by omega
  simp only [e] at this
  exact this
/-! small methods -/
section
variable {d m : Nat} {T : Nat → Int → Int} {h : AH}
def isInZ (v low high : Int) : Bool := decide (low ≤ v ∧ v ≤ high)
def Rg (z : Int) : Prop := -2147483648 ≤ z ∧ z < 2147483648
theorem bZ_ite {p : Prop} [Decidable p] : bZ (decide p) = if p then 1 else 0 := by by_cases hp : p <;> simp [bZ, hp]
theorem tm_isIn {v low high : Int} (h1 : Rg v) (h2 : Rg low) (h3 : Rg high) : M (d + 1) 7043 [.int (zI v), .int (zI low), .int (zI high)] h = some (.inl (some (.int (zI (bZ (isInZ v low high))))), h) := by
  obtain ⟨a1, a2⟩ := h1; obtain ⟨a3, a4⟩ := h2; obtain ⟨a5, a6⟩ := h3
  rw [X7043, E7043_0]
  simp (disch := omega) only [zI_lit, zJ_lit, zI_add, zI_sub, zI_mul, zI_neg, zI_eq, zI_lt, zI_le, Int.reduceLT, Int.reduceLE, Int.reduceAdd, Int.reduceSub, Int.reduceMul, Int.reduceNeg, Int.reduceEq, Int.reduceNe, reduceIte, isInZ, bZ_ite]
  by_cases q1 : v < low
  · rw [if_pos q1, if_neg (by omega)]
  · by_cases q2 : high < v
    · rw [if_neg q1, if_pos q2, if_neg (by omega)]
    · rw [if_neg q1, if_neg q2, if_pos (by omega)]
theorem tm_thrown : M (d + 1) 7127 [.ref m] (tw m T h) = some (.inl (some (.int (zI (T 0 0)))), tw m T h) := by
  rw [X7127 _ (tw_recv rfl), E7127_0]
  simp only [jc_ref, rI_int, rR_ref, rR_null, rJ_long, ckR_ref, ckR_null, ckr_ref, ckr_null, ckW_int, ckW_ref, ckW_null, cI_ok, cR_ok, cR_null, cV_ok, cJ_ok, qH_eq, qD_in, aG_ref, aS_ref, aL_ref, pF_ref, cK_ref, cK_null, zI_lit, zJ_lit, zI_add, zI_sub, zI_mul, zI_neg, zI_eq, zI_lt, zI_le, Int.reduceLT, Int.reduceLE, Int.reduceAdd, Int.reduceSub, Int.reduceMul, Int.reduceNeg, Int.reduceEq, Int.reduceNe, reduceIte, tw_0, tw_1, tw_2, tw_3, tw_4, tw_5, tw_6, tw_7, tw_8, tw_9, tw_10, tw_11, tw_12, tw_13, tw_14, tw_15, tw_16, tw_17, tw_18, tw_19, tw_20, tw_21, tw_22, tw_23, tw_24, tw_25, tw_26, tw_27, tw_28, tw_29, tw_30, tw_31, ob_0, ob_1, ob_2, ob_3, ob_4, ob_5, ob_6, ob_7, ob_8, ob_9, ob_10, ob_11, ob_12, ob_13, ob_14, ob_15, ob_16, ob_17, ob_18, ob_19, ob_20, ob_21, ob_22, ob_23, ob_24, ob_25, ob_26, ob_27, ob_28, ob_29, ob_30, ob_31, ob_32, ob_33, ob_34, ob_35, ob_36, ob_37, ob_38, ob_39, ob_40, ob_41, ob_42, ob_43, ob_44, ob_45, ob_46, ob_47, ob_48, ob_49, ob_50, ob_51, ob_52, ob_53, ob_54, ob_55, ob_56, ob_57, ob_58, ob_59, ob_60, ob_61, ob_62, ob_63, ob_64, ob_65, jf7, aGi, aGb, aGz, aGj, leT, leF, ltT, ltF, eqT, eqF]
theorem tm_throwsIf {b : Bool} : M (d + 1) 7128 [.ref m, .int (zI (bZ b))] (tw m T h) = some (.inl (some (.int (zI (bZ b)))), tw m (ts T 0 0 (bZ b)) h) := by
  rw [X7128 _ (tw_recv rfl), E7128_0]
  cases b <;> simp (disch := omega) only [jc_ref, rI_int, rR_ref, rR_null, rJ_long, ckR_ref, ckR_null, ckr_ref, ckr_null, ckW_int, ckW_ref, ckW_null, cI_ok, cR_ok, cR_null, cV_ok, cJ_ok, qH_eq, qD_in, aG_ref, aS_ref, aL_ref, pF_ref, cK_ref, cK_null, zI_lit, zJ_lit, zI_add, zI_sub, zI_mul, zI_neg, zI_eq, zI_lt, zI_le, Int.reduceLT, Int.reduceLE, Int.reduceAdd, Int.reduceSub, Int.reduceMul, Int.reduceNeg, Int.reduceEq, Int.reduceNe, reduceIte, tw_0, tw_1, tw_2, tw_3, tw_4, tw_5, tw_6, tw_7, tw_8, tw_9, tw_10, tw_11, tw_12, tw_13, tw_14, tw_15, tw_16, tw_17, tw_18, tw_19, tw_20, tw_21, tw_22, tw_23, tw_24, tw_25, tw_26, tw_27, tw_28, tw_29, tw_30, tw_31, ob_0, ob_1, ob_2, ob_3, ob_4, ob_5, ob_6, ob_7, ob_8, ob_9, ob_10, ob_11, ob_12, ob_13, ob_14, ob_15, ob_16, ob_17, ob_18, ob_19, ob_20, ob_21, ob_22, ob_23, ob_24, ob_25, ob_26, ob_27, ob_28, ob_29, ob_30, ob_31, ob_32, ob_33, ob_34, ob_35, ob_36, ob_37, ob_38, ob_39, ob_40, ob_41, ob_42, ob_43, ob_44, ob_45, ob_46, ob_47, ob_48, ob_49, ob_50, ob_51, ob_52, ob_53, ob_54, ob_55, ob_56, ob_57, ob_58, ob_59, ob_60, ob_61, ob_62, ob_63, ob_64, ob_65, jf7, aGi, aGb, aGz, aGj, leT, leF, ltT, ltF, eqT, eqF, tws_0, tws_1, tws_2, tws_3, tws_4, tws_5, tws_6, tws_7, tws_8, tws_9, tws_10, tws_11, tws_12, tws_13, tws_14, tws_15, tws_16, tws_17, tws_18, tws_19, tws_20, tws_21, tws_22, tws_23, tws_24, tws_25, tws_26, tws_27, tws_28, tws_29, tws_30, tws_31, obs_0, obs_2, obs_3, obs_4, obs_5, obs_12, obs_13, obs_14, obs_15, obs_16, obs_17, obs_18, obs_19, obs_20, obs_21, obs_22, obs_26, obs_31, obs_32, obs_33, obs_34, obs_35, obs_41, obs_42, obs_44, obs_48, obs_50, obs_51, obs_52, obs_55, obs_57, obs_58, obs_59, obs_60, obs_61, pF7i, pF7z, pF7j, aSi, aSj, aSb1, aSb24, aSb28, aSb31, ts, tg_eq, tg_ne, tg_tg, fset_eq, fset_ne, bZ_t, bZ_f, okZ_z, if_pos, if_neg, Int.one_ne_zero, if_true, if_false]
theorem tm_cellOf {r c : Int} (h1 : 0 ≤ 348 + 4 * r + c) (h2 : 348 + 4 * r + c < 1420) : M (d + 1) 7011 [.ref m, .int (zI r), .int (zI c)] (tw m T h) = some (.inl (some (.int (zI (T 2 (348 + 4 * r + c))))), tw m T h) := by
  rw [X7011 _ (tw_recv rfl), E7011_0]
  simp (disch := omega) only [jc_ref, rI_int, rR_ref, rR_null, rJ_long, ckR_ref, ckR_null, ckr_ref, ckr_null, ckW_int, ckW_ref, ckW_null, cI_ok, cR_ok, cR_null, cV_ok, cJ_ok, qH_eq, qD_in, aG_ref, aS_ref, aL_ref, pF_ref, cK_ref, cK_null, zI_lit, zJ_lit, zI_add, zI_sub, zI_mul, zI_neg, zI_eq, zI_lt, zI_le, Int.reduceLT, Int.reduceLE, Int.reduceAdd, Int.reduceSub, Int.reduceMul, Int.reduceNeg, Int.reduceEq, Int.reduceNe, reduceIte, tw_0, tw_1, tw_2, tw_3, tw_4, tw_5, tw_6, tw_7, tw_8, tw_9, tw_10, tw_11, tw_12, tw_13, tw_14, tw_15, tw_16, tw_17, tw_18, tw_19, tw_20, tw_21, tw_22, tw_23, tw_24, tw_25, tw_26, tw_27, tw_28, tw_29, tw_30, tw_31, ob_0, ob_1, ob_2, ob_3, ob_4, ob_5, ob_6, ob_7, ob_8, ob_9, ob_10, ob_11, ob_12, ob_13, ob_14, ob_15, ob_16, ob_17, ob_18, ob_19, ob_20, ob_21, ob_22, ob_23, ob_24, ob_25, ob_26, ob_27, ob_28, ob_29, ob_30, ob_31, ob_32, ob_33, ob_34, ob_35, ob_36, ob_37, ob_38, ob_39, ob_40, ob_41, ob_42, ob_43, ob_44, ob_45, ob_46, ob_47, ob_48, ob_49, ob_50, ob_51, ob_52, ob_53, ob_54, ob_55, ob_56, ob_57, ob_58, ob_59, ob_60, ob_61, ob_62, ob_63, ob_64, ob_65, jf7, aGi, aGb, aGz, aGj, leT, leF, ltT, ltF, eqT, eqF]
end
