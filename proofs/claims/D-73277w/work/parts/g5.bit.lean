/-! the twin's sets of up to six; what it tells of a table -/
def setB (b : Bool) (v : Int32) : Int32 := bif b then v else 0
/-- a set, as bits -/
def mZ (p : Int → Bool) : Int32 := setB (p 0) 1 ||| setB (p 1) 2 ||| setB (p 2) 4 ||| setB (p 3) 8 ||| setB (p 4) 16 ||| setB (p 5) 32
theorem mZ_cg {p q : Int → Bool} (h : ∀ k, 0 ≤ k → k < 6 → p k = q k) : mZ p = mZ q := by
  unfold mZ
  rw [h 0 (by decide) (by decide), h 1 (by decide) (by decide), h 2 (by decide) (by decide), h 3 (by decide) (by decide), h 4 (by decide) (by decide), h 5 (by decide) (by decide)]
theorem mZ_no : mZ (fun _ => false) = 0 := by decide
theorem mZ_put {p : Int → Bool} {k : Int} (k0 : 0 ≤ k) (k1 : k < 6) : mZ p ||| (zI 1 <<< (zI k &&& zI 31)) = mZ (fun i => p i || decide (i = k)) := by
  have e : k = 0 ∨ k = 1 ∨ k = 2 ∨ k = 3 ∨ k = 4 ∨ k = 5 := by omega
  unfold mZ
  show setB (p 0) 1 ||| setB (p 1) 2 ||| setB (p 2) 4 ||| setB (p 3) 8 ||| setB (p 4) 16 ||| setB (p 5) 32 ||| zI 1 <<< (zI k &&& zI 31) = setB (p 0 || decide (0 = k)) 1 ||| setB (p 1 || decide (1 = k)) 2 ||| setB (p 2 || decide (2 = k)) 4 ||| setB (p 3 || decide (3 = k)) 8 ||| setB (p 4 || decide (4 = k)) 16 ||| setB (p 5 || decide (5 = k)) 32
  generalize p 0 = a
  generalize p 1 = b
  generalize p 2 = c
  generalize p 3 = d
  generalize p 4 = e'
  generalize p 5 = f
  rcases e with rfl | rfl | rfl | rfl | rfl | rfl <;> revert a b c d e' f <;> decide
theorem mZ_or0 {x : Int32} : x ||| zI 0 = x := by show x ||| 0 = x; simp
theorem mZ_bit {p : Int → Bool} {k : Int} (k0 : 0 ≤ k) (k1 : k < 6) : (((mZ p >>> (zI k &&& zI 31)) &&& zI 1) = zI 1) = (p k = true) := by
  have e : k = 0 ∨ k = 1 ∨ k = 2 ∨ k = 3 ∨ k = 4 ∨ k = 5 := by omega
  have key : ∀ k, (k = 0 ∨ k = 1 ∨ k = 2 ∨ k = 3 ∨ k = 4 ∨ k = 5) → ((((mZ p >>> (zI k &&& zI 31)) &&& zI 1) = zI 1) ↔ (p k = true)) := by
    intro k e
    unfold mZ
    rcases e with rfl | rfl | rfl | rfl | rfl | rfl <;> generalize p 0 = a <;> generalize p 1 = b <;> generalize p 2 = c <;> generalize p 3 = d <;> generalize p 4 = e' <;> generalize p 5 = f <;> revert a b c d e' f <;> decide
  exact propext (key k e)
/-- p, and from i to n what is so of q -/
def rgP (p q : Int → Bool) (i n : Int) : Int → Bool := fun k => p k || (decide (i ≤ k) && decide (k < n) && q k)
section
variable {p q : Int → Bool} {i n : Int}
theorem rgP_end (h : n ≤ i) : mZ (rgP p q i n) = mZ p := mZ_cg fun k _ _ => by
  unfold rgP
  by_cases c : i ≤ k
  · rw [decide_eq_false (show ¬ k < n by omega)]; simp
  · rw [decide_eq_false c]; simp
theorem rgP_t (h : i < n) (hq : q i = true) : mZ (rgP (fun k => p k || decide (k = i)) q (i + 1) n) = mZ (rgP p q i n) := mZ_cg fun k _ _ => by
  unfold rgP
  by_cases e : k = i
  · subst e; simp [hq, h]
  · have : decide (i + 1 ≤ k) = decide (i ≤ k) := decide_eq_decide.mpr (by omega)
    show (p k || decide (k = i) || (decide (i + 1 ≤ k) && decide (k < n) && q k)) = _
    rw [this, decide_eq_false e, Bool.or_false]
theorem rgP_f (hq : q i = false) : mZ (rgP p q (i + 1) n) = mZ (rgP p q i n) := mZ_cg fun k _ _ => by
  unfold rgP
  by_cases e : k = i
  · subst e; simp [hq]
  · have : decide (i + 1 ≤ k) = decide (i ≤ k) := decide_eq_decide.mpr (by omega)
    rw [this]
end
section
variable {d m : Nat} {h : AH} {T : Nat → Int → Int}
theorem tm_bitOf {p : Int → Bool} {k : Int} (k0 : 0 ≤ k) (k1 : k < 6) : M (d + 1) 7006 [.int (mZ p), .int (zI k)] h = some (.inl (some (.int (zI (bZ (p k))))), h) := by
  have b := mZ_bit (p := p) k0 k1
  have b' : ((((mZ p) >>> (zI k &&& 31)) &&& 1) = 1) = (p k = true) := b
  rw [X7006, E7006_0]
  cases hp : p k with
  | true =>
    rw [if_pos (b'.mpr hp)]; rfl
  | false =>
    rw [if_neg (fun z => by rw [b'.mp z] at hp; cases hp)]; rfl
theorem ta_26 {t w i4 i5 : Int} {x4 x5 : Int32} (ht : Rg t) (W : StW (T 2)) : ∀ (j : Nat) (i : Int) (p : Int → Bool), 0 ≤ i → i + j = T 2 1 →
    G d 7107 26 [.ref m, .int (zI t), .int (zI w), .int (mZ p), .int x4, .int x5, .int (zI i)] [] (tw m T h) = G d 7107 71 [.ref m, .int (zI t), .int (zI w), .int (mZ (rgP p (fun k => decide (T 2 (40 + k) = t)) i (T 2 1))), .int x4, .int x5, .int (zI 0)] [] (tw m T h) := by
  have N := W.n0
  obtain ⟨t1, t2⟩ := ht
  intro j
  induction j with
  | zero =>
    intro i p i0 hi
    rw [rgP_end (by omega)]
    conv => lhs; rw [E7107_26]
    simp (disch := omega) only [jc_ref, rI_int, rR_ref, rR_null, rJ_long, ckR_ref, ckR_null, ckr_ref, ckr_null, ckW_int, ckW_ref, ckW_null, cI_ok, cR_ok, cR_null, cV_ok, cJ_ok, qH_eq, qD_in, aG_ref, aS_ref, aL_ref, pF_ref, cK_ref, cK_null, zI_lit, zJ_lit, zI_add, zI_sub, zI_mul, zI_neg, zI_eq, zI_lt, zI_le, Int.reduceLT, Int.reduceLE, Int.reduceAdd, Int.reduceSub, Int.reduceMul, Int.reduceNeg, Int.reduceEq, Int.reduceNe, reduceIte, tw_0, tw_1, tw_2, tw_3, tw_4, tw_5, tw_6, tw_7, tw_8, tw_9, tw_10, tw_11, tw_12, tw_13, tw_14, tw_15, tw_16, tw_17, tw_18, tw_19, tw_20, tw_21, tw_22, tw_23, tw_24, tw_25, tw_26, tw_27, tw_28, tw_29, tw_30, tw_31, ob_0, ob_1, ob_2, ob_3, ob_4, ob_5, ob_6, ob_7, ob_8, ob_9, ob_10, ob_11, ob_12, ob_13, ob_14, ob_15, ob_16, ob_17, ob_18, ob_19, ob_20, ob_21, ob_22, ob_23, ob_24, ob_25, ob_26, ob_27, ob_28, ob_29, ob_30, ob_31, ob_32, ob_33, ob_34, ob_35, ob_36, ob_37, ob_38, ob_39, ob_40, ob_41, ob_42, ob_43, ob_44, ob_45, ob_46, ob_47, ob_48, ob_49, ob_50, ob_51, ob_52, ob_53, ob_54, ob_55, ob_56, ob_57, ob_58, ob_59, ob_60, ob_61, ob_62, ob_63, ob_64, ob_65, jf7, aGi, aGb, aGz, aGj, leT, leF, ltT, ltF, eqT, eqF]
  | succ j ih =>
    intro i p i0 hi
    have K := W.key i0 (show i < T 2 1 by omega)
    by_cases c : T 2 (40 + i) = t
    · have pu := mZ_put (p := p) i0 (show i < 6 by omega)
      rw [← rgP_t (show i < T 2 1 by omega) (decide_eq_true c), ← ih (i + 1) _ (by omega) (by omega), ← pu]
      conv => lhs; rw [E7107_26]
      simp (disch := omega) only [jc_ref, rI_int, rR_ref, rR_null, rJ_long, ckR_ref, ckR_null, ckr_ref, ckr_null, ckW_int, ckW_ref, ckW_null, cI_ok, cR_ok, cR_null, cV_ok, cJ_ok, qH_eq, qD_in, aG_ref, aS_ref, aL_ref, pF_ref, cK_ref, cK_null, zI_lit, zJ_lit, zI_add, zI_sub, zI_mul, zI_neg, zI_eq, zI_lt, zI_le, Int.reduceLT, Int.reduceLE, Int.reduceAdd, Int.reduceSub, Int.reduceMul, Int.reduceNeg, Int.reduceEq, Int.reduceNe, reduceIte, tw_0, tw_1, tw_2, tw_3, tw_4, tw_5, tw_6, tw_7, tw_8, tw_9, tw_10, tw_11, tw_12, tw_13, tw_14, tw_15, tw_16, tw_17, tw_18, tw_19, tw_20, tw_21, tw_22, tw_23, tw_24, tw_25, tw_26, tw_27, tw_28, tw_29, tw_30, tw_31, ob_0, ob_1, ob_2, ob_3, ob_4, ob_5, ob_6, ob_7, ob_8, ob_9, ob_10, ob_11, ob_12, ob_13, ob_14, ob_15, ob_16, ob_17, ob_18, ob_19, ob_20, ob_21, ob_22, ob_23, ob_24, ob_25, ob_26, ob_27, ob_28, ob_29, ob_30, ob_31, ob_32, ob_33, ob_34, ob_35, ob_36, ob_37, ob_38, ob_39, ob_40, ob_41, ob_42, ob_43, ob_44, ob_45, ob_46, ob_47, ob_48, ob_49, ob_50, ob_51, ob_52, ob_53, ob_54, ob_55, ob_56, ob_57, ob_58, ob_59, ob_60, ob_61, ob_62, ob_63, ob_64, ob_65, jf7, aGi, aGb, aGz, aGj, leT, leF, ltT, ltF, eqT, eqF, c]
    · rw [← rgP_f (decide_eq_false c), ← ih (i + 1) _ (by omega) (by omega)]
      conv => lhs; rw [E7107_26]
      simp (disch := omega) only [jc_ref, rI_int, rR_ref, rR_null, rJ_long, ckR_ref, ckR_null, ckr_ref, ckr_null, ckW_int, ckW_ref, ckW_null, cI_ok, cR_ok, cR_null, cV_ok, cJ_ok, qH_eq, qD_in, aG_ref, aS_ref, aL_ref, pF_ref, cK_ref, cK_null, zI_lit, zJ_lit, zI_add, zI_sub, zI_mul, zI_neg, zI_eq, zI_lt, zI_le, Int.reduceLT, Int.reduceLE, Int.reduceAdd, Int.reduceSub, Int.reduceMul, Int.reduceNeg, Int.reduceEq, Int.reduceNe, reduceIte, tw_0, tw_1, tw_2, tw_3, tw_4, tw_5, tw_6, tw_7, tw_8, tw_9, tw_10, tw_11, tw_12, tw_13, tw_14, tw_15, tw_16, tw_17, tw_18, tw_19, tw_20, tw_21, tw_22, tw_23, tw_24, tw_25, tw_26, tw_27, tw_28, tw_29, tw_30, tw_31, ob_0, ob_1, ob_2, ob_3, ob_4, ob_5, ob_6, ob_7, ob_8, ob_9, ob_10, ob_11, ob_12, ob_13, ob_14, ob_15, ob_16, ob_17, ob_18, ob_19, ob_20, ob_21, ob_22, ob_23, ob_24, ob_25, ob_26, ob_27, ob_28, ob_29, ob_30, ob_31, ob_32, ob_33, ob_34, ob_35, ob_36, ob_37, ob_38, ob_39, ob_40, ob_41, ob_42, ob_43, ob_44, ob_45, ob_46, ob_47, ob_48, ob_49, ob_50, ob_51, ob_52, ob_53, ob_54, ob_55, ob_56, ob_57, ob_58, ob_59, ob_60, ob_61, ob_62, ob_63, ob_64, ob_65, jf7, aGi, aGb, aGz, aGj, leT, leF, ltT, ltF, eqT, eqF, c, mZ_or0]
theorem ta_71 {t w : Int} {x3 : Int32} (ht : Rg t) (W : StW (T 2)) : ∀ (j : Nat) (i : Int) (p p' : Int → Bool), 0 ≤ i → i + j = T 2 2 →
    G d 7107 71 [.ref m, .int (zI t), .int (zI w), .int x3, .int (mZ p), .int (mZ p'), .int (zI i)] [] (tw m T h) = G d 7107 (swT (zI w) (zI 0) (zI 4) [176, 185, 187, 190, 193] 199) [.ref m, .int (zI t), .int (zI w), .int x3, .int (mZ (rgP p (fun k => decide (T 2 (58 + k) = t)) i (T 2 2))), .int (mZ (rgP p' (fun k => decide (T 2 (76 + k) = t)) i (T 2 2))), .int (zI (T 2 2))] [] (tw m T h) := by
  have N := W.n0
  obtain ⟨t1, t2⟩ := ht
  intro j
  induction j with
  | zero =>
    intro i p p' i0 hi
    have e : i = T 2 2 := by omega
    subst e
    rw [rgP_end (by omega), rgP_end (by omega)]
    conv => lhs; rw [E7107_71]
    simp (disch := omega) only [jc_ref, rI_int, rR_ref, rR_null, rJ_long, ckR_ref, ckR_null, ckr_ref, ckr_null, ckW_int, ckW_ref, ckW_null, cI_ok, cR_ok, cR_null, cV_ok, cJ_ok, qH_eq, qD_in, aG_ref, aS_ref, aL_ref, pF_ref, cK_ref, cK_null, zI_lit, zJ_lit, zI_add, zI_sub, zI_mul, zI_neg, zI_eq, zI_lt, zI_le, Int.reduceLT, Int.reduceLE, Int.reduceAdd, Int.reduceSub, Int.reduceMul, Int.reduceNeg, Int.reduceEq, Int.reduceNe, reduceIte, tw_0, tw_1, tw_2, tw_3, tw_4, tw_5, tw_6, tw_7, tw_8, tw_9, tw_10, tw_11, tw_12, tw_13, tw_14, tw_15, tw_16, tw_17, tw_18, tw_19, tw_20, tw_21, tw_22, tw_23, tw_24, tw_25, tw_26, tw_27, tw_28, tw_29, tw_30, tw_31, ob_0, ob_1, ob_2, ob_3, ob_4, ob_5, ob_6, ob_7, ob_8, ob_9, ob_10, ob_11, ob_12, ob_13, ob_14, ob_15, ob_16, ob_17, ob_18, ob_19, ob_20, ob_21, ob_22, ob_23, ob_24, ob_25, ob_26, ob_27, ob_28, ob_29, ob_30, ob_31, ob_32, ob_33, ob_34, ob_35, ob_36, ob_37, ob_38, ob_39, ob_40, ob_41, ob_42, ob_43, ob_44, ob_45, ob_46, ob_47, ob_48, ob_49, ob_50, ob_51, ob_52, ob_53, ob_54, ob_55, ob_56, ob_57, ob_58, ob_59, ob_60, ob_61, ob_62, ob_63, ob_64, ob_65, jf7, aGi, aGb, aGz, aGj, leT, leF, ltT, ltF, eqT, eqF]
  | succ j ih =>
    intro i p p' i0 hi
    have K := W.ref i0 (show i < T 2 2 by omega)
    have pu := mZ_put (p := p) i0 (show i < 6 by omega)
    have pu' := mZ_put (p := p') i0 (show i < 6 by omega)
    by_cases c : T 2 (58 + i) = t
    · by_cases c' : T 2 (76 + i) = t
      · rw [← rgP_t (show i < T 2 2 by omega) (decide_eq_true c), ← rgP_t (show i < T 2 2 by omega) (decide_eq_true c'), ← ih (i + 1) _ _ (by omega) (by omega), ← pu, ← pu']
        conv => lhs; rw [E7107_71]
        simp (disch := omega) only [jc_ref, rI_int, rR_ref, rR_null, rJ_long, ckR_ref, ckR_null, ckr_ref, ckr_null, ckW_int, ckW_ref, ckW_null, cI_ok, cR_ok, cR_null, cV_ok, cJ_ok, qH_eq, qD_in, aG_ref, aS_ref, aL_ref, pF_ref, cK_ref, cK_null, zI_lit, zJ_lit, zI_add, zI_sub, zI_mul, zI_neg, zI_eq, zI_lt, zI_le, Int.reduceLT, Int.reduceLE, Int.reduceAdd, Int.reduceSub, Int.reduceMul, Int.reduceNeg, Int.reduceEq, Int.reduceNe, reduceIte, tw_0, tw_1, tw_2, tw_3, tw_4, tw_5, tw_6, tw_7, tw_8, tw_9, tw_10, tw_11, tw_12, tw_13, tw_14, tw_15, tw_16, tw_17, tw_18, tw_19, tw_20, tw_21, tw_22, tw_23, tw_24, tw_25, tw_26, tw_27, tw_28, tw_29, tw_30, tw_31, ob_0, ob_1, ob_2, ob_3, ob_4, ob_5, ob_6, ob_7, ob_8, ob_9, ob_10, ob_11, ob_12, ob_13, ob_14, ob_15, ob_16, ob_17, ob_18, ob_19, ob_20, ob_21, ob_22, ob_23, ob_24, ob_25, ob_26, ob_27, ob_28, ob_29, ob_30, ob_31, ob_32, ob_33, ob_34, ob_35, ob_36, ob_37, ob_38, ob_39, ob_40, ob_41, ob_42, ob_43, ob_44, ob_45, ob_46, ob_47, ob_48, ob_49, ob_50, ob_51, ob_52, ob_53, ob_54, ob_55, ob_56, ob_57, ob_58, ob_59, ob_60, ob_61, ob_62, ob_63, ob_64, ob_65, jf7, aGi, aGb, aGz, aGj, leT, leF, ltT, ltF, eqT, eqF, c, E7107_106, c']
      · rw [← rgP_t (show i < T 2 2 by omega) (decide_eq_true c), ← rgP_f (p := p') (q := fun k => decide (T 2 (76 + k) = t)) (decide_eq_false c'), ← ih (i + 1) _ _ (by omega) (by omega), ← pu]
        conv => lhs; rw [E7107_71]
        simp (disch := omega) only [jc_ref, rI_int, rR_ref, rR_null, rJ_long, ckR_ref, ckR_null, ckr_ref, ckr_null, ckW_int, ckW_ref, ckW_null, cI_ok, cR_ok, cR_null, cV_ok, cJ_ok, qH_eq, qD_in, aG_ref, aS_ref, aL_ref, pF_ref, cK_ref, cK_null, zI_lit, zJ_lit, zI_add, zI_sub, zI_mul, zI_neg, zI_eq, zI_lt, zI_le, Int.reduceLT, Int.reduceLE, Int.reduceAdd, Int.reduceSub, Int.reduceMul, Int.reduceNeg, Int.reduceEq, Int.reduceNe, reduceIte, tw_0, tw_1, tw_2, tw_3, tw_4, tw_5, tw_6, tw_7, tw_8, tw_9, tw_10, tw_11, tw_12, tw_13, tw_14, tw_15, tw_16, tw_17, tw_18, tw_19, tw_20, tw_21, tw_22, tw_23, tw_24, tw_25, tw_26, tw_27, tw_28, tw_29, tw_30, tw_31, ob_0, ob_1, ob_2, ob_3, ob_4, ob_5, ob_6, ob_7, ob_8, ob_9, ob_10, ob_11, ob_12, ob_13, ob_14, ob_15, ob_16, ob_17, ob_18, ob_19, ob_20, ob_21, ob_22, ob_23, ob_24, ob_25, ob_26, ob_27, ob_28, ob_29, ob_30, ob_31, ob_32, ob_33, ob_34, ob_35, ob_36, ob_37, ob_38, ob_39, ob_40, ob_41, ob_42, ob_43, ob_44, ob_45, ob_46, ob_47, ob_48, ob_49, ob_50, ob_51, ob_52, ob_53, ob_54, ob_55, ob_56, ob_57, ob_58, ob_59, ob_60, ob_61, ob_62, ob_63, ob_64, ob_65, jf7, aGi, aGb, aGz, aGj, leT, leF, ltT, ltF, eqT, eqF, c, E7107_106, c', mZ_or0]
    · by_cases c' : T 2 (76 + i) = t
      · rw [← rgP_f (decide_eq_false c), ← rgP_t (show i < T 2 2 by omega) (decide_eq_true c'), ← ih (i + 1) _ _ (by omega) (by omega), ← pu']
        conv => lhs; rw [E7107_71]
        simp (disch := omega) only [jc_ref, rI_int, rR_ref, rR_null, rJ_long, ckR_ref, ckR_null, ckr_ref, ckr_null, ckW_int, ckW_ref, ckW_null, cI_ok, cR_ok, cR_null, cV_ok, cJ_ok, qH_eq, qD_in, aG_ref, aS_ref, aL_ref, pF_ref, cK_ref, cK_null, zI_lit, zJ_lit, zI_add, zI_sub, zI_mul, zI_neg, zI_eq, zI_lt, zI_le, Int.reduceLT, Int.reduceLE, Int.reduceAdd, Int.reduceSub, Int.reduceMul, Int.reduceNeg, Int.reduceEq, Int.reduceNe, reduceIte, tw_0, tw_1, tw_2, tw_3, tw_4, tw_5, tw_6, tw_7, tw_8, tw_9, tw_10, tw_11, tw_12, tw_13, tw_14, tw_15, tw_16, tw_17, tw_18, tw_19, tw_20, tw_21, tw_22, tw_23, tw_24, tw_25, tw_26, tw_27, tw_28, tw_29, tw_30, tw_31, ob_0, ob_1, ob_2, ob_3, ob_4, ob_5, ob_6, ob_7, ob_8, ob_9, ob_10, ob_11, ob_12, ob_13, ob_14, ob_15, ob_16, ob_17, ob_18, ob_19, ob_20, ob_21, ob_22, ob_23, ob_24, ob_25, ob_26, ob_27, ob_28, ob_29, ob_30, ob_31, ob_32, ob_33, ob_34, ob_35, ob_36, ob_37, ob_38, ob_39, ob_40, ob_41, ob_42, ob_43, ob_44, ob_45, ob_46, ob_47, ob_48, ob_49, ob_50, ob_51, ob_52, ob_53, ob_54, ob_55, ob_56, ob_57, ob_58, ob_59, ob_60, ob_61, ob_62, ob_63, ob_64, ob_65, jf7, aGi, aGb, aGz, aGj, leT, leF, ltT, ltF, eqT, eqF, c, E7107_106, c', mZ_or0]
      · rw [← rgP_f (decide_eq_false c), ← rgP_f (p := p') (q := fun k => decide (T 2 (76 + k) = t)) (decide_eq_false c'), ← ih (i + 1) _ _ (by omega) (by omega)]
        conv => lhs; rw [E7107_71]
        simp (disch := omega) only [jc_ref, rI_int, rR_ref, rR_null, rJ_long, ckR_ref, ckR_null, ckr_ref, ckr_null, ckW_int, ckW_ref, ckW_null, cI_ok, cR_ok, cR_null, cV_ok, cJ_ok, qH_eq, qD_in, aG_ref, aS_ref, aL_ref, pF_ref, cK_ref, cK_null, zI_lit, zJ_lit, zI_add, zI_sub, zI_mul, zI_neg, zI_eq, zI_lt, zI_le, Int.reduceLT, Int.reduceLE, Int.reduceAdd, Int.reduceSub, Int.reduceMul, Int.reduceNeg, Int.reduceEq, Int.reduceNe, reduceIte, tw_0, tw_1, tw_2, tw_3, tw_4, tw_5, tw_6, tw_7, tw_8, tw_9, tw_10, tw_11, tw_12, tw_13, tw_14, tw_15, tw_16, tw_17, tw_18, tw_19, tw_20, tw_21, tw_22, tw_23, tw_24, tw_25, tw_26, tw_27, tw_28, tw_29, tw_30, tw_31, ob_0, ob_1, ob_2, ob_3, ob_4, ob_5, ob_6, ob_7, ob_8, ob_9, ob_10, ob_11, ob_12, ob_13, ob_14, ob_15, ob_16, ob_17, ob_18, ob_19, ob_20, ob_21, ob_22, ob_23, ob_24, ob_25, ob_26, ob_27, ob_28, ob_29, ob_30, ob_31, ob_32, ob_33, ob_34, ob_35, ob_36, ob_37, ob_38, ob_39, ob_40, ob_41, ob_42, ob_43, ob_44, ob_45, ob_46, ob_47, ob_48, ob_49, ob_50, ob_51, ob_52, ob_53, ob_54, ob_55, ob_56, ob_57, ob_58, ob_59, ob_60, ob_61, ob_62, ob_63, ob_64, ob_65, jf7, aGi, aGb, aGz, aGj, leT, leF, ltT, ltF, eqT, eqF, c, E7107_106, c', mZ_or0]
/-- one ref more: tables whose rows can go -/
def perS (S : Int → Int) (t f : Int) (p : Int → Bool) : Int → Bool := if S (88 + f) = 1 ∧ (S (76 + f) = t ∨ p (S (76 + f)) = true) then fun k => p k || decide (k = S (58 + f)) else p
def perF (S : Int → Int) (t : Int) : Nat → Int → (Int → Bool) → Int → Bool
  | 0, _, p => p
  | j + 1, f, p => perF S t j (f + 1) (perS S t f p)
def perQ (S : Int → Int) (t : Int) : Nat → (Int → Bool) → Int → Bool
  | 0, p => p
  | j + 1, p => perQ S t j (perF S t (S 2).toNat 0 p)
theorem pe_12 {t i3 : Int} (ht : Rg t) (W : StW (T 2)) (h3 : 0 ≤ i3 ∧ i3 < 100) : ∀ (j : Nat) (i : Int) (p : Int → Bool), 0 ≤ i → i + j = T 2 2 →
    G (d + 1) 7080 12 [.ref m, .int (zI t), .int (mZ p), .int (zI i3), .int (zI i)] [] (tw m T h) = G (d + 1) 7080 4 [.ref m, .int (zI t), .int (mZ (perF (T 2) t j i p)), .int (zI (i3 + 1)), .int (zI (T 2 2))] [] (tw m T h) := by
  have N := W.n0
  obtain ⟨t1, t2⟩ := ht
  intro j
  induction j with
  | zero =>
    intro i p i0 hi
    have e : i = T 2 2 := by omega
    subst e
    unfold perF
    conv => lhs; rw [E7080_12]
    simp (disch := omega) only [jc_ref, rI_int, rR_ref, rR_null, rJ_long, ckR_ref, ckR_null, ckr_ref, ckr_null, ckW_int, ckW_ref, ckW_null, cI_ok, cR_ok, cR_null, cV_ok, cJ_ok, qH_eq, qD_in, aG_ref, aS_ref, aL_ref, pF_ref, cK_ref, cK_null, zI_lit, zJ_lit, zI_add, zI_sub, zI_mul, zI_neg, zI_eq, zI_lt, zI_le, Int.reduceLT, Int.reduceLE, Int.reduceAdd, Int.reduceSub, Int.reduceMul, Int.reduceNeg, Int.reduceEq, Int.reduceNe, reduceIte, tw_0, tw_1, tw_2, tw_3, tw_4, tw_5, tw_6, tw_7, tw_8, tw_9, tw_10, tw_11, tw_12, tw_13, tw_14, tw_15, tw_16, tw_17, tw_18, tw_19, tw_20, tw_21, tw_22, tw_23, tw_24, tw_25, tw_26, tw_27, tw_28, tw_29, tw_30, tw_31, ob_0, ob_1, ob_2, ob_3, ob_4, ob_5, ob_6, ob_7, ob_8, ob_9, ob_10, ob_11, ob_12, ob_13, ob_14, ob_15, ob_16, ob_17, ob_18, ob_19, ob_20, ob_21, ob_22, ob_23, ob_24, ob_25, ob_26, ob_27, ob_28, ob_29, ob_30, ob_31, ob_32, ob_33, ob_34, ob_35, ob_36, ob_37, ob_38, ob_39, ob_40, ob_41, ob_42, ob_43, ob_44, ob_45, ob_46, ob_47, ob_48, ob_49, ob_50, ob_51, ob_52, ob_53, ob_54, ob_55, ob_56, ob_57, ob_58, ob_59, ob_60, ob_61, ob_62, ob_63, ob_64, ob_65, jf7, aGi, aGb, aGz, aGj, leT, leF, ltT, ltF, eqT, eqF]
  | succ j ih =>
    intro i p i0 hi
    have K := W.ref i0 (show i < T 2 2 by omega)
    have K2 := W.key2 i0 (show i < T 2 2 by omega)
    have pu := mZ_put (p := p) (k := T 2 (58 + i)) (by omega) (by omega)
    have bo := tm_bitOf (d := d) (h := tw m T h) (p := p) (k := T 2 (76 + i)) (by omega) (by omega)
    unfold perF
    rw [← ih (i + 1) _ (by omega) (by omega)]
    by_cases c : T 2 (88 + i) = 1
    · by_cases c2 : T 2 (76 + i) = t
      · have u : perS (T 2) t i p = fun k => p k || decide (k = T 2 (58 + i)) := by unfold perS; rw [if_pos ⟨c, Or.inl c2⟩]
        rw [u, ← pu]
        conv => lhs; rw [E7080_12]
        simp (disch := omega) only [jc_ref, rI_int, rR_ref, rR_null, rJ_long, ckR_ref, ckR_null, ckr_ref, ckr_null, ckW_int, ckW_ref, ckW_null, cI_ok, cR_ok, cR_null, cV_ok, cJ_ok, qH_eq, qD_in, aG_ref, aS_ref, aL_ref, pF_ref, cK_ref, cK_null, zI_lit, zJ_lit, zI_add, zI_sub, zI_mul, zI_neg, zI_eq, zI_lt, zI_le, Int.reduceLT, Int.reduceLE, Int.reduceAdd, Int.reduceSub, Int.reduceMul, Int.reduceNeg, Int.reduceEq, Int.reduceNe, reduceIte, tw_0, tw_1, tw_2, tw_3, tw_4, tw_5, tw_6, tw_7, tw_8, tw_9, tw_10, tw_11, tw_12, tw_13, tw_14, tw_15, tw_16, tw_17, tw_18, tw_19, tw_20, tw_21, tw_22, tw_23, tw_24, tw_25, tw_26, tw_27, tw_28, tw_29, tw_30, tw_31, ob_0, ob_1, ob_2, ob_3, ob_4, ob_5, ob_6, ob_7, ob_8, ob_9, ob_10, ob_11, ob_12, ob_13, ob_14, ob_15, ob_16, ob_17, ob_18, ob_19, ob_20, ob_21, ob_22, ob_23, ob_24, ob_25, ob_26, ob_27, ob_28, ob_29, ob_30, ob_31, ob_32, ob_33, ob_34, ob_35, ob_36, ob_37, ob_38, ob_39, ob_40, ob_41, ob_42, ob_43, ob_44, ob_45, ob_46, ob_47, ob_48, ob_49, ob_50, ob_51, ob_52, ob_53, ob_54, ob_55, ob_56, ob_57, ob_58, ob_59, ob_60, ob_61, ob_62, ob_63, ob_64, ob_65, jf7, aGi, aGb, aGz, aGj, leT, leF, ltT, ltF, eqT, eqF, c, c2]
      · cases hp : p (T 2 (76 + i)) with
        | true =>
          have u : perS (T 2) t i p = fun k => p k || decide (k = T 2 (58 + i)) := by unfold perS; rw [if_pos ⟨c, Or.inr hp⟩]
          rw [u, ← pu]
          conv => lhs; rw [E7080_12]
          simp (disch := omega) only [jc_ref, rI_int, rR_ref, rR_null, rJ_long, ckR_ref, ckR_null, ckr_ref, ckr_null, ckW_int, ckW_ref, ckW_null, cI_ok, cR_ok, cR_null, cV_ok, cJ_ok, qH_eq, qD_in, aG_ref, aS_ref, aL_ref, pF_ref, cK_ref, cK_null, zI_lit, zJ_lit, zI_add, zI_sub, zI_mul, zI_neg, zI_eq, zI_lt, zI_le, Int.reduceLT, Int.reduceLE, Int.reduceAdd, Int.reduceSub, Int.reduceMul, Int.reduceNeg, Int.reduceEq, Int.reduceNe, reduceIte, tw_0, tw_1, tw_2, tw_3, tw_4, tw_5, tw_6, tw_7, tw_8, tw_9, tw_10, tw_11, tw_12, tw_13, tw_14, tw_15, tw_16, tw_17, tw_18, tw_19, tw_20, tw_21, tw_22, tw_23, tw_24, tw_25, tw_26, tw_27, tw_28, tw_29, tw_30, tw_31, ob_0, ob_1, ob_2, ob_3, ob_4, ob_5, ob_6, ob_7, ob_8, ob_9, ob_10, ob_11, ob_12, ob_13, ob_14, ob_15, ob_16, ob_17, ob_18, ob_19, ob_20, ob_21, ob_22, ob_23, ob_24, ob_25, ob_26, ob_27, ob_28, ob_29, ob_30, ob_31, ob_32, ob_33, ob_34, ob_35, ob_36, ob_37, ob_38, ob_39, ob_40, ob_41, ob_42, ob_43, ob_44, ob_45, ob_46, ob_47, ob_48, ob_49, ob_50, ob_51, ob_52, ob_53, ob_54, ob_55, ob_56, ob_57, ob_58, ob_59, ob_60, ob_61, ob_62, ob_63, ob_64, ob_65, jf7, aGi, aGb, aGz, aGj, leT, leF, ltT, ltF, eqT, eqF, c, c2, bo, hp, beq_tt, beq_tf, beq_ft, beq_ff, Bool.true_and, Bool.false_and, Bool.and_true, Bool.and_false, Bool.true_or, Bool.false_or, Bool.or_true, Bool.or_false, Bool.true_eq_false, Bool.false_eq_true, Bool.not_true, Bool.not_false, bZ_t, bZ_f, zI_b0, zI_b1, zI_bb, okZ_0, okZ_1]
        | false =>
          have u : perS (T 2) t i p = p := by unfold perS; rw [if_neg (fun z => by rcases z.2 with z | z; exact c2 z; rw [hp] at z; cases z)]
          rw [u]
          conv => lhs; rw [E7080_12]
          simp (disch := omega) only [jc_ref, rI_int, rR_ref, rR_null, rJ_long, ckR_ref, ckR_null, ckr_ref, ckr_null, ckW_int, ckW_ref, ckW_null, cI_ok, cR_ok, cR_null, cV_ok, cJ_ok, qH_eq, qD_in, aG_ref, aS_ref, aL_ref, pF_ref, cK_ref, cK_null, zI_lit, zJ_lit, zI_add, zI_sub, zI_mul, zI_neg, zI_eq, zI_lt, zI_le, Int.reduceLT, Int.reduceLE, Int.reduceAdd, Int.reduceSub, Int.reduceMul, Int.reduceNeg, Int.reduceEq, Int.reduceNe, reduceIte, tw_0, tw_1, tw_2, tw_3, tw_4, tw_5, tw_6, tw_7, tw_8, tw_9, tw_10, tw_11, tw_12, tw_13, tw_14, tw_15, tw_16, tw_17, tw_18, tw_19, tw_20, tw_21, tw_22, tw_23, tw_24, tw_25, tw_26, tw_27, tw_28, tw_29, tw_30, tw_31, ob_0, ob_1, ob_2, ob_3, ob_4, ob_5, ob_6, ob_7, ob_8, ob_9, ob_10, ob_11, ob_12, ob_13, ob_14, ob_15, ob_16, ob_17, ob_18, ob_19, ob_20, ob_21, ob_22, ob_23, ob_24, ob_25, ob_26, ob_27, ob_28, ob_29, ob_30, ob_31, ob_32, ob_33, ob_34, ob_35, ob_36, ob_37, ob_38, ob_39, ob_40, ob_41, ob_42, ob_43, ob_44, ob_45, ob_46, ob_47, ob_48, ob_49, ob_50, ob_51, ob_52, ob_53, ob_54, ob_55, ob_56, ob_57, ob_58, ob_59, ob_60, ob_61, ob_62, ob_63, ob_64, ob_65, jf7, aGi, aGb, aGz, aGj, leT, leF, ltT, ltF, eqT, eqF, c, c2, bo, hp, beq_tt, beq_tf, beq_ft, beq_ff, Bool.true_and, Bool.false_and, Bool.and_true, Bool.and_false, Bool.true_or, Bool.false_or, Bool.or_true, Bool.or_false, Bool.true_eq_false, Bool.false_eq_true, Bool.not_true, Bool.not_false, bZ_t, bZ_f, zI_b0, zI_b1, zI_bb, okZ_0, okZ_1]
    · have u : perS (T 2) t i p = p := by unfold perS; rw [if_neg (fun z => c z.1)]
      rw [u]
      conv => lhs; rw [E7080_12]
      simp (disch := omega) only [jc_ref, rI_int, rR_ref, rR_null, rJ_long, ckR_ref, ckR_null, ckr_ref, ckr_null, ckW_int, ckW_ref, ckW_null, cI_ok, cR_ok, cR_null, cV_ok, cJ_ok, qH_eq, qD_in, aG_ref, aS_ref, aL_ref, pF_ref, cK_ref, cK_null, zI_lit, zJ_lit, zI_add, zI_sub, zI_mul, zI_neg, zI_eq, zI_lt, zI_le, Int.reduceLT, Int.reduceLE, Int.reduceAdd, Int.reduceSub, Int.reduceMul, Int.reduceNeg, Int.reduceEq, Int.reduceNe, reduceIte, tw_0, tw_1, tw_2, tw_3, tw_4, tw_5, tw_6, tw_7, tw_8, tw_9, tw_10, tw_11, tw_12, tw_13, tw_14, tw_15, tw_16, tw_17, tw_18, tw_19, tw_20, tw_21, tw_22, tw_23, tw_24, tw_25, tw_26, tw_27, tw_28, tw_29, tw_30, tw_31, ob_0, ob_1, ob_2, ob_3, ob_4, ob_5, ob_6, ob_7, ob_8, ob_9, ob_10, ob_11, ob_12, ob_13, ob_14, ob_15, ob_16, ob_17, ob_18, ob_19, ob_20, ob_21, ob_22, ob_23, ob_24, ob_25, ob_26, ob_27, ob_28, ob_29, ob_30, ob_31, ob_32, ob_33, ob_34, ob_35, ob_36, ob_37, ob_38, ob_39, ob_40, ob_41, ob_42, ob_43, ob_44, ob_45, ob_46, ob_47, ob_48, ob_49, ob_50, ob_51, ob_52, ob_53, ob_54, ob_55, ob_56, ob_57, ob_58, ob_59, ob_60, ob_61, ob_62, ob_63, ob_64, ob_65, jf7, aGi, aGb, aGz, aGj, leT, leF, ltT, ltF, eqT, eqF, c]
theorem pe_4 {t : Int} (ht : Rg t) (W : StW (T 2)) : ∀ (j : Nat) (i3 : Int) (v : Value) (p : Int → Bool), 0 ≤ i3 → i3 + j = 4 →
    G (d + 1) 7080 4 [.ref m, .int (zI t), .int (mZ p), .int (zI i3), v] [] (tw m T h) = some (.inl (some (.int (mZ (perQ (T 2) t j p)))), tw m T h) := by
  have N := W.n0
  intro j
  induction j with
  | zero =>
    intro i3 v p h0 h1
    unfold perQ
    rw [E7080_4]
    simp (disch := omega) only [jc_ref, rI_int, rR_ref, rR_null, rJ_long, ckR_ref, ckR_null, ckr_ref, ckr_null, ckW_int, ckW_ref, ckW_null, cI_ok, cR_ok, cR_null, cV_ok, cJ_ok, qH_eq, qD_in, aG_ref, aS_ref, aL_ref, pF_ref, cK_ref, cK_null, zI_lit, zJ_lit, zI_add, zI_sub, zI_mul, zI_neg, zI_eq, zI_lt, zI_le, Int.reduceLT, Int.reduceLE, Int.reduceAdd, Int.reduceSub, Int.reduceMul, Int.reduceNeg, Int.reduceEq, Int.reduceNe, reduceIte, tw_0, tw_1, tw_2, tw_3, tw_4, tw_5, tw_6, tw_7, tw_8, tw_9, tw_10, tw_11, tw_12, tw_13, tw_14, tw_15, tw_16, tw_17, tw_18, tw_19, tw_20, tw_21, tw_22, tw_23, tw_24, tw_25, tw_26, tw_27, tw_28, tw_29, tw_30, tw_31, ob_0, ob_1, ob_2, ob_3, ob_4, ob_5, ob_6, ob_7, ob_8, ob_9, ob_10, ob_11, ob_12, ob_13, ob_14, ob_15, ob_16, ob_17, ob_18, ob_19, ob_20, ob_21, ob_22, ob_23, ob_24, ob_25, ob_26, ob_27, ob_28, ob_29, ob_30, ob_31, ob_32, ob_33, ob_34, ob_35, ob_36, ob_37, ob_38, ob_39, ob_40, ob_41, ob_42, ob_43, ob_44, ob_45, ob_46, ob_47, ob_48, ob_49, ob_50, ob_51, ob_52, ob_53, ob_54, ob_55, ob_56, ob_57, ob_58, ob_59, ob_60, ob_61, ob_62, ob_63, ob_64, ob_65, jf7, aGi, aGb, aGz, aGj, leT, leF, ltT, ltF, eqT, eqF]
  | succ j ih =>
    intro i3 v p h0 h1
    have l := pe_12 (d := d) (m := m) (h := h) ht W (i3 := i3) (by omega) (T 2 2).toNat 0 p (by omega) (by omega)
    unfold perQ
    rw [← ih (i3 + 1) _ _ (by omega) (by omega), ← l]
    conv => lhs; rw [E7080_4]
    simp (disch := omega) only [jc_ref, rI_int, rR_ref, rR_null, rJ_long, ckR_ref, ckR_null, ckr_ref, ckr_null, ckW_int, ckW_ref, ckW_null, cI_ok, cR_ok, cR_null, cV_ok, cJ_ok, qH_eq, qD_in, aG_ref, aS_ref, aL_ref, pF_ref, cK_ref, cK_null, zI_lit, zJ_lit, zI_add, zI_sub, zI_mul, zI_neg, zI_eq, zI_lt, zI_le, Int.reduceLT, Int.reduceLE, Int.reduceAdd, Int.reduceSub, Int.reduceMul, Int.reduceNeg, Int.reduceEq, Int.reduceNe, reduceIte, tw_0, tw_1, tw_2, tw_3, tw_4, tw_5, tw_6, tw_7, tw_8, tw_9, tw_10, tw_11, tw_12, tw_13, tw_14, tw_15, tw_16, tw_17, tw_18, tw_19, tw_20, tw_21, tw_22, tw_23, tw_24, tw_25, tw_26, tw_27, tw_28, tw_29, tw_30, tw_31, ob_0, ob_1, ob_2, ob_3, ob_4, ob_5, ob_6, ob_7, ob_8, ob_9, ob_10, ob_11, ob_12, ob_13, ob_14, ob_15, ob_16, ob_17, ob_18, ob_19, ob_20, ob_21, ob_22, ob_23, ob_24, ob_25, ob_26, ob_27, ob_28, ob_29, ob_30, ob_31, ob_32, ob_33, ob_34, ob_35, ob_36, ob_37, ob_38, ob_39, ob_40, ob_41, ob_42, ob_43, ob_44, ob_45, ob_46, ob_47, ob_48, ob_49, ob_50, ob_51, ob_52, ob_53, ob_54, ob_55, ob_56, ob_57, ob_58, ob_59, ob_60, ob_61, ob_62, ob_63, ob_64, ob_65, jf7, aGi, aGb, aGz, aGj, leT, leF, ltT, ltF, eqT, eqF]
theorem tm_perils {t : Int} (ht : Rg t) (W : StW (T 2)) : M (d + 2) 7080 [.ref m, .int (zI t)] (tw m T h) = some (.inl (some (.int (mZ (perQ (T 2) t 4 fun _ => false)))), tw m T h) := by
  have l := pe_4 (d := d) (m := m) (h := h) ht W 4 0 jno (fun _ => false) (by omega) (by omega)
  rw [mZ_no] at l
  rw [X7080 _ (tw_recv rfl), E7080_0]
  exact l
/-- what is told of a table -/
def tabZ (S : Int → Int) (t w : Int) : Int32 := if isInZ t 0 (S 0 - 1) = true then (if w = 0 then zI (S (4 + t)) else if w = 1 then mZ (rgP (fun _ => false) (fun k => decide (S (40 + k) = t)) 0 (S 1)) else
  if w = 2 then mZ (rgP (fun _ => false) (fun k => decide (S (58 + k) = t)) 0 (S 2)) else if w = 3 then mZ (rgP (fun _ => false) (fun k => decide (S (76 + k) = t)) 0 (S 2)) else if w = 4 then mZ (perQ S t 4 fun _ => false) else zI (-1)) else zI (-1)
theorem tm_table {t w : Int} (ht : Rg t) (hw : Rg w) (W : StW (T 2)) : M (d + 3) 7107 [.ref m, .int (zI t), .int (zI w)] (tw m T h) = some (.inl (some (.int (tabZ (T 2) t w))), tw m (ts T 0 0 0) h) := by
  have N := W.n0
  have it := tm_isTable (d := d) (m := m) (h := h) (T := ts T 0 0 0) ht W.n0.1
  rw [ts_ne (show (2 : Nat) ≠ 0 by decide), show ts T 0 0 0 = tg T 0 (fset (T 0) 0 0) from rfl] at it
  have l1 := fun x4 x5 => ta_26 (d := d + 2) (m := m) (h := h) (T := ts T 0 0 0) (w := w) (i4 := 0) (i5 := 0) (x4 := x4) (x5 := x5) ht W (T 2 1).toNat 0 (fun _ => false) (by omega) (by rw [ts_ne (by decide)]; omega)
  have l2 := fun x3 => ta_71 (d := d + 2) (m := m) (h := h) (T := ts T 0 0 0) (w := w) (x3 := x3) ht W (T 2 2).toNat 0 (fun _ => false) (fun _ => false) (by omega) (by rw [ts_ne (by decide)]; omega)
  simp only [ts_ne (show (2 : Nat) ≠ 0 by decide), mZ_no] at l1 l2
  have l1' : ∀ x4 x5, G (d + 2) 7107 26 [.ref m, .int (zI t), .int (zI w), .int (zI 0), .int x4, .int x5, .int (zI 0)] [] (tw m (tg T 0 (fset (T 0) 0 0)) h) = _ := l1
  have l2' : ∀ x3, G (d + 2) 7107 71 [.ref m, .int (zI t), .int (zI w), .int x3, .int (zI 0), .int (zI 0), .int (zI 0)] [] (tw m (tg T 0 (fset (T 0) 0 0)) h) = _ := l2
  unfold tabZ
  rw [X7107 _ (tw_recv rfl), E7107_0]
  cases e : isInZ t 0 (T 2 0 - 1) with
  | false =>
    rw [if_neg (by decide)]
    simp (disch := omega) only [jc_ref, rI_int, rR_ref, rR_null, rJ_long, ckR_ref, ckR_null, ckr_ref, ckr_null, ckW_int, ckW_ref, ckW_null, cI_ok, cR_ok, cR_null, cV_ok, cJ_ok, qH_eq, qD_in, aG_ref, aS_ref, aL_ref, pF_ref, cK_ref, cK_null, zI_lit, zJ_lit, zI_add, zI_sub, zI_mul, zI_neg, zI_eq, zI_lt, zI_le, Int.reduceLT, Int.reduceLE, Int.reduceAdd, Int.reduceSub, Int.reduceMul, Int.reduceNeg, Int.reduceEq, Int.reduceNe, reduceIte, tw_0, tw_1, tw_2, tw_3, tw_4, tw_5, tw_6, tw_7, tw_8, tw_9, tw_10, tw_11, tw_12, tw_13, tw_14, tw_15, tw_16, tw_17, tw_18, tw_19, tw_20, tw_21, tw_22, tw_23, tw_24, tw_25, tw_26, tw_27, tw_28, tw_29, tw_30, tw_31, ob_0, ob_1, ob_2, ob_3, ob_4, ob_5, ob_6, ob_7, ob_8, ob_9, ob_10, ob_11, ob_12, ob_13, ob_14, ob_15, ob_16, ob_17, ob_18, ob_19, ob_20, ob_21, ob_22, ob_23, ob_24, ob_25, ob_26, ob_27, ob_28, ob_29, ob_30, ob_31, ob_32, ob_33, ob_34, ob_35, ob_36, ob_37, ob_38, ob_39, ob_40, ob_41, ob_42, ob_43, ob_44, ob_45, ob_46, ob_47, ob_48, ob_49, ob_50, ob_51, ob_52, ob_53, ob_54, ob_55, ob_56, ob_57, ob_58, ob_59, ob_60, ob_61, ob_62, ob_63, ob_64, ob_65, jf7, aGi, aGb, aGz, aGj, leT, leF, ltT, ltF, eqT, eqF, tws_0, tws_1, tws_2, tws_3, tws_4, tws_5, tws_6, tws_7, tws_8, tws_9, tws_10, tws_11, tws_12, tws_13, tws_14, tws_15, tws_16, tws_17, tws_18, tws_19, tws_20, tws_21, tws_22, tws_23, tws_24, tws_25, tws_26, tws_27, tws_28, tws_29, tws_30, tws_31, obs_0, obs_2, obs_3, obs_4, obs_5, obs_12, obs_13, obs_14, obs_15, obs_16, obs_17, obs_18, obs_19, obs_20, obs_21, obs_22, obs_26, obs_31, obs_32, obs_33, obs_34, obs_35, obs_41, obs_42, obs_44, obs_48, obs_50, obs_51, obs_52, obs_55, obs_57, obs_58, obs_59, obs_60, obs_61, pF7i, pF7z, pF7j, aSi, aSj, aSb1, aSb24, aSb28, aSb31, ts, tg_eq, tg_ne, tg_tg, fset_eq, fset_ne, it, e, beq_tt, beq_tf, beq_ft, beq_ff, Bool.true_and, Bool.false_and, Bool.and_true, Bool.and_false, Bool.true_or, Bool.false_or, Bool.or_true, Bool.or_false, Bool.true_eq_false, Bool.false_eq_true, Bool.not_true, Bool.not_false, bZ_t, bZ_f, zI_b0, zI_b1, zI_bb, okZ_0, okZ_1]
  | true =>
    have et := isInZ_t e
    have st : ∀ R, G (d + 2) 7107 (swT (zI w) (zI 0) (zI 4) [176, 185, 187, 190, 193] 199) [.ref m, .int (zI t), .int (zI w), .int (mZ (rgP (fun _ => false) (fun k => decide (T 2 (40 + k) = t)) 0 (T 2 1))), .int (mZ (rgP (fun _ => false) (fun k => decide (T 2 (58 + k) = t)) 0 (T 2 2))), .int (mZ (rgP (fun _ => false) (fun k => decide (T 2 (76 + k) = t)) 0 (T 2 2))), .int (zI (T 2 2))] [] (tw m (ts T 0 0 0) h) = R → zqF (tw m T h) (.ref m) [7] 0 0 (.int 0) (fun h1 => zcI (M (d + 2) 7055 [.ref m, .int (zI t)] h1) (fun x2 h3 => if x2 = 0 then (some (.inl (some (.int (-1))), h3)) else (G (d + 2) 7107 26 [.ref m, .int (zI t), .int (zI w), .int 0, .int 0, .int 0, .int 0] [] h3)) ()) () = R := fun R hR => by
      rw [← hR]
      simp (disch := omega) only [jc_ref, rI_int, rR_ref, rR_null, rJ_long, ckR_ref, ckR_null, ckr_ref, ckr_null, ckW_int, ckW_ref, ckW_null, cI_ok, cR_ok, cR_null, cV_ok, cJ_ok, qH_eq, qD_in, aG_ref, aS_ref, aL_ref, pF_ref, cK_ref, cK_null, zI_lit, zJ_lit, zI_add, zI_sub, zI_mul, zI_neg, zI_eq, zI_lt, zI_le, Int.reduceLT, Int.reduceLE, Int.reduceAdd, Int.reduceSub, Int.reduceMul, Int.reduceNeg, Int.reduceEq, Int.reduceNe, reduceIte, tw_0, tw_1, tw_2, tw_3, tw_4, tw_5, tw_6, tw_7, tw_8, tw_9, tw_10, tw_11, tw_12, tw_13, tw_14, tw_15, tw_16, tw_17, tw_18, tw_19, tw_20, tw_21, tw_22, tw_23, tw_24, tw_25, tw_26, tw_27, tw_28, tw_29, tw_30, tw_31, ob_0, ob_1, ob_2, ob_3, ob_4, ob_5, ob_6, ob_7, ob_8, ob_9, ob_10, ob_11, ob_12, ob_13, ob_14, ob_15, ob_16, ob_17, ob_18, ob_19, ob_20, ob_21, ob_22, ob_23, ob_24, ob_25, ob_26, ob_27, ob_28, ob_29, ob_30, ob_31, ob_32, ob_33, ob_34, ob_35, ob_36, ob_37, ob_38, ob_39, ob_40, ob_41, ob_42, ob_43, ob_44, ob_45, ob_46, ob_47, ob_48, ob_49, ob_50, ob_51, ob_52, ob_53, ob_54, ob_55, ob_56, ob_57, ob_58, ob_59, ob_60, ob_61, ob_62, ob_63, ob_64, ob_65, jf7, aGi, aGb, aGz, aGj, leT, leF, ltT, ltF, eqT, eqF, tws_0, tws_1, tws_2, tws_3, tws_4, tws_5, tws_6, tws_7, tws_8, tws_9, tws_10, tws_11, tws_12, tws_13, tws_14, tws_15, tws_16, tws_17, tws_18, tws_19, tws_20, tws_21, tws_22, tws_23, tws_24, tws_25, tws_26, tws_27, tws_28, tws_29, tws_30, tws_31, obs_0, obs_2, obs_3, obs_4, obs_5, obs_12, obs_13, obs_14, obs_15, obs_16, obs_17, obs_18, obs_19, obs_20, obs_21, obs_22, obs_26, obs_31, obs_32, obs_33, obs_34, obs_35, obs_41, obs_42, obs_44, obs_48, obs_50, obs_51, obs_52, obs_55, obs_57, obs_58, obs_59, obs_60, obs_61, pF7i, pF7z, pF7j, aSi, aSj, aSb1, aSb24, aSb28, aSb31, ts, tg_eq, tg_ne, tg_tg, fset_eq, fset_ne, it, e, beq_tt, beq_tf, beq_ft, beq_ff, Bool.true_and, Bool.false_and, Bool.and_true, Bool.and_false, Bool.true_or, Bool.false_or, Bool.or_true, Bool.or_false, Bool.true_eq_false, Bool.false_eq_true, Bool.not_true, Bool.not_false, bZ_t, bZ_f, zI_b0, zI_b1, zI_bb, okZ_0, okZ_1, l1', l2']
    refine st _ ?_
    rw [if_pos rfl]
    by_cases c0 : w = 0
    · subst c0
      have CO := W.co et.1 (by omega)
      rw [if_pos rfl, show swT (zI 0) (zI 0) (zI 4) [176, 185, 187, 190, 193] 199 = 176 by decide, E7107_176]
      simp (disch := omega) only [jc_ref, rI_int, rR_ref, rR_null, rJ_long, ckR_ref, ckR_null, ckr_ref, ckr_null, ckW_int, ckW_ref, ckW_null, cI_ok, cR_ok, cR_null, cV_ok, cJ_ok, qH_eq, qD_in, aG_ref, aS_ref, aL_ref, pF_ref, cK_ref, cK_null, zI_lit, zJ_lit, zI_add, zI_sub, zI_mul, zI_neg, zI_eq, zI_lt, zI_le, Int.reduceLT, Int.reduceLE, Int.reduceAdd, Int.reduceSub, Int.reduceMul, Int.reduceNeg, Int.reduceEq, Int.reduceNe, reduceIte, tw_0, tw_1, tw_2, tw_3, tw_4, tw_5, tw_6, tw_7, tw_8, tw_9, tw_10, tw_11, tw_12, tw_13, tw_14, tw_15, tw_16, tw_17, tw_18, tw_19, tw_20, tw_21, tw_22, tw_23, tw_24, tw_25, tw_26, tw_27, tw_28, tw_29, tw_30, tw_31, ob_0, ob_1, ob_2, ob_3, ob_4, ob_5, ob_6, ob_7, ob_8, ob_9, ob_10, ob_11, ob_12, ob_13, ob_14, ob_15, ob_16, ob_17, ob_18, ob_19, ob_20, ob_21, ob_22, ob_23, ob_24, ob_25, ob_26, ob_27, ob_28, ob_29, ob_30, ob_31, ob_32, ob_33, ob_34, ob_35, ob_36, ob_37, ob_38, ob_39, ob_40, ob_41, ob_42, ob_43, ob_44, ob_45, ob_46, ob_47, ob_48, ob_49, ob_50, ob_51, ob_52, ob_53, ob_54, ob_55, ob_56, ob_57, ob_58, ob_59, ob_60, ob_61, ob_62, ob_63, ob_64, ob_65, jf7, aGi, aGb, aGz, aGj, leT, leF, ltT, ltF, eqT, eqF, tws_0, tws_1, tws_2, tws_3, tws_4, tws_5, tws_6, tws_7, tws_8, tws_9, tws_10, tws_11, tws_12, tws_13, tws_14, tws_15, tws_16, tws_17, tws_18, tws_19, tws_20, tws_21, tws_22, tws_23, tws_24, tws_25, tws_26, tws_27, tws_28, tws_29, tws_30, tws_31, obs_0, obs_2, obs_3, obs_4, obs_5, obs_12, obs_13, obs_14, obs_15, obs_16, obs_17, obs_18, obs_19, obs_20, obs_21, obs_22, obs_26, obs_31, obs_32, obs_33, obs_34, obs_35, obs_41, obs_42, obs_44, obs_48, obs_50, obs_51, obs_52, obs_55, obs_57, obs_58, obs_59, obs_60, obs_61, pF7i, pF7z, pF7j, aSi, aSj, aSb1, aSb24, aSb28, aSb31, ts, tg_eq, tg_ne, tg_tg, fset_eq, fset_ne]
    · rw [if_neg c0]
      by_cases c1 : w = 1
      · subst c1
        rw [if_pos rfl, show swT (zI 1) (zI 0) (zI 4) [176, 185, 187, 190, 193] 199 = 185 by decide, E7107_185]
      · rw [if_neg c1]
        by_cases c2 : w = 2
        · subst c2
          rw [if_pos rfl, show swT (zI 2) (zI 0) (zI 4) [176, 185, 187, 190, 193] 199 = 187 by decide, E7107_187]
        · rw [if_neg c2]
          by_cases c3 : w = 3
          · subst c3
            rw [if_pos rfl, show swT (zI 3) (zI 0) (zI 4) [176, 185, 187, 190, 193] 199 = 190 by decide, E7107_190]
          · rw [if_neg c3]
            by_cases c4 : w = 4
            · subst c4
              have pr := tm_perils (d := d) (m := m) (h := h) (T := ts T 0 0 0) ht W
              rw [ts_ne (show (2 : Nat) ≠ 0 by decide)] at pr
              rw [if_pos rfl, show swT (zI 4) (zI 0) (zI 4) [176, 185, 187, 190, 193] 199 = 193 by decide, E7107_193]
              simp (disch := omega) only [jc_ref, rI_int, rR_ref, rR_null, rJ_long, ckR_ref, ckR_null, ckr_ref, ckr_null, ckW_int, ckW_ref, ckW_null, cI_ok, cR_ok, cR_null, cV_ok, cJ_ok, qH_eq, qD_in, aG_ref, aS_ref, aL_ref, pF_ref, cK_ref, cK_null, zI_lit, zJ_lit, zI_add, zI_sub, zI_mul, zI_neg, zI_eq, zI_lt, zI_le, Int.reduceLT, Int.reduceLE, Int.reduceAdd, Int.reduceSub, Int.reduceMul, Int.reduceNeg, Int.reduceEq, Int.reduceNe, reduceIte, tw_0, tw_1, tw_2, tw_3, tw_4, tw_5, tw_6, tw_7, tw_8, tw_9, tw_10, tw_11, tw_12, tw_13, tw_14, tw_15, tw_16, tw_17, tw_18, tw_19, tw_20, tw_21, tw_22, tw_23, tw_24, tw_25, tw_26, tw_27, tw_28, tw_29, tw_30, tw_31, ob_0, ob_1, ob_2, ob_3, ob_4, ob_5, ob_6, ob_7, ob_8, ob_9, ob_10, ob_11, ob_12, ob_13, ob_14, ob_15, ob_16, ob_17, ob_18, ob_19, ob_20, ob_21, ob_22, ob_23, ob_24, ob_25, ob_26, ob_27, ob_28, ob_29, ob_30, ob_31, ob_32, ob_33, ob_34, ob_35, ob_36, ob_37, ob_38, ob_39, ob_40, ob_41, ob_42, ob_43, ob_44, ob_45, ob_46, ob_47, ob_48, ob_49, ob_50, ob_51, ob_52, ob_53, ob_54, ob_55, ob_56, ob_57, ob_58, ob_59, ob_60, ob_61, ob_62, ob_63, ob_64, ob_65, jf7, aGi, aGb, aGz, aGj, leT, leF, ltT, ltF, eqT, eqF, pr]
            · rw [if_neg c4, swT_out hw ⟨by omega, by omega⟩ ⟨by omega, by omega⟩ (by omega), E7107_199]
              rfl
end
