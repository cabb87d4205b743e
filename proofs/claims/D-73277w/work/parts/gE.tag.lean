/-! the twin spells a row -/
section
theorem sh_J {w : Int} {s : Int64} {n : Nat} (w0 : 0 ≤ w) (w1 : w < 72057594037927936) (hs : (s.toBitVec.smod 64).toNat = n) : (zJ w >>> s).toInt = w / 2 ^ n := by
  have tw : (zJ w).toInt = w := zJ_toInt (by omega) (by omega)
  show (zJ w >>> s).toBitVec.toInt = _
  rw [Int64.toBitVec_shiftRight]
  show ((zJ w).toBitVec.sshiftRight (s.toBitVec.smod 64).toNat).toInt = _
  rw [hs, BitVec.toInt_sshiftRight]
  show (zJ w).toInt >>> n = _
  rw [tw, Int.shiftRight_eq_div_pow]
  rfl
theorem an_J {y : Int64} {v : Int} (hy : y.toInt = v) (v0 : 0 ≤ v) (v1 : v < 72057594037927936) : y &&& zJ 255 = zJ (v % 256) := by
  have hv : y.toBitVec.toNat = v.toNat := by
    have h1 : y.toBitVec.toInt = v := hy
    have h2 := y.toBitVec.isLt
    rw [BitVec.toInt_eq_toNat_cond] at h1
    split at h1 <;> omega
  refine Int64.toInt_inj.mp ?_
  rw [zJ_toInt (by omega) (by omega)]
  show (y &&& zJ 255).toBitVec.toInt = _
  have hn : (y &&& zJ 255).toBitVec.toNat = v.toNat % 256 := by
    rw [Int64.toBitVec_and, BitVec.toNat_and, hv]
    show v.toNat &&& 255 = _
    exact Nat.and_two_pow_sub_one_eq_mod v.toNat 8
  rw [BitVec.toInt_eq_toNat_cond, hn]
  split <;> omega
theorem zJ_byte {w k : Int} (w0 : 0 ≤ w) (w1 : w < 72057594037927936) (hk : k = 56 ∨ k = 48 ∨ k = 40 ∨ k = 32 ∨ k = 24 ∨ k = 16 ∨ k = 8 ∨ k = 0) : ((zJ w >>> ((zI k).toInt64 &&& zJ 63)) &&& zJ 255) = zJ (w / 2 ^ k.toNat % 256) := by
  have e : ((((zI k).toInt64 &&& zJ 63)).toBitVec.smod 64).toNat = k.toNat := by rcases hk with rfl | rfl | rfl | rfl | rfl | rfl | rfl | rfl <;> decide
  refine an_J (sh_J w0 w1 e) (Int.ediv_nonneg w0 (Int.le_of_lt (Int.pow_pos (by decide)))) ?_
  exact Int.lt_of_le_of_lt (Int.ediv_le_self _ w0) w1
theorem zJ_toI {v : Int} (v0 : 0 ≤ v) (v1 : v < 256) : (zJ v).toInt32 = zI v := by
  refine Int32.toInt_inj.mp ?_
  rw [Int64.toInt_toInt32, zJ_toInt (by omega) (by omega), zI_toInt (by omega) (by omega)]
  exact Int.bmod_eq_of_le (by omega) (by omega)
end
section
variable {d m : Nat} {h : AH} {T : Nat → Int → Int}
/-- one byte more -/
def lyQ (T : Nat → Int → Int) (v : Int) : Nat → Int → Int := ts (ts T 24 (T 0 50) (zB (zI v))) 0 50 (T 0 50 + 1)
theorem lyQ_k {v : Int} {k : Nat} (h0 : k ≠ 0) (h1 : k ≠ 24) : lyQ T v k = T k := by unfold lyQ; rw [ts_ne h0, ts_ne h1]
theorem lyQ_50 {v : Int} : lyQ T v 0 50 = T 0 50 + 1 := by unfold lyQ; rw [ts_eq, fset_eq]
theorem lyQ_0 {v i : Int} (h : i ≠ 50) : lyQ T v 0 i = T 0 i := by unfold lyQ; rw [ts_eq, fset_ne h, ts_ne (by decide)]
theorem tm_lays {v : Int} (h0 : 0 ≤ T 0 50) (h1 : T 0 50 < 30) : M (d + 1) 7064 [.ref m, .int (zI v)] (tw m T h) = some (.inl none, tw m (lyQ T v) h) := by
  rw [X7064 _ (tw_recv rfl), E7064_0]
  unfold lyQ
  simp (disch := omega) only [jc_ref, rI_int, rR_ref, rR_null, rJ_long, ckR_ref, ckR_null, ckr_ref, ckr_null, ckW_int, ckW_ref, ckW_null, cI_ok, cR_ok, cR_null, cV_ok, cJ_ok, qH_eq, qD_in, aG_ref, aS_ref, aL_ref, pF_ref, cK_ref, cK_null, zI_lit, zJ_lit, zI_add, zI_sub, zI_mul, zI_neg, zI_eq, zI_lt, zI_le, Int.reduceLT, Int.reduceLE, Int.reduceAdd, Int.reduceSub, Int.reduceMul, Int.reduceNeg, Int.reduceEq, Int.reduceNe, reduceIte, tw_0, tw_1, tw_2, tw_3, tw_4, tw_5, tw_6, tw_7, tw_8, tw_9, tw_10, tw_11, tw_12, tw_13, tw_14, tw_15, tw_16, tw_17, tw_18, tw_19, tw_20, tw_21, tw_22, tw_23, tw_24, tw_25, tw_26, tw_27, tw_28, tw_29, tw_30, tw_31, ob_0, ob_1, ob_2, ob_3, ob_4, ob_5, ob_6, ob_7, ob_8, ob_9, ob_10, ob_11, ob_12, ob_13, ob_14, ob_15, ob_16, ob_17, ob_18, ob_19, ob_20, ob_21, ob_22, ob_23, ob_24, ob_25, ob_26, ob_27, ob_28, ob_29, ob_30, ob_31, ob_32, ob_33, ob_34, ob_35, ob_36, ob_37, ob_38, ob_39, ob_40, ob_41, ob_42, ob_43, ob_44, ob_45, ob_46, ob_47, ob_48, ob_49, ob_50, ob_51, ob_52, ob_53, ob_54, ob_55, ob_56, ob_57, ob_58, ob_59, ob_60, ob_61, ob_62, ob_63, ob_64, ob_65, jf7, aGi, aGb, aGz, aGj, leT, leF, ltT, ltF, eqT, eqF, tws_0, tws_1, tws_2, tws_3, tws_4, tws_5, tws_6, tws_7, tws_8, tws_9, tws_10, tws_11, tws_12, tws_13, tws_14, tws_15, tws_16, tws_17, tws_18, tws_19, tws_20, tws_21, tws_22, tws_23, tws_24, tws_25, tws_26, tws_27, tws_28, tws_29, tws_30, tws_31, obs_0, obs_2, obs_3, obs_4, obs_5, obs_12, obs_13, obs_14, obs_15, obs_16, obs_17, obs_18, obs_19, obs_20, obs_21, obs_22, obs_26, obs_31, obs_32, obs_33, obs_34, obs_35, obs_41, obs_42, obs_44, obs_48, obs_50, obs_51, obs_52, obs_55, obs_57, obs_58, obs_59, obs_60, obs_61, pF7i, pF7z, pF7j, aSi, aSj, aSb1, aSb24, aSb28, aSb31, ts, tg_eq, tg_ne, tg_tg, fset_eq, fset_ne, zB_b]
/-- a list of bytes more -/
def lyL (T : Nat → Int → Int) : List Int → Nat → Int → Int
  | [] => T
  | v :: l => lyL (lyQ T v) l
theorem lyL_k {k : Nat} (h0 : k ≠ 0) (h1 : k ≠ 24) : ∀ (l : List Int) (T : Nat → Int → Int), lyL T l k = T k
  | [], _ => rfl
  | v :: l, T => by
    show lyL (lyQ T v) l k = T k
    rw [lyL_k h0 h1 l, lyQ_k h0 h1]
theorem lyL_50 : ∀ (l : List Int) (T : Nat → Int → Int), lyL T l 0 50 = T 0 50 + l.length
  | [], T => by simp [lyL]
  | v :: l, T => by
    show lyL (lyQ T v) l 0 50 = _
    rw [lyL_50 l, lyQ_50, List.length_cons]; omega
theorem lyL_0 {i : Int} (h : i ≠ 50) : ∀ (l : List Int) (T : Nat → Int → Int), lyL T l 0 i = T 0 i
  | [], _ => rfl
  | v :: l, T => by
    show lyL (lyQ T v) l 0 i = _
    rw [lyL_0 h l, lyQ_0 h]
theorem lyL_app : ∀ (l l' : List Int) (T : Nat → Int → Int), lyL T (l ++ l') = lyL (lyL T l) l'
  | [], _, _ => rfl
  | v :: l, l', T => lyL_app l l' (lyQ T v)
/-- a number, as it is spelled -/
def nuL (v : Int) : List Int := if v < 0 then [32, 45] else if v ≤ 9 then [32, 48 + v] else [32, 48 + v / 10, 48 + (v - v / 10 * 10)]
theorem tm_laysNumber {v : Int} (v0 : -1 ≤ v) (v1 : v ≤ 99) (h0 : 0 ≤ T 0 50) (h1 : T 0 50 ≤ 27) : M (d + 2) 7066 [.ref m, .int (zI v)] (tw m T h) = some (.inl none, tw m (lyL T (nuL v)) h) := by
  have a1 := tm_lays (d := d) (m := m) (h := h) (T := T) (v := 32) h0 (by omega)
  have a2 := fun x => tm_lays (d := d) (m := m) (h := h) (T := lyQ T 32) (v := x) (by rw [lyQ_50]; omega) (by rw [lyQ_50]; omega)
  have a3 := fun x y => tm_lays (d := d) (m := m) (h := h) (T := lyQ (lyQ T 32) x) (v := y) (by rw [lyQ_50, lyQ_50]; omega) (by rw [lyQ_50, lyQ_50]; omega)
  rw [X7066 _ (tw_recv rfl), E7066_0]
  unfold nuL
  by_cases c : v < 0
  · rw [if_pos c]
    simp (disch := omega) only [jc_ref, rI_int, rR_ref, rR_null, rJ_long, ckR_ref, ckR_null, ckr_ref, ckr_null, ckW_int, ckW_ref, ckW_null, cI_ok, cR_ok, cR_null, cV_ok, cJ_ok, qH_eq, qD_in, aG_ref, aS_ref, aL_ref, pF_ref, cK_ref, cK_null, zI_lit, zJ_lit, zI_add, zI_sub, zI_mul, zI_neg, zI_eq, zI_lt, zI_le, Int.reduceLT, Int.reduceLE, Int.reduceAdd, Int.reduceSub, Int.reduceMul, Int.reduceNeg, Int.reduceEq, Int.reduceNe, reduceIte, tw_0, tw_1, tw_2, tw_3, tw_4, tw_5, tw_6, tw_7, tw_8, tw_9, tw_10, tw_11, tw_12, tw_13, tw_14, tw_15, tw_16, tw_17, tw_18, tw_19, tw_20, tw_21, tw_22, tw_23, tw_24, tw_25, tw_26, tw_27, tw_28, tw_29, tw_30, tw_31, ob_0, ob_1, ob_2, ob_3, ob_4, ob_5, ob_6, ob_7, ob_8, ob_9, ob_10, ob_11, ob_12, ob_13, ob_14, ob_15, ob_16, ob_17, ob_18, ob_19, ob_20, ob_21, ob_22, ob_23, ob_24, ob_25, ob_26, ob_27, ob_28, ob_29, ob_30, ob_31, ob_32, ob_33, ob_34, ob_35, ob_36, ob_37, ob_38, ob_39, ob_40, ob_41, ob_42, ob_43, ob_44, ob_45, ob_46, ob_47, ob_48, ob_49, ob_50, ob_51, ob_52, ob_53, ob_54, ob_55, ob_56, ob_57, ob_58, ob_59, ob_60, ob_61, ob_62, ob_63, ob_64, ob_65, jf7, aGi, aGb, aGz, aGj, leT, leF, ltT, ltF, eqT, eqF, a1, a2]
    rfl
  · rw [if_neg c]
    have dv := zI_div (a := v) (b := 10) (by omega) (by omega) (by decide) (by decide)
    by_cases c9 : v ≤ 9
    · have z : v / 10 = 0 := by omega
      rw [if_pos c9]
      rw [z] at dv
      simp (disch := omega) only [jc_ref, rI_int, rR_ref, rR_null, rJ_long, ckR_ref, ckR_null, ckr_ref, ckr_null, ckW_int, ckW_ref, ckW_null, cI_ok, cR_ok, cR_null, cV_ok, cJ_ok, qH_eq, qD_in, aG_ref, aS_ref, aL_ref, pF_ref, cK_ref, cK_null, zI_lit, zJ_lit, zI_add, zI_sub, zI_mul, zI_neg, zI_eq, zI_lt, zI_le, Int.reduceLT, Int.reduceLE, Int.reduceAdd, Int.reduceSub, Int.reduceMul, Int.reduceNeg, Int.reduceEq, Int.reduceNe, reduceIte, tw_0, tw_1, tw_2, tw_3, tw_4, tw_5, tw_6, tw_7, tw_8, tw_9, tw_10, tw_11, tw_12, tw_13, tw_14, tw_15, tw_16, tw_17, tw_18, tw_19, tw_20, tw_21, tw_22, tw_23, tw_24, tw_25, tw_26, tw_27, tw_28, tw_29, tw_30, tw_31, ob_0, ob_1, ob_2, ob_3, ob_4, ob_5, ob_6, ob_7, ob_8, ob_9, ob_10, ob_11, ob_12, ob_13, ob_14, ob_15, ob_16, ob_17, ob_18, ob_19, ob_20, ob_21, ob_22, ob_23, ob_24, ob_25, ob_26, ob_27, ob_28, ob_29, ob_30, ob_31, ob_32, ob_33, ob_34, ob_35, ob_36, ob_37, ob_38, ob_39, ob_40, ob_41, ob_42, ob_43, ob_44, ob_45, ob_46, ob_47, ob_48, ob_49, ob_50, ob_51, ob_52, ob_53, ob_54, ob_55, ob_56, ob_57, ob_58, ob_59, ob_60, ob_61, ob_62, ob_63, ob_64, ob_65, jf7, aGi, aGb, aGz, aGj, leT, leF, ltT, ltF, eqT, eqF, a1, a2, c, c9, dv, Int.zero_mul, Int.sub_zero]
      rfl
    · rw [if_neg c9]
      simp (disch := omega) only [jc_ref, rI_int, rR_ref, rR_null, rJ_long, ckR_ref, ckR_null, ckr_ref, ckr_null, ckW_int, ckW_ref, ckW_null, cI_ok, cR_ok, cR_null, cV_ok, cJ_ok, qH_eq, qD_in, aG_ref, aS_ref, aL_ref, pF_ref, cK_ref, cK_null, zI_lit, zJ_lit, zI_add, zI_sub, zI_mul, zI_neg, zI_eq, zI_lt, zI_le, Int.reduceLT, Int.reduceLE, Int.reduceAdd, Int.reduceSub, Int.reduceMul, Int.reduceNeg, Int.reduceEq, Int.reduceNe, reduceIte, tw_0, tw_1, tw_2, tw_3, tw_4, tw_5, tw_6, tw_7, tw_8, tw_9, tw_10, tw_11, tw_12, tw_13, tw_14, tw_15, tw_16, tw_17, tw_18, tw_19, tw_20, tw_21, tw_22, tw_23, tw_24, tw_25, tw_26, tw_27, tw_28, tw_29, tw_30, tw_31, ob_0, ob_1, ob_2, ob_3, ob_4, ob_5, ob_6, ob_7, ob_8, ob_9, ob_10, ob_11, ob_12, ob_13, ob_14, ob_15, ob_16, ob_17, ob_18, ob_19, ob_20, ob_21, ob_22, ob_23, ob_24, ob_25, ob_26, ob_27, ob_28, ob_29, ob_30, ob_31, ob_32, ob_33, ob_34, ob_35, ob_36, ob_37, ob_38, ob_39, ob_40, ob_41, ob_42, ob_43, ob_44, ob_45, ob_46, ob_47, ob_48, ob_49, ob_50, ob_51, ob_52, ob_53, ob_54, ob_55, ob_56, ob_57, ob_58, ob_59, ob_60, ob_61, ob_62, ob_63, ob_64, ob_65, jf7, aGi, aGb, aGz, aGj, leT, leF, ltT, ltF, eqT, eqF, a1, a2, a3, c, c9, dv]
      rfl
/-- a word's bytes from place k down -/
def wdL (w : Int) : Nat → List Int
  | 0 => []
  | j + 1 => if w / 2 ^ (8 * j) % 256 = 0 then wdL w j else w / 2 ^ (8 * j) % 256 :: wdL w j
theorem wdL_len {w : Int} : ∀ (j : Nat), (wdL w j).length ≤ j
  | 0 => Nat.le_refl _
  | j + 1 => by
    have := wdL_len (w := w) j
    unfold wdL
    split
    · omega
    · rw [List.length_cons]; omega
theorem sp_3 {w : Int} (w0 : 0 ≤ w) (w1 : w < 72057594037927936) : ∀ (j : Nat) (T : Nat → Int → Int), j ≤ 8 → 0 ≤ T 0 50 → T 0 50 + j ≤ 30 →
    G (d + 1) 7103 3 [.ref m, .long (zJ w), jhalf, .int (zI (8 * (j : Int) + -8))] [] (tw m T h) = some (.inl none, tw m (lyL T (wdL w j)) h) := by
  intro j
  induction j with
  | zero =>
    intro T hj t0 t1
    rw [E7103_3]
    unfold wdL
    simp (disch := omega) only [jc_ref, rI_int, rR_ref, rR_null, rJ_long, ckR_ref, ckR_null, ckr_ref, ckr_null, ckW_int, ckW_ref, ckW_null, cI_ok, cR_ok, cR_null, cV_ok, cJ_ok, qH_eq, qD_in, aG_ref, aS_ref, aL_ref, pF_ref, cK_ref, cK_null, zI_lit, zJ_lit, zI_add, zI_sub, zI_mul, zI_neg, zI_eq, zI_lt, zI_le, Int.reduceLT, Int.reduceLE, Int.reduceAdd, Int.reduceSub, Int.reduceMul, Int.reduceNeg, Int.reduceEq, Int.reduceNe, reduceIte, tw_0, tw_1, tw_2, tw_3, tw_4, tw_5, tw_6, tw_7, tw_8, tw_9, tw_10, tw_11, tw_12, tw_13, tw_14, tw_15, tw_16, tw_17, tw_18, tw_19, tw_20, tw_21, tw_22, tw_23, tw_24, tw_25, tw_26, tw_27, tw_28, tw_29, tw_30, tw_31, ob_0, ob_1, ob_2, ob_3, ob_4, ob_5, ob_6, ob_7, ob_8, ob_9, ob_10, ob_11, ob_12, ob_13, ob_14, ob_15, ob_16, ob_17, ob_18, ob_19, ob_20, ob_21, ob_22, ob_23, ob_24, ob_25, ob_26, ob_27, ob_28, ob_29, ob_30, ob_31, ob_32, ob_33, ob_34, ob_35, ob_36, ob_37, ob_38, ob_39, ob_40, ob_41, ob_42, ob_43, ob_44, ob_45, ob_46, ob_47, ob_48, ob_49, ob_50, ob_51, ob_52, ob_53, ob_54, ob_55, ob_56, ob_57, ob_58, ob_59, ob_60, ob_61, ob_62, ob_63, ob_64, ob_65, jf7, aGi, aGb, aGz, aGj, leT, leF, ltT, ltF, eqT, eqF, Int.natCast_zero, Int.mul_zero]
    rfl
  | succ j ih =>
    intro T hj t0 t1
    have ek : (8 : Int) * ((j + 1 : Nat) : Int) + -8 = 8 * (j : Int) := by omega
    have by1 := zJ_byte (k := 8 * (j : Int)) w0 w1 (by omega)
    have et : (8 * (j : Int)).toNat = 8 * j := by omega
    rw [et] at by1
    have b0 := Int.emod_nonneg (w / 2 ^ (8 * j)) (show (256 : Int) ≠ 0 by decide)
    have b1 := Int.emod_lt_of_pos (w / 2 ^ (8 * j)) (show (0 : Int) < 256 by decide)
    have ti := zJ_toI b0 b1
    rw [ek, E7103_3]
    unfold wdL
    generalize hv : w / 2 ^ (8 * j) % 256 = v at by1 b0 b1 ti ⊢
    by_cases e : v = 0
    · rw [if_pos e, ← ih T (by omega) t0 (by omega)]
      simp (disch := omega) only [jc_ref, rI_int, rR_ref, rR_null, rJ_long, ckR_ref, ckR_null, ckr_ref, ckr_null, ckW_int, ckW_ref, ckW_null, cI_ok, cR_ok, cR_null, cV_ok, cJ_ok, qH_eq, qD_in, aG_ref, aS_ref, aL_ref, pF_ref, cK_ref, cK_null, zI_lit, zJ_lit, zI_add, zI_sub, zI_mul, zI_neg, zI_eq, zI_lt, zI_le, Int.reduceLT, Int.reduceLE, Int.reduceAdd, Int.reduceSub, Int.reduceMul, Int.reduceNeg, Int.reduceEq, Int.reduceNe, reduceIte, tw_0, tw_1, tw_2, tw_3, tw_4, tw_5, tw_6, tw_7, tw_8, tw_9, tw_10, tw_11, tw_12, tw_13, tw_14, tw_15, tw_16, tw_17, tw_18, tw_19, tw_20, tw_21, tw_22, tw_23, tw_24, tw_25, tw_26, tw_27, tw_28, tw_29, tw_30, tw_31, ob_0, ob_1, ob_2, ob_3, ob_4, ob_5, ob_6, ob_7, ob_8, ob_9, ob_10, ob_11, ob_12, ob_13, ob_14, ob_15, ob_16, ob_17, ob_18, ob_19, ob_20, ob_21, ob_22, ob_23, ob_24, ob_25, ob_26, ob_27, ob_28, ob_29, ob_30, ob_31, ob_32, ob_33, ob_34, ob_35, ob_36, ob_37, ob_38, ob_39, ob_40, ob_41, ob_42, ob_43, ob_44, ob_45, ob_46, ob_47, ob_48, ob_49, ob_50, ob_51, ob_52, ob_53, ob_54, ob_55, ob_56, ob_57, ob_58, ob_59, ob_60, ob_61, ob_62, ob_63, ob_64, ob_65, jf7, aGi, aGb, aGz, aGj, leT, leF, ltT, ltF, eqT, eqF, by1, lcm_0, zJ_eq, e]
    · rw [if_neg e]
      have l := tm_lays (d := d) (m := m) (h := h) (T := T) (v := v) t0 (by omega)
      have u : lyL T (v :: wdL w j) = lyL (lyQ T v) (wdL w j) := rfl
      rw [u, ← ih (lyQ T v) (by omega) (by rw [lyQ_50]; omega) (by rw [lyQ_50]; omega)]
      simp (disch := omega) only [jc_ref, rI_int, rR_ref, rR_null, rJ_long, ckR_ref, ckR_null, ckr_ref, ckr_null, ckW_int, ckW_ref, ckW_null, cI_ok, cR_ok, cR_null, cV_ok, cJ_ok, qH_eq, qD_in, aG_ref, aS_ref, aL_ref, pF_ref, cK_ref, cK_null, zI_lit, zJ_lit, zI_add, zI_sub, zI_mul, zI_neg, zI_eq, zI_lt, zI_le, Int.reduceLT, Int.reduceLE, Int.reduceAdd, Int.reduceSub, Int.reduceMul, Int.reduceNeg, Int.reduceEq, Int.reduceNe, reduceIte, tw_0, tw_1, tw_2, tw_3, tw_4, tw_5, tw_6, tw_7, tw_8, tw_9, tw_10, tw_11, tw_12, tw_13, tw_14, tw_15, tw_16, tw_17, tw_18, tw_19, tw_20, tw_21, tw_22, tw_23, tw_24, tw_25, tw_26, tw_27, tw_28, tw_29, tw_30, tw_31, ob_0, ob_1, ob_2, ob_3, ob_4, ob_5, ob_6, ob_7, ob_8, ob_9, ob_10, ob_11, ob_12, ob_13, ob_14, ob_15, ob_16, ob_17, ob_18, ob_19, ob_20, ob_21, ob_22, ob_23, ob_24, ob_25, ob_26, ob_27, ob_28, ob_29, ob_30, ob_31, ob_32, ob_33, ob_34, ob_35, ob_36, ob_37, ob_38, ob_39, ob_40, ob_41, ob_42, ob_43, ob_44, ob_45, ob_46, ob_47, ob_48, ob_49, ob_50, ob_51, ob_52, ob_53, ob_54, ob_55, ob_56, ob_57, ob_58, ob_59, ob_60, ob_61, ob_62, ob_63, ob_64, ob_65, jf7, aGi, aGb, aGz, aGj, leT, leF, ltT, ltF, eqT, eqF, by1, lcm_0, zJ_eq, e, ti, l]
theorem tm_spells {w : Int} (w0 : 0 ≤ w) (w1 : w < 72057594037927936) (t0 : 0 ≤ T 0 50) (t1 : T 0 50 ≤ 22) : M (d + 2) 7103 [.ref m, .long (zJ w)] (tw m T h) = some (.inl none, tw m (lyL T (wdL w 8)) h) := by
  have l := sp_3 (d := d) (m := m) (h := h) w0 w1 8 T (by omega) t0 (by omega)
  rw [X7103 _ (tw_recv rfl), E7103_0]
  exact l
/-- a row's cells, as they are spelled -/
def ceL (S : Int → Int) (r : Int) : Nat → Int → List Int
  | 0, _ => []
  | j + 1, c => nuL (cellS S r c) ++ ceL S r j (c + 1)
theorem nuL_len {v : Int} : (nuL v).length ≤ 3 := by
  unfold nuL
  split
  · simp
  · split <;> simp
theorem ta_46 {r : Int} (r0 : 0 ≤ r) (r1 : r < 99) : ∀ (j : Nat) (c : Int) (T : Nat → Int → Int), StW (T 2) → 0 ≤ c → c + j = T 2 (4 + T 2 (249 + r)) → 0 ≤ T 0 50 → T 0 50 + 3 * j ≤ 30 →
    G (d + 2) 7109 46 [.ref m, .int (zI r), .int (zI c)] [] (tw m T h) = some (.inl (some (.int (zI (lyL T (ceL (T 2) r j c) 0 50)))), tw m (lyL T (ceL (T 2) r j c)) h) := by
  intro j
  induction j with
  | zero =>
    intro c T W c0 hc t0 t1
    have TA := W.ta r0 r1
    have CO := W.co TA.1 TA.2
    rw [E7109_46]
    unfold ceL
    have u : lyL T [] = T := rfl
    rw [u]
    simp (disch := omega) only [jc_ref, rI_int, rR_ref, rR_null, rJ_long, ckR_ref, ckR_null, ckr_ref, ckr_null, ckW_int, ckW_ref, ckW_null, cI_ok, cR_ok, cR_null, cV_ok, cJ_ok, qH_eq, qD_in, aG_ref, aS_ref, aL_ref, pF_ref, cK_ref, cK_null, zI_lit, zJ_lit, zI_add, zI_sub, zI_mul, zI_neg, zI_eq, zI_lt, zI_le, Int.reduceLT, Int.reduceLE, Int.reduceAdd, Int.reduceSub, Int.reduceMul, Int.reduceNeg, Int.reduceEq, Int.reduceNe, reduceIte, tw_0, tw_1, tw_2, tw_3, tw_4, tw_5, tw_6, tw_7, tw_8, tw_9, tw_10, tw_11, tw_12, tw_13, tw_14, tw_15, tw_16, tw_17, tw_18, tw_19, tw_20, tw_21, tw_22, tw_23, tw_24, tw_25, tw_26, tw_27, tw_28, tw_29, tw_30, tw_31, ob_0, ob_1, ob_2, ob_3, ob_4, ob_5, ob_6, ob_7, ob_8, ob_9, ob_10, ob_11, ob_12, ob_13, ob_14, ob_15, ob_16, ob_17, ob_18, ob_19, ob_20, ob_21, ob_22, ob_23, ob_24, ob_25, ob_26, ob_27, ob_28, ob_29, ob_30, ob_31, ob_32, ob_33, ob_34, ob_35, ob_36, ob_37, ob_38, ob_39, ob_40, ob_41, ob_42, ob_43, ob_44, ob_45, ob_46, ob_47, ob_48, ob_49, ob_50, ob_51, ob_52, ob_53, ob_54, ob_55, ob_56, ob_57, ob_58, ob_59, ob_60, ob_61, ob_62, ob_63, ob_64, ob_65, jf7, aGi, aGb, aGz, aGj, leT, leF, ltT, ltF, eqT, eqF]
  | succ j ih =>
    intro c T W c0 hc t0 t1
    have TA := W.ta r0 r1
    have CO := W.co TA.1 TA.2
    have ce := W.cell r0 r1 c0 (show c < 4 by omega)
    have tc := tm_cell (d := d + 1) (m := m) (h := h) (T := T) (r := r) (c := c) r0 r1 c0 (by omega)
    have ln := tm_laysNumber (d := d) (m := m) (h := h) (T := T) (v := cellS (T 2) r c) ce.1 ce.2 t0 (by omega)
    have nl := nuL_len (v := cellS (T 2) r c)
    have e2 : lyL T (nuL (cellS (T 2) r c)) 2 = T 2 := lyL_k (by decide) (by decide) _ _
    have e50 := lyL_50 (nuL (cellS (T 2) r c)) T
    have ih' := ih (c + 1) (lyL T (nuL (cellS (T 2) r c))) (by rw [e2]; exact W) (by omega) (by rw [e2]; omega) (by rw [e50]; omega) (by rw [e50]; omega)
    rw [e2] at ih'
    have u : lyL T (ceL (T 2) r (j + 1) c) = lyL (lyL T (nuL (cellS (T 2) r c))) (ceL (T 2) r j (c + 1)) := lyL_app _ _ _
    rw [u, ← ih', E7109_46]
    simp (disch := omega) only [jc_ref, rI_int, rR_ref, rR_null, rJ_long, ckR_ref, ckR_null, ckr_ref, ckr_null, ckW_int, ckW_ref, ckW_null, cI_ok, cR_ok, cR_null, cV_ok, cJ_ok, qH_eq, qD_in, aG_ref, aS_ref, aL_ref, pF_ref, cK_ref, cK_null, zI_lit, zJ_lit, zI_add, zI_sub, zI_mul, zI_neg, zI_eq, zI_lt, zI_le, Int.reduceLT, Int.reduceLE, Int.reduceAdd, Int.reduceSub, Int.reduceMul, Int.reduceNeg, Int.reduceEq, Int.reduceNe, reduceIte, tw_0, tw_1, tw_2, tw_3, tw_4, tw_5, tw_6, tw_7, tw_8, tw_9, tw_10, tw_11, tw_12, tw_13, tw_14, tw_15, tw_16, tw_17, tw_18, tw_19, tw_20, tw_21, tw_22, tw_23, tw_24, tw_25, tw_26, tw_27, tw_28, tw_29, tw_30, tw_31, ob_0, ob_1, ob_2, ob_3, ob_4, ob_5, ob_6, ob_7, ob_8, ob_9, ob_10, ob_11, ob_12, ob_13, ob_14, ob_15, ob_16, ob_17, ob_18, ob_19, ob_20, ob_21, ob_22, ob_23, ob_24, ob_25, ob_26, ob_27, ob_28, ob_29, ob_30, ob_31, ob_32, ob_33, ob_34, ob_35, ob_36, ob_37, ob_38, ob_39, ob_40, ob_41, ob_42, ob_43, ob_44, ob_45, ob_46, ob_47, ob_48, ob_49, ob_50, ob_51, ob_52, ob_53, ob_54, ob_55, ob_56, ob_57, ob_58, ob_59, ob_60, ob_61, ob_62, ob_63, ob_64, ob_65, jf7, aGi, aGb, aGz, aGj, leT, leF, ltT, ltF, eqT, eqF, tc, ln]
/-- what is spelled of a row -/
def taL (S nm : Int → Int) (r : Int) : List Int := wdL (nm (S (249 + r))) 8 ++ (nuL r ++ ceL S r (S (4 + S (249 + r))).toNat 0)
def taQ (T : Nat → Int → Int) (r : Int) : Int × (Nat → Int → Int) := if isRowZ (T 2) r = true then ((taL (T 2) (T 6) r).length, lyL (ts (ts T 0 0 0) 0 50 0) (taL (T 2) (T 6) r)) else (-1, ts T 0 0 0)
theorem tm_tag {r : Int} (hr : Rg r) (W : StW (T 2)) (hN : NmOk T) : M (d + 3) 7109 [.ref m, .int (zI r)] (tw m T h) = some (.inl (some (.int (zI (taQ T r).1))), tw m (taQ T r).2 h) := by
  have it := tm_isRow (d := d) (m := m) (h := h) (T := ts T 0 0 0) hr W
  rw [ts_ne (show (2 : Nat) ≠ 0 by decide), show ts T 0 0 0 = tg T 0 (fset (T 0) 0 0) from rfl] at it
  rw [X7109 _ (tw_recv rfl), E7109_0]
  unfold taQ
  cases e : isRowZ (T 2) r with
  | false =>
    rw [if_neg (by decide)]
    simp (disch := omega) only [jc_ref, rI_int, rR_ref, rR_null, rJ_long, ckR_ref, ckR_null, ckr_ref, ckr_null, ckW_int, ckW_ref, ckW_null, cI_ok, cR_ok, cR_null, cV_ok, cJ_ok, qH_eq, qD_in, aG_ref, aS_ref, aL_ref, pF_ref, cK_ref, cK_null, zI_lit, zJ_lit, zI_add, zI_sub, zI_mul, zI_neg, zI_eq, zI_lt, zI_le, Int.reduceLT, Int.reduceLE, Int.reduceAdd, Int.reduceSub, Int.reduceMul, Int.reduceNeg, Int.reduceEq, Int.reduceNe, reduceIte, tw_0, tw_1, tw_2, tw_3, tw_4, tw_5, tw_6, tw_7, tw_8, tw_9, tw_10, tw_11, tw_12, tw_13, tw_14, tw_15, tw_16, tw_17, tw_18, tw_19, tw_20, tw_21, tw_22, tw_23, tw_24, tw_25, tw_26, tw_27, tw_28, tw_29, tw_30, tw_31, ob_0, ob_1, ob_2, ob_3, ob_4, ob_5, ob_6, ob_7, ob_8, ob_9, ob_10, ob_11, ob_12, ob_13, ob_14, ob_15, ob_16, ob_17, ob_18, ob_19, ob_20, ob_21, ob_22, ob_23, ob_24, ob_25, ob_26, ob_27, ob_28, ob_29, ob_30, ob_31, ob_32, ob_33, ob_34, ob_35, ob_36, ob_37, ob_38, ob_39, ob_40, ob_41, ob_42, ob_43, ob_44, ob_45, ob_46, ob_47, ob_48, ob_49, ob_50, ob_51, ob_52, ob_53, ob_54, ob_55, ob_56, ob_57, ob_58, ob_59, ob_60, ob_61, ob_62, ob_63, ob_64, ob_65, jf7, aGi, aGb, aGz, aGj, leT, leF, ltT, ltF, eqT, eqF, tws_0, tws_1, tws_2, tws_3, tws_4, tws_5, tws_6, tws_7, tws_8, tws_9, tws_10, tws_11, tws_12, tws_13, tws_14, tws_15, tws_16, tws_17, tws_18, tws_19, tws_20, tws_21, tws_22, tws_23, tws_24, tws_25, tws_26, tws_27, tws_28, tws_29, tws_30, tws_31, obs_0, obs_2, obs_3, obs_4, obs_5, obs_12, obs_13, obs_14, obs_15, obs_16, obs_17, obs_18, obs_19, obs_20, obs_21, obs_22, obs_26, obs_31, obs_32, obs_33, obs_34, obs_35, obs_41, obs_42, obs_44, obs_48, obs_50, obs_51, obs_52, obs_55, obs_57, obs_58, obs_59, obs_60, obs_61, pF7i, pF7z, pF7j, aSi, aSj, aSb1, aSb24, aSb28, aSb31, ts, tg_eq, tg_ne, tg_tg, fset_eq, fset_ne, it, e, beq_tt, beq_tf, beq_ft, beq_ff, Bool.true_and, Bool.false_and, Bool.and_true, Bool.and_false, Bool.true_or, Bool.false_or, Bool.or_true, Bool.or_false, Bool.true_eq_false, Bool.false_eq_true, Bool.not_true, Bool.not_false, bZ_t, bZ_f, zI_b0, zI_b1, zI_bb, okZ_0, okZ_1]
  | true =>
    have er := isRowZ_t e
    have TA := W.ta er.1 er.2.1
    have CO := W.co TA.1 TA.2
    have nm := hN (T 2 (249 + r))
    obtain ⟨X, hX⟩ : ∃ X, X = ts (ts T 0 0 0) 0 50 0 := ⟨_, rfl⟩
    have X2 : X 2 = T 2 := by rw [hX, ts_ne (by decide), ts_ne (by decide)]
    have X50 : X 0 50 = 0 := by rw [hX, ts_eq, fset_eq]
    have sp := tm_spells (d := d) (m := m) (h := h) (T := X) (w := T 6 (T 2 (249 + r))) nm.1 nm.2 (by omega) (by omega)
    have l8 := wdL_len (w := T 6 (T 2 (249 + r))) 8
    have e1 := lyL_50 (wdL (T 6 (T 2 (249 + r))) 8) X
    have ln := tm_laysNumber (d := d) (m := m) (h := h) (T := lyL X (wdL (T 6 (T 2 (249 + r))) 8)) (v := r) (by omega) (by omega) (by omega) (by omega)
    have nl := nuL_len (v := r)
    have e2 := lyL_50 (nuL r) (lyL X (wdL (T 6 (T 2 (249 + r))) 8))
    have k2 : lyL (lyL X (wdL (T 6 (T 2 (249 + r))) 8)) (nuL r) 2 = T 2 := by rw [lyL_k (by decide) (by decide), lyL_k (by decide) (by decide), X2]
    have l := ta_46 (d := d) (m := m) (h := h) er.1 er.2.1 (T 2 (4 + T 2 (249 + r))).toNat 0 (lyL (lyL X (wdL (T 6 (T 2 (249 + r))) 8)) (nuL r)) (by rw [k2]; exact W) (by omega) (by rw [k2]; omega) (by omega) (by omega)
    rw [k2] at l
    have ap : lyL X (taL (T 2) (T 6) r) = lyL (lyL (lyL X (wdL (T 6 (T 2 (249 + r))) 8)) (nuL r)) (ceL (T 2) r (T 2 (4 + T 2 (249 + r))).toNat 0) := by unfold taL; rw [lyL_app, lyL_app]
    have le := lyL_50 (taL (T 2) (T 6) r) X
    rw [X50, Int.zero_add] at le
    rw [if_pos rfl]
    simp only
    rw [← hX, ← le, ap, ← l]
    rw [hX] at sp ln ⊢
    simp (disch := omega) only [jc_ref, rI_int, rR_ref, rR_null, rJ_long, ckR_ref, ckR_null, ckr_ref, ckr_null, ckW_int, ckW_ref, ckW_null, cI_ok, cR_ok, cR_null, cV_ok, cJ_ok, qH_eq, qD_in, aG_ref, aS_ref, aL_ref, pF_ref, cK_ref, cK_null, zI_lit, zJ_lit, zI_add, zI_sub, zI_mul, zI_neg, zI_eq, zI_lt, zI_le, Int.reduceLT, Int.reduceLE, Int.reduceAdd, Int.reduceSub, Int.reduceMul, Int.reduceNeg, Int.reduceEq, Int.reduceNe, reduceIte, tw_0, tw_1, tw_2, tw_3, tw_4, tw_5, tw_6, tw_7, tw_8, tw_9, tw_10, tw_11, tw_12, tw_13, tw_14, tw_15, tw_16, tw_17, tw_18, tw_19, tw_20, tw_21, tw_22, tw_23, tw_24, tw_25, tw_26, tw_27, tw_28, tw_29, tw_30, tw_31, ob_0, ob_1, ob_2, ob_3, ob_4, ob_5, ob_6, ob_7, ob_8, ob_9, ob_10, ob_11, ob_12, ob_13, ob_14, ob_15, ob_16, ob_17, ob_18, ob_19, ob_20, ob_21, ob_22, ob_23, ob_24, ob_25, ob_26, ob_27, ob_28, ob_29, ob_30, ob_31, ob_32, ob_33, ob_34, ob_35, ob_36, ob_37, ob_38, ob_39, ob_40, ob_41, ob_42, ob_43, ob_44, ob_45, ob_46, ob_47, ob_48, ob_49, ob_50, ob_51, ob_52, ob_53, ob_54, ob_55, ob_56, ob_57, ob_58, ob_59, ob_60, ob_61, ob_62, ob_63, ob_64, ob_65, jf7, aGi, aGb, aGz, aGj, leT, leF, ltT, ltF, eqT, eqF, tws_0, tws_1, tws_2, tws_3, tws_4, tws_5, tws_6, tws_7, tws_8, tws_9, tws_10, tws_11, tws_12, tws_13, tws_14, tws_15, tws_16, tws_17, tws_18, tws_19, tws_20, tws_21, tws_22, tws_23, tws_24, tws_25, tws_26, tws_27, tws_28, tws_29, tws_30, tws_31, obs_0, obs_2, obs_3, obs_4, obs_5, obs_12, obs_13, obs_14, obs_15, obs_16, obs_17, obs_18, obs_19, obs_20, obs_21, obs_22, obs_26, obs_31, obs_32, obs_33, obs_34, obs_35, obs_41, obs_42, obs_44, obs_48, obs_50, obs_51, obs_52, obs_55, obs_57, obs_58, obs_59, obs_60, obs_61, pF7i, pF7z, pF7j, aSi, aSj, aSb1, aSb24, aSb28, aSb31, ts, tg_eq, tg_ne, tg_tg, fset_eq, fset_ne] at sp ln ⊢
    simp (disch := omega) only [jc_ref, rI_int, rR_ref, rR_null, rJ_long, ckR_ref, ckR_null, ckr_ref, ckr_null, ckW_int, ckW_ref, ckW_null, cI_ok, cR_ok, cR_null, cV_ok, cJ_ok, qH_eq, qD_in, aG_ref, aS_ref, aL_ref, pF_ref, cK_ref, cK_null, zI_lit, zJ_lit, zI_add, zI_sub, zI_mul, zI_neg, zI_eq, zI_lt, zI_le, Int.reduceLT, Int.reduceLE, Int.reduceAdd, Int.reduceSub, Int.reduceMul, Int.reduceNeg, Int.reduceEq, Int.reduceNe, reduceIte, tw_0, tw_1, tw_2, tw_3, tw_4, tw_5, tw_6, tw_7, tw_8, tw_9, tw_10, tw_11, tw_12, tw_13, tw_14, tw_15, tw_16, tw_17, tw_18, tw_19, tw_20, tw_21, tw_22, tw_23, tw_24, tw_25, tw_26, tw_27, tw_28, tw_29, tw_30, tw_31, ob_0, ob_1, ob_2, ob_3, ob_4, ob_5, ob_6, ob_7, ob_8, ob_9, ob_10, ob_11, ob_12, ob_13, ob_14, ob_15, ob_16, ob_17, ob_18, ob_19, ob_20, ob_21, ob_22, ob_23, ob_24, ob_25, ob_26, ob_27, ob_28, ob_29, ob_30, ob_31, ob_32, ob_33, ob_34, ob_35, ob_36, ob_37, ob_38, ob_39, ob_40, ob_41, ob_42, ob_43, ob_44, ob_45, ob_46, ob_47, ob_48, ob_49, ob_50, ob_51, ob_52, ob_53, ob_54, ob_55, ob_56, ob_57, ob_58, ob_59, ob_60, ob_61, ob_62, ob_63, ob_64, ob_65, jf7, aGi, aGb, aGz, aGj, leT, leF, ltT, ltF, eqT, eqF, tws_0, tws_1, tws_2, tws_3, tws_4, tws_5, tws_6, tws_7, tws_8, tws_9, tws_10, tws_11, tws_12, tws_13, tws_14, tws_15, tws_16, tws_17, tws_18, tws_19, tws_20, tws_21, tws_22, tws_23, tws_24, tws_25, tws_26, tws_27, tws_28, tws_29, tws_30, tws_31, obs_0, obs_2, obs_3, obs_4, obs_5, obs_12, obs_13, obs_14, obs_15, obs_16, obs_17, obs_18, obs_19, obs_20, obs_21, obs_22, obs_26, obs_31, obs_32, obs_33, obs_34, obs_35, obs_41, obs_42, obs_44, obs_48, obs_50, obs_51, obs_52, obs_55, obs_57, obs_58, obs_59, obs_60, obs_61, pF7i, pF7z, pF7j, aSi, aSj, aSb1, aSb24, aSb28, aSb31, ts, tg_eq, tg_ne, tg_tg, fset_eq, fset_ne, it, e, beq_tt, beq_tf, beq_ft, beq_ff, Bool.true_and, Bool.false_and, Bool.and_true, Bool.and_false, Bool.true_or, Bool.false_or, Bool.or_true, Bool.or_false, Bool.true_eq_false, Bool.false_eq_true, Bool.not_true, Bool.not_false, bZ_t, bZ_f, zI_b0, zI_b1, zI_bb, okZ_0, okZ_1, sp, ln]
theorem tm_byteAt {i : Int} (hi0 : Rg i) (t0 : 0 ≤ T 0 50) (t1 : T 0 50 ≤ 30) : M (d + 2) 7009 [.ref m, .int (zI i)] (tw m T h) = some (.inl (some (.int (zI (if isInZ i 0 (T 0 50 - 1) = true then T 24 i else -1)))), tw m (ts T 0 0 0) h) := by
  have hi := tm_isIn (d := d) (h := tw m (ts T 0 0 0) h) hi0 (low := 0) (high := T 0 50 - 1) ⟨by omega, by omega⟩ ⟨by omega, by omega⟩
  obtain ⟨n1, n2⟩ := hi0
  simp (disch := omega) only [jc_ref, rI_int, rR_ref, rR_null, rJ_long, ckR_ref, ckR_null, ckr_ref, ckr_null, ckW_int, ckW_ref, ckW_null, cI_ok, cR_ok, cR_null, cV_ok, cJ_ok, qH_eq, qD_in, aG_ref, aS_ref, aL_ref, pF_ref, cK_ref, cK_null, zI_lit, zJ_lit, zI_add, zI_sub, zI_mul, zI_neg, zI_eq, zI_lt, zI_le, Int.reduceLT, Int.reduceLE, Int.reduceAdd, Int.reduceSub, Int.reduceMul, Int.reduceNeg, Int.reduceEq, Int.reduceNe, reduceIte, tw_0, tw_1, tw_2, tw_3, tw_4, tw_5, tw_6, tw_7, tw_8, tw_9, tw_10, tw_11, tw_12, tw_13, tw_14, tw_15, tw_16, tw_17, tw_18, tw_19, tw_20, tw_21, tw_22, tw_23, tw_24, tw_25, tw_26, tw_27, tw_28, tw_29, tw_30, tw_31, ob_0, ob_1, ob_2, ob_3, ob_4, ob_5, ob_6, ob_7, ob_8, ob_9, ob_10, ob_11, ob_12, ob_13, ob_14, ob_15, ob_16, ob_17, ob_18, ob_19, ob_20, ob_21, ob_22, ob_23, ob_24, ob_25, ob_26, ob_27, ob_28, ob_29, ob_30, ob_31, ob_32, ob_33, ob_34, ob_35, ob_36, ob_37, ob_38, ob_39, ob_40, ob_41, ob_42, ob_43, ob_44, ob_45, ob_46, ob_47, ob_48, ob_49, ob_50, ob_51, ob_52, ob_53, ob_54, ob_55, ob_56, ob_57, ob_58, ob_59, ob_60, ob_61, ob_62, ob_63, ob_64, ob_65, jf7, aGi, aGb, aGz, aGj, leT, leF, ltT, ltF, eqT, eqF, tws_0, tws_1, tws_2, tws_3, tws_4, tws_5, tws_6, tws_7, tws_8, tws_9, tws_10, tws_11, tws_12, tws_13, tws_14, tws_15, tws_16, tws_17, tws_18, tws_19, tws_20, tws_21, tws_22, tws_23, tws_24, tws_25, tws_26, tws_27, tws_28, tws_29, tws_30, tws_31, obs_0, obs_2, obs_3, obs_4, obs_5, obs_12, obs_13, obs_14, obs_15, obs_16, obs_17, obs_18, obs_19, obs_20, obs_21, obs_22, obs_26, obs_31, obs_32, obs_33, obs_34, obs_35, obs_41, obs_42, obs_44, obs_48, obs_50, obs_51, obs_52, obs_55, obs_57, obs_58, obs_59, obs_60, obs_61, pF7i, pF7z, pF7j, aSi, aSj, aSb1, aSb24, aSb28, aSb31, ts, tg_eq, tg_ne, tg_tg, fset_eq, fset_ne] at hi
  rw [X7009 _ (tw_recv rfl), E7009_0]
  cases e2 : isInZ i 0 (T 0 50 - 1) with
  | true =>
    have := isInZ_t e2
    rw [if_pos rfl]
    simp (disch := omega) only [jc_ref, rI_int, rR_ref, rR_null, rJ_long, ckR_ref, ckR_null, ckr_ref, ckr_null, ckW_int, ckW_ref, ckW_null, cI_ok, cR_ok, cR_null, cV_ok, cJ_ok, qH_eq, qD_in, aG_ref, aS_ref, aL_ref, pF_ref, cK_ref, cK_null, zI_lit, zJ_lit, zI_add, zI_sub, zI_mul, zI_neg, zI_eq, zI_lt, zI_le, Int.reduceLT, Int.reduceLE, Int.reduceAdd, Int.reduceSub, Int.reduceMul, Int.reduceNeg, Int.reduceEq, Int.reduceNe, reduceIte, tw_0, tw_1, tw_2, tw_3, tw_4, tw_5, tw_6, tw_7, tw_8, tw_9, tw_10, tw_11, tw_12, tw_13, tw_14, tw_15, tw_16, tw_17, tw_18, tw_19, tw_20, tw_21, tw_22, tw_23, tw_24, tw_25, tw_26, tw_27, tw_28, tw_29, tw_30, tw_31, ob_0, ob_1, ob_2, ob_3, ob_4, ob_5, ob_6, ob_7, ob_8, ob_9, ob_10, ob_11, ob_12, ob_13, ob_14, ob_15, ob_16, ob_17, ob_18, ob_19, ob_20, ob_21, ob_22, ob_23, ob_24, ob_25, ob_26, ob_27, ob_28, ob_29, ob_30, ob_31, ob_32, ob_33, ob_34, ob_35, ob_36, ob_37, ob_38, ob_39, ob_40, ob_41, ob_42, ob_43, ob_44, ob_45, ob_46, ob_47, ob_48, ob_49, ob_50, ob_51, ob_52, ob_53, ob_54, ob_55, ob_56, ob_57, ob_58, ob_59, ob_60, ob_61, ob_62, ob_63, ob_64, ob_65, jf7, aGi, aGb, aGz, aGj, leT, leF, ltT, ltF, eqT, eqF, tws_0, tws_1, tws_2, tws_3, tws_4, tws_5, tws_6, tws_7, tws_8, tws_9, tws_10, tws_11, tws_12, tws_13, tws_14, tws_15, tws_16, tws_17, tws_18, tws_19, tws_20, tws_21, tws_22, tws_23, tws_24, tws_25, tws_26, tws_27, tws_28, tws_29, tws_30, tws_31, obs_0, obs_2, obs_3, obs_4, obs_5, obs_12, obs_13, obs_14, obs_15, obs_16, obs_17, obs_18, obs_19, obs_20, obs_21, obs_22, obs_26, obs_31, obs_32, obs_33, obs_34, obs_35, obs_41, obs_42, obs_44, obs_48, obs_50, obs_51, obs_52, obs_55, obs_57, obs_58, obs_59, obs_60, obs_61, pF7i, pF7z, pF7j, aSi, aSj, aSb1, aSb24, aSb28, aSb31, ts, tg_eq, tg_ne, tg_tg, fset_eq, fset_ne, hi, e2, beq_tt, beq_tf, beq_ft, beq_ff, Bool.true_and, Bool.false_and, Bool.and_true, Bool.and_false, Bool.true_or, Bool.false_or, Bool.or_true, Bool.or_false, Bool.true_eq_false, Bool.false_eq_true, Bool.not_true, Bool.not_false, bZ_t, bZ_f, zI_b0, zI_b1, zI_bb, okZ_0, okZ_1]
  | false =>
    rw [if_neg (by decide)]
    simp (disch := omega) only [jc_ref, rI_int, rR_ref, rR_null, rJ_long, ckR_ref, ckR_null, ckr_ref, ckr_null, ckW_int, ckW_ref, ckW_null, cI_ok, cR_ok, cR_null, cV_ok, cJ_ok, qH_eq, qD_in, aG_ref, aS_ref, aL_ref, pF_ref, cK_ref, cK_null, zI_lit, zJ_lit, zI_add, zI_sub, zI_mul, zI_neg, zI_eq, zI_lt, zI_le, Int.reduceLT, Int.reduceLE, Int.reduceAdd, Int.reduceSub, Int.reduceMul, Int.reduceNeg, Int.reduceEq, Int.reduceNe, reduceIte, tw_0, tw_1, tw_2, tw_3, tw_4, tw_5, tw_6, tw_7, tw_8, tw_9, tw_10, tw_11, tw_12, tw_13, tw_14, tw_15, tw_16, tw_17, tw_18, tw_19, tw_20, tw_21, tw_22, tw_23, tw_24, tw_25, tw_26, tw_27, tw_28, tw_29, tw_30, tw_31, ob_0, ob_1, ob_2, ob_3, ob_4, ob_5, ob_6, ob_7, ob_8, ob_9, ob_10, ob_11, ob_12, ob_13, ob_14, ob_15, ob_16, ob_17, ob_18, ob_19, ob_20, ob_21, ob_22, ob_23, ob_24, ob_25, ob_26, ob_27, ob_28, ob_29, ob_30, ob_31, ob_32, ob_33, ob_34, ob_35, ob_36, ob_37, ob_38, ob_39, ob_40, ob_41, ob_42, ob_43, ob_44, ob_45, ob_46, ob_47, ob_48, ob_49, ob_50, ob_51, ob_52, ob_53, ob_54, ob_55, ob_56, ob_57, ob_58, ob_59, ob_60, ob_61, ob_62, ob_63, ob_64, ob_65, jf7, aGi, aGb, aGz, aGj, leT, leF, ltT, ltF, eqT, eqF, tws_0, tws_1, tws_2, tws_3, tws_4, tws_5, tws_6, tws_7, tws_8, tws_9, tws_10, tws_11, tws_12, tws_13, tws_14, tws_15, tws_16, tws_17, tws_18, tws_19, tws_20, tws_21, tws_22, tws_23, tws_24, tws_25, tws_26, tws_27, tws_28, tws_29, tws_30, tws_31, obs_0, obs_2, obs_3, obs_4, obs_5, obs_12, obs_13, obs_14, obs_15, obs_16, obs_17, obs_18, obs_19, obs_20, obs_21, obs_22, obs_26, obs_31, obs_32, obs_33, obs_34, obs_35, obs_41, obs_42, obs_44, obs_48, obs_50, obs_51, obs_52, obs_55, obs_57, obs_58, obs_59, obs_60, obs_61, pF7i, pF7z, pF7j, aSi, aSj, aSb1, aSb24, aSb28, aSb31, ts, tg_eq, tg_ne, tg_tg, fset_eq, fset_ne, hi, e2, beq_tt, beq_tf, beq_ft, beq_ff, Bool.true_and, Bool.false_and, Bool.and_true, Bool.and_false, Bool.true_or, Bool.false_or, Bool.or_true, Bool.or_false, Bool.true_eq_false, Bool.false_eq_true, Bool.not_true, Bool.not_false, bZ_t, bZ_f, zI_b0, zI_b1, zI_bb, okZ_0, okZ_1]
end
