/-! the twin reads a token -/
theorem fset_fset {g : Int → Int} {i a b : Int} : fset (fset g i a) i b = fset g i b := by
  funext x; simp only [fset]; by_cases hx : x = i <;> simp [hx]
theorem ts_ts {T : Nat → Int → Int} {k : Nat} {i a b : Int} : ts (ts T k i a) k i b = ts T k i b := by
  unfold ts; rw [tg_eq, tg_tg, fset_fset]
theorem fset_self {g : Int → Int} {i : Int} : fset g i (g i) = g := by
  funext x; simp only [fset]; by_cases hx : x = i
  · rw [if_pos hx, hx]
  · rw [if_neg hx]
theorem tg_self {T : Nat → Int → Int} {k : Nat} : tg T k (T k) = T := by
  funext j; simp only [tg]; by_cases hj : j = k
  · rw [if_pos hj, hj]
  · rw [if_neg hj]
theorem ts_self {T : Nat → Int → Int} {k : Nat} {i : Int} : ts T k i (T k i) = T := by
  unfold ts; rw [fset_self, tg_self]
theorem beq_tt : (true == true) = true := rfl
theorem beq_ff : (false == false) = true := rfl
theorem beq_tf : (true == false) = false := rfl
theorem beq_ft : (false == true) = false := rfl
theorem okZ_0 {β : Type} {κ : Option β} : okZ (zI 0) κ = κ := rfl
theorem okZ_1 {β : Type} {κ : Option β} : okZ (zI 1) κ = κ := rfl
theorem zI_b0 {b : Bool} : (zI (bZ b) = zI 0) = (b = false) := by cases b <;> decide
theorem zI_b1 {b : Bool} : (zI (bZ b) = zI 1) = (b = true) := by cases b <;> decide
theorem zI_bb {a b : Bool} : (zI (bZ a) = zI (bZ b)) = (a = b) := by cases a <;> cases b <;> decide
/-- what reading changes: the fields of the token, and of what was got -/
def PF (T T' : Nat → Int → Int) : Prop := (∀ k, k ≠ 0 → T' k = T k) ∧ ∀ i : Int, (i ≤ 3 ∨ i = 5 ∨ i = 20 ∨ 23 ≤ i) → T' 0 i = T 0 i
theorem PF.rf {T : Nat → Int → Int} : PF T T := ⟨fun _ _ => rfl, fun _ _ => rfl⟩
theorem PF.tr {T T' T'' : Nat → Int → Int} (a : PF T T') (b : PF T' T'') : PF T T'' := ⟨fun k hk => (b.1 k hk).trans (a.1 k hk), fun i hi => (b.2 i hi).trans (a.2 i hi)⟩
theorem PF.st {T : Nat → Int → Int} {i v : Int} (h : ¬ (i ≤ 3 ∨ i = 5 ∨ i = 20 ∨ 23 ≤ i)) : PF T (ts T 0 i v) := ⟨fun k hk => ts_ne hk, fun j hj => by rw [ts_eq, fset_ne]; omega⟩
def TpOk (T : Nat → Int → Int) : Prop := (∀ i, -128 ≤ T 1 i ∧ T 1 i < 128) ∧ 0 ≤ T 0 3 ∧ T 0 3 ≤ 940 ∧ 0 ≤ T 0 5 ∧ T 0 5 ≤ 1000
theorem TpOk.pf {T T' : Nat → Int → Int} (h : TpOk T) (p : PF T T') : TpOk T' := by
  obtain ⟨a, b, c, e, f⟩ := h
  rw [← p.1 1 (by decide)] at a
  rw [← p.2 3 (by decide)] at b c
  rw [← p.2 5 (by decide)] at e f
  exact ⟨a, b, c, e, f⟩
abbrev KD (T : Nat → Int → Int) (q : Int) : Int := kd (T 1) (T 0 3) (T 0 5) q
abbrev PL (T : Nat → Int → Int) (q : Int) : Int := plc (T 1) (T 0 3) (T 0 5) q
abbrev NX (T : Nat → Int → Int) (q : Int) : Int := nxt (T 1) (T 0 3) (T 0 5) q
abbrev NM (T : Nat → Int → Int) (q : Int) : Int := nmv (T 1) (T 0 3) q
abbrev WD (T : Nat → Int → Int) (q : Int) : Int := wdv (T 1) (T 0 3) q
abbrev TK (T : Nat → Int → Int) (p : Int) : Int := tpk (T 1) (T 0 3) p
/-- the token that was read from q on is at hand -/
def At (T : Nat → Int → Int) (q : Int) : Prop := 0 ≤ q ∧ q ≤ T 0 3 ∧ T 0 12 = KD T q ∧ T 0 13 = PL T q ∧ T 0 4 = NX T q ∧ (KD T q = 1 → T 0 18 = WD T q) ∧ (KD T q = 2 ∨ KD T q = 3 → T 0 15 = NM T q)
theorem Rg_pk {g : Int → Int} {z p : Int} : Rg (tpk g z p) := ⟨by have := tpk_lo (g := g) (z := z) p; omega, by have := tpk_hi (g := g) (z := z) p; omega⟩
theorem shl8 {w c : Int} (h1 : 0 ≤ w) (h2 : w < 281474976710656) (h3 : 0 ≤ c) (h4 : c < 256) : (zJ w <<< ((zI 8).toInt64 &&& zJ 63)) ||| (zI c).toInt64 = zJ (w * 256 + c) := by
  have e0 : ((zI 8).toInt64 &&& zJ 63) = (8 : Int64) := by decide
  have e1 : (zI c).toInt64 = zJ c := Int64.toInt_inj.mp (by rw [Int32.toInt_toInt64, zI_toInt (by omega) (by omega), zJ_toInt (by omega) (by omega)])
  rw [e0, e1]
  obtain ⟨a, rfl⟩ := Int.eq_ofNat_of_zero_le h1
  obtain ⟨b, rfl⟩ := Int.eq_ofNat_of_zero_le h3
  have key : (BitVec.ofNat 64 a <<< 8) ||| BitVec.ofNat 64 b = BitVec.ofNat 64 (a * 256 + b) := by
    apply BitVec.eq_of_toNat_eq
    have ha : a < 281474976710656 := by omega
    have hb : b < 256 := by omega
    rw [BitVec.toNat_or, BitVec.toNat_shiftLeft, BitVec.toNat_ofNat, BitVec.toNat_ofNat, BitVec.toNat_ofNat]
    rw [Nat.mod_eq_of_lt (show a < 2 ^ 64 by omega), Nat.mod_eq_of_lt (show b < 2 ^ 64 by omega), Nat.shiftLeft_eq, Nat.mod_eq_of_lt (show a * 2 ^ 8 < 2 ^ 64 by omega), Nat.mod_eq_of_lt (show a * 256 + b < 2 ^ 64 by omega)]
    have := Nat.shiftLeft_add_eq_or_of_lt (show b < 2 ^ 8 by omega) a
    rw [Nat.shiftLeft_eq] at this
    omega
  apply Int64.toBitVec_inj.mp
  have f : ∀ n : Nat, (zJ (n : Int)).toBitVec = BitVec.ofNat 64 n := fun n => BitVec.ofInt_natCast 64 n
  rw [Int64.toBitVec_or, Int64.toBitVec_shiftLeft, f, f]
  have f2 : zJ ((a : Int) * 256 + (b : Int)) = zJ ((a * 256 + b : Nat) : Int) := by congr 1
  rw [f2, f, ← key]
  rfl
section
variable {d m : Nat} {T : Nat → Int → Int} {h : AH}
theorem tm_peek (hT : TpOk T) (h0 : 0 ≤ T 0 4) (h1 : T 0 4 ≤ T 0 3) : M (d + 1) 7079 [.ref m] (tw m T h) = some (.inl (some (.int (zI (TK T (T 0 4))))), tw m T h) := by
  obtain ⟨a, b, c, e, f⟩ := hT
  have a4 := a (T 0 4)
  rw [X7079 _ (tw_recv rfl), E7079_0]
  by_cases hp : T 0 4 < T 0 3
  · simp (disch := omega) only [jc_ref, rI_int, rR_ref, rR_null, rJ_long, ckR_ref, ckR_null, ckr_ref, ckr_null, ckW_int, ckW_ref, ckW_null, cI_ok, cR_ok, cR_null, cV_ok, cJ_ok, qH_eq, qD_in, aG_ref, aS_ref, aL_ref, pF_ref, cK_ref, cK_null, zI_lit, zJ_lit, zI_add, zI_sub, zI_mul, zI_neg, zI_eq, zI_lt, zI_le, Int.reduceLT, Int.reduceLE, Int.reduceAdd, Int.reduceSub, Int.reduceMul, Int.reduceNeg, Int.reduceEq, Int.reduceNe, reduceIte, tw_0, tw_1, tw_2, tw_3, tw_4, tw_5, tw_6, tw_7, tw_8, tw_9, tw_10, tw_11, tw_12, tw_13, tw_14, tw_15, tw_16, tw_17, tw_18, tw_19, tw_20, tw_21, tw_22, tw_23, tw_24, tw_25, tw_26, tw_27, tw_28, tw_29, tw_30, tw_31, ob_0, ob_1, ob_2, ob_3, ob_4, ob_5, ob_6, ob_7, ob_8, ob_9, ob_10, ob_11, ob_12, ob_13, ob_14, ob_15, ob_16, ob_17, ob_18, ob_19, ob_20, ob_21, ob_22, ob_23, ob_24, ob_25, ob_26, ob_27, ob_28, ob_29, ob_30, ob_31, ob_32, ob_33, ob_34, ob_35, ob_36, ob_37, ob_38, ob_39, ob_40, ob_41, ob_42, ob_43, ob_44, ob_45, ob_46, ob_47, ob_48, ob_49, ob_50, ob_51, ob_52, ob_53, ob_54, ob_55, ob_56, ob_57, ob_58, ob_59, ob_60, ob_61, ob_62, ob_63, ob_64, ob_65, jf7, aGi, aGb, aGz, aGj, leT, leF, ltT, ltF, eqT, eqF, tpk_lt, and255]
  · have e2 : T 0 4 = T 0 3 := by omega
    rw [TK, tpk_ge (by omega)]
    simp (disch := omega) only [jc_ref, rI_int, rR_ref, rR_null, rJ_long, ckR_ref, ckR_null, ckr_ref, ckr_null, ckW_int, ckW_ref, ckW_null, cI_ok, cR_ok, cR_null, cV_ok, cJ_ok, qH_eq, qD_in, aG_ref, aS_ref, aL_ref, pF_ref, cK_ref, cK_null, zI_lit, zJ_lit, zI_add, zI_sub, zI_mul, zI_neg, zI_eq, zI_lt, zI_le, Int.reduceLT, Int.reduceLE, Int.reduceAdd, Int.reduceSub, Int.reduceMul, Int.reduceNeg, Int.reduceEq, Int.reduceNe, reduceIte, tw_0, tw_1, tw_2, tw_3, tw_4, tw_5, tw_6, tw_7, tw_8, tw_9, tw_10, tw_11, tw_12, tw_13, tw_14, tw_15, tw_16, tw_17, tw_18, tw_19, tw_20, tw_21, tw_22, tw_23, tw_24, tw_25, tw_26, tw_27, tw_28, tw_29, tw_30, tw_31, ob_0, ob_1, ob_2, ob_3, ob_4, ob_5, ob_6, ob_7, ob_8, ob_9, ob_10, ob_11, ob_12, ob_13, ob_14, ob_15, ob_16, ob_17, ob_18, ob_19, ob_20, ob_21, ob_22, ob_23, ob_24, ob_25, ob_26, ob_27, ob_28, ob_29, ob_30, ob_31, ob_32, ob_33, ob_34, ob_35, ob_36, ob_37, ob_38, ob_39, ob_40, ob_41, ob_42, ob_43, ob_44, ob_45, ob_46, ob_47, ob_48, ob_49, ob_50, ob_51, ob_52, ob_53, ob_54, ob_55, ob_56, ob_57, ob_58, ob_59, ob_60, ob_61, ob_62, ob_63, ob_64, ob_65, jf7, aGi, aGb, aGz, aGj, leT, leF, ltT, ltF, eqT, eqF]
theorem tm_small {c : Int} (hc : Rg c) : M (d + 1) 7053 [.int (zI c)] h = some (.inl (some (.int (zI (bZ (small c))))), h) := by
  obtain ⟨a, b⟩ := hc
  rw [X7053, E7053_0]
  simp (disch := omega) only [zI_lit, zJ_lit, zI_add, zI_sub, zI_mul, zI_neg, zI_eq, zI_lt, zI_le, Int.reduceLT, Int.reduceLE, Int.reduceAdd, Int.reduceSub, Int.reduceMul, Int.reduceNeg, Int.reduceEq, Int.reduceNe, reduceIte, small, bZ_ite]
  by_cases q1 : c < 97
  · rw [if_pos q1, if_neg (by omega)]
  · by_cases q2 : 122 < c
    · rw [if_neg q1, if_pos q2, if_neg (by omega)]
    · rw [if_neg q1, if_neg q2, if_pos (by omega)]
theorem tm_digit {c : Int} (hc : Rg c) : M (d + 1) 7040 [.int (zI c)] h = some (.inl (some (.int (zI (bZ (digit c))))), h) := by
  obtain ⟨a, b⟩ := hc
  rw [X7040, E7040_0]
  simp (disch := omega) only [zI_lit, zJ_lit, zI_add, zI_sub, zI_mul, zI_neg, zI_eq, zI_lt, zI_le, Int.reduceLT, Int.reduceLE, Int.reduceAdd, Int.reduceSub, Int.reduceMul, Int.reduceNeg, Int.reduceEq, Int.reduceNe, reduceIte, digit, bZ_ite]
  by_cases q1 : c < 48
  · rw [if_pos q1, if_neg (by omega)]
  · by_cases q2 : 57 < c
    · rw [if_neg q1, if_pos q2, if_neg (by omega)]
    · rw [if_neg q1, if_neg q2, if_pos (by omega)]
theorem nx_skip : ∀ (n : Nat) (T : Nat → Int → Int), TpOk T → 0 ≤ T 0 4 → T 0 4 ≤ T 0 3 → (T 0 3 - T 0 4).toNat ≤ n →
    G (d + 1) 7071 0 [.ref m, jno, jno, jno] [] (tw m T h) = G (d + 1) 7071 0 [.ref m, jno, jno, jno] [] (tw m (ts T 0 4 (sk (T 1) (T 0 3) (T 0 4))) h) := by
  intro n
  induction n with
  | zero =>
    intro T hT h0 h1 hn
    rw [sk_step, if_neg (by rw [tpk_ge (by omega)]; omega), ts_self]
  | succ n ih =>
    intro T hT h0 h1 hn
    by_cases hc : TK T (T 0 4) = 32 ∨ TK T (T 0 4) = 10
    · have hp : T 0 4 < T 0 3 := tpk_in (g := T 1) (by show 0 ≤ TK T (T 0 4); omega)
      rw [sk_step, if_pos hc]
      have ih' := ih (ts T 0 4 (T 0 4 + 1)) (hT.pf (PF.st (by omega))) (by simp only [ts_eq, fset_eq]; omega) (by simp (disch := omega) only [ts_eq, fset_eq, fset_ne]; omega) (by simp (disch := omega) only [ts_eq, fset_eq, fset_ne]; omega)
      simp (disch := omega) only [ts_ts, ts_eq, ts_ne, fset_eq, fset_ne] at ih'
      rw [← ih']
      conv => lhs; rw [E7071_0]
      rcases hc with q | q
      · simp (disch := omega) only [jc_ref, rI_int, rR_ref, rR_null, rJ_long, ckR_ref, ckR_null, ckr_ref, ckr_null, ckW_int, ckW_ref, ckW_null, cI_ok, cR_ok, cR_null, cV_ok, cJ_ok, qH_eq, qD_in, aG_ref, aS_ref, aL_ref, pF_ref, cK_ref, cK_null, zI_lit, zJ_lit, zI_add, zI_sub, zI_mul, zI_neg, zI_eq, zI_lt, zI_le, Int.reduceLT, Int.reduceLE, Int.reduceAdd, Int.reduceSub, Int.reduceMul, Int.reduceNeg, Int.reduceEq, Int.reduceNe, reduceIte, tw_0, tw_1, tw_2, tw_3, tw_4, tw_5, tw_6, tw_7, tw_8, tw_9, tw_10, tw_11, tw_12, tw_13, tw_14, tw_15, tw_16, tw_17, tw_18, tw_19, tw_20, tw_21, tw_22, tw_23, tw_24, tw_25, tw_26, tw_27, tw_28, tw_29, tw_30, tw_31, ob_0, ob_1, ob_2, ob_3, ob_4, ob_5, ob_6, ob_7, ob_8, ob_9, ob_10, ob_11, ob_12, ob_13, ob_14, ob_15, ob_16, ob_17, ob_18, ob_19, ob_20, ob_21, ob_22, ob_23, ob_24, ob_25, ob_26, ob_27, ob_28, ob_29, ob_30, ob_31, ob_32, ob_33, ob_34, ob_35, ob_36, ob_37, ob_38, ob_39, ob_40, ob_41, ob_42, ob_43, ob_44, ob_45, ob_46, ob_47, ob_48, ob_49, ob_50, ob_51, ob_52, ob_53, ob_54, ob_55, ob_56, ob_57, ob_58, ob_59, ob_60, ob_61, ob_62, ob_63, ob_64, ob_65, jf7, aGi, aGb, aGz, aGj, leT, leF, ltT, ltF, eqT, eqF, tws_0, tws_1, tws_2, tws_3, tws_4, tws_5, tws_6, tws_7, tws_8, tws_9, tws_10, tws_11, tws_12, tws_13, tws_14, tws_15, tws_16, tws_17, tws_18, tws_19, tws_20, tws_21, tws_22, tws_23, tws_24, tws_25, tws_26, tws_27, tws_28, tws_29, tws_30, tws_31, obs_0, obs_2, obs_3, obs_4, obs_5, obs_12, obs_13, obs_14, obs_15, obs_16, obs_17, obs_18, obs_19, obs_20, obs_21, obs_22, obs_26, obs_31, obs_32, obs_33, obs_34, obs_35, obs_41, obs_42, obs_44, obs_48, obs_50, obs_51, obs_52, obs_55, obs_57, obs_58, obs_59, obs_60, obs_61, pF7i, pF7z, pF7j, aSi, aSj, aSb1, aSb24, aSb28, aSb31, ts, tg_eq, tg_ne, tg_tg, fset_eq, fset_ne, tm_peek hT h0 h1, q]
      · simp (disch := omega) only [jc_ref, rI_int, rR_ref, rR_null, rJ_long, ckR_ref, ckR_null, ckr_ref, ckr_null, ckW_int, ckW_ref, ckW_null, cI_ok, cR_ok, cR_null, cV_ok, cJ_ok, qH_eq, qD_in, aG_ref, aS_ref, aL_ref, pF_ref, cK_ref, cK_null, zI_lit, zJ_lit, zI_add, zI_sub, zI_mul, zI_neg, zI_eq, zI_lt, zI_le, Int.reduceLT, Int.reduceLE, Int.reduceAdd, Int.reduceSub, Int.reduceMul, Int.reduceNeg, Int.reduceEq, Int.reduceNe, reduceIte, tw_0, tw_1, tw_2, tw_3, tw_4, tw_5, tw_6, tw_7, tw_8, tw_9, tw_10, tw_11, tw_12, tw_13, tw_14, tw_15, tw_16, tw_17, tw_18, tw_19, tw_20, tw_21, tw_22, tw_23, tw_24, tw_25, tw_26, tw_27, tw_28, tw_29, tw_30, tw_31, ob_0, ob_1, ob_2, ob_3, ob_4, ob_5, ob_6, ob_7, ob_8, ob_9, ob_10, ob_11, ob_12, ob_13, ob_14, ob_15, ob_16, ob_17, ob_18, ob_19, ob_20, ob_21, ob_22, ob_23, ob_24, ob_25, ob_26, ob_27, ob_28, ob_29, ob_30, ob_31, ob_32, ob_33, ob_34, ob_35, ob_36, ob_37, ob_38, ob_39, ob_40, ob_41, ob_42, ob_43, ob_44, ob_45, ob_46, ob_47, ob_48, ob_49, ob_50, ob_51, ob_52, ob_53, ob_54, ob_55, ob_56, ob_57, ob_58, ob_59, ob_60, ob_61, ob_62, ob_63, ob_64, ob_65, jf7, aGi, aGb, aGz, aGj, leT, leF, ltT, ltF, eqT, eqF, tws_0, tws_1, tws_2, tws_3, tws_4, tws_5, tws_6, tws_7, tws_8, tws_9, tws_10, tws_11, tws_12, tws_13, tws_14, tws_15, tws_16, tws_17, tws_18, tws_19, tws_20, tws_21, tws_22, tws_23, tws_24, tws_25, tws_26, tws_27, tws_28, tws_29, tws_30, tws_31, obs_0, obs_2, obs_3, obs_4, obs_5, obs_12, obs_13, obs_14, obs_15, obs_16, obs_17, obs_18, obs_19, obs_20, obs_21, obs_22, obs_26, obs_31, obs_32, obs_33, obs_34, obs_35, obs_41, obs_42, obs_44, obs_48, obs_50, obs_51, obs_52, obs_55, obs_57, obs_58, obs_59, obs_60, obs_61, pF7i, pF7z, pF7j, aSi, aSj, aSb1, aSb24, aSb28, aSb31, ts, tg_eq, tg_ne, tg_tg, fset_eq, fset_ne, tm_peek hT h0 h1, q]
    · rw [sk_step, if_neg hc, ts_self]
/-- one letter or digit more -/
def nxT (T : Nat → Int → Int) : Nat → Int → Int :=
  ts (ts (if T 0 14 < 3 then ts (if T 0 14 < 7 then ts T 0 18 (T 0 18 * 256 + TK T (T 0 4)) else T) 0 15 (10 * T 0 15 + TK T (T 0 4) - 48) else if T 0 14 < 7 then ts T 0 18 (T 0 18 * 256 + TK T (T 0 4)) else T) 0 14 (T 0 14 + 1)) 0 4 (T 0 4 + 1)
theorem nx_step {T : Nat → Int → Int} {c1 : Int32} {a s : Bool} (hT : TpOk T) (h0 : 0 ≤ T 0 4) (h1 : T 0 4 ≤ T 0 3) (ha : alnum (TK T (T 0 4)) = true) (hk : 0 ≤ T 0 14) (hk2 : T 0 14 ≤ 2000) (hw : 0 ≤ T 0 18) (hw2 : T 0 14 < 7 → T 0 18 < 281474976710656) :
    G (d + 1) 7071 181 [.ref m, .int c1, .int (zI (bZ s)), .int (zI (bZ a))] [] (tw m T h) = G (d + 1) 7071 181 [.ref m, .int c1, .int (zI (bZ s)), .int (zI (bZ (a && (small (TK T (T 0 4)) == s))))] [] (tw m (nxT T) h) := by
  have hp : T 0 4 < T 0 3 := alnum_in (g := T 1) ha
  have hb : 0 ≤ TK T (T 0 4) := by rw [TK, tpk_lt hp]; omega
  have hb2 : TK T (T 0 4) < 256 := tpk_hi _
  have e1 : G (d + 1) 7071 181 [.ref m, .int c1, .int (zI (bZ s)), .int (zI (bZ a))] [] (tw m T h) = G (d + 1) 7071 221 [.ref m, .int c1, .int (zI (bZ s)), .int (zI (bZ a))] [.int (zI (bZ (a && (small (TK T (T 0 4)) == s))))] (tw m T h) := by
    conv => lhs; rw [E7071_181]
    have hd : small (TK T (T 0 4)) = false → digit (TK T (T 0 4)) = true := fun q => by simpa [alnum, q] using ha
    cases hsm : small (TK T (T 0 4)) with
    | true => cases a <;> cases s <;> simp (disch := omega) only [jc_ref, rI_int, rR_ref, rR_null, rJ_long, ckR_ref, ckR_null, ckr_ref, ckr_null, ckW_int, ckW_ref, ckW_null, cI_ok, cR_ok, cR_null, cV_ok, cJ_ok, qH_eq, qD_in, aG_ref, aS_ref, aL_ref, pF_ref, cK_ref, cK_null, zI_lit, zJ_lit, zI_add, zI_sub, zI_mul, zI_neg, zI_eq, zI_lt, zI_le, Int.reduceLT, Int.reduceLE, Int.reduceAdd, Int.reduceSub, Int.reduceMul, Int.reduceNeg, Int.reduceEq, Int.reduceNe, reduceIte, tw_0, tw_1, tw_2, tw_3, tw_4, tw_5, tw_6, tw_7, tw_8, tw_9, tw_10, tw_11, tw_12, tw_13, tw_14, tw_15, tw_16, tw_17, tw_18, tw_19, tw_20, tw_21, tw_22, tw_23, tw_24, tw_25, tw_26, tw_27, tw_28, tw_29, tw_30, tw_31, ob_0, ob_1, ob_2, ob_3, ob_4, ob_5, ob_6, ob_7, ob_8, ob_9, ob_10, ob_11, ob_12, ob_13, ob_14, ob_15, ob_16, ob_17, ob_18, ob_19, ob_20, ob_21, ob_22, ob_23, ob_24, ob_25, ob_26, ob_27, ob_28, ob_29, ob_30, ob_31, ob_32, ob_33, ob_34, ob_35, ob_36, ob_37, ob_38, ob_39, ob_40, ob_41, ob_42, ob_43, ob_44, ob_45, ob_46, ob_47, ob_48, ob_49, ob_50, ob_51, ob_52, ob_53, ob_54, ob_55, ob_56, ob_57, ob_58, ob_59, ob_60, ob_61, ob_62, ob_63, ob_64, ob_65, jf7, aGi, aGb, aGz, aGj, leT, leF, ltT, ltF, eqT, eqF, tm_peek hT h0 h1, tm_small Rg_pk, hsm, zI_b0, zI_bb, bZ_t, bZ_f, beq_tt, beq_tf, beq_ft, beq_ff, Bool.true_and, Bool.false_and, Bool.and_true, Bool.and_false, Bool.true_or, Bool.false_or, Bool.or_true, Bool.or_false, Bool.true_eq_false, Bool.false_eq_true, Bool.not_true, Bool.not_false, bZ_t, bZ_f, zI_b0, zI_b1, zI_bb, okZ_0, okZ_1]
    | false =>
      have hd := hd hsm
      cases a <;> cases s <;> simp (disch := omega) only [jc_ref, rI_int, rR_ref, rR_null, rJ_long, ckR_ref, ckR_null, ckr_ref, ckr_null, ckW_int, ckW_ref, ckW_null, cI_ok, cR_ok, cR_null, cV_ok, cJ_ok, qH_eq, qD_in, aG_ref, aS_ref, aL_ref, pF_ref, cK_ref, cK_null, zI_lit, zJ_lit, zI_add, zI_sub, zI_mul, zI_neg, zI_eq, zI_lt, zI_le, Int.reduceLT, Int.reduceLE, Int.reduceAdd, Int.reduceSub, Int.reduceMul, Int.reduceNeg, Int.reduceEq, Int.reduceNe, reduceIte, tw_0, tw_1, tw_2, tw_3, tw_4, tw_5, tw_6, tw_7, tw_8, tw_9, tw_10, tw_11, tw_12, tw_13, tw_14, tw_15, tw_16, tw_17, tw_18, tw_19, tw_20, tw_21, tw_22, tw_23, tw_24, tw_25, tw_26, tw_27, tw_28, tw_29, tw_30, tw_31, ob_0, ob_1, ob_2, ob_3, ob_4, ob_5, ob_6, ob_7, ob_8, ob_9, ob_10, ob_11, ob_12, ob_13, ob_14, ob_15, ob_16, ob_17, ob_18, ob_19, ob_20, ob_21, ob_22, ob_23, ob_24, ob_25, ob_26, ob_27, ob_28, ob_29, ob_30, ob_31, ob_32, ob_33, ob_34, ob_35, ob_36, ob_37, ob_38, ob_39, ob_40, ob_41, ob_42, ob_43, ob_44, ob_45, ob_46, ob_47, ob_48, ob_49, ob_50, ob_51, ob_52, ob_53, ob_54, ob_55, ob_56, ob_57, ob_58, ob_59, ob_60, ob_61, ob_62, ob_63, ob_64, ob_65, jf7, aGi, aGb, aGz, aGj, leT, leF, ltT, ltF, eqT, eqF, tm_peek hT h0 h1, tm_small Rg_pk, tm_digit Rg_pk, hsm, hd, zI_b0, zI_bb, bZ_t, bZ_f, beq_tt, beq_tf, beq_ft, beq_ff, Bool.true_and, Bool.false_and, Bool.and_true, Bool.and_false, Bool.true_or, Bool.false_or, Bool.or_true, Bool.or_false, Bool.true_eq_false, Bool.false_eq_true, Bool.not_true, Bool.not_false, bZ_t, bZ_f, zI_b0, zI_b1, zI_bb, okZ_0, okZ_1]
  rw [e1, E7071_221]
  unfold nxT
  by_cases k3 : T 0 14 < 3
  · have hw3 := hw2 (by omega)
    have hP : ∀ v, TpOk (ts T 0 18 v) := fun v => hT.pf (PF.st (by omega))
    have hp2 : ∀ v, M (d + 1) 7079 [.ref m] (tw m (tg T 0 (fset (T 0) 18 v)) h) = some (.inl (some (.int (zI (TK T (T 0 4))))), tw m (tg T 0 (fset (T 0) 18 v)) h) := fun v => (tm_peek (hP v) (by simp (disch := omega) only [ts_eq, fset_ne]; exact h0) (by simp (disch := omega) only [ts_eq, fset_ne]; exact h1)).trans (by simp (disch := omega) only [TK, ts_eq, ts_ne, fset_ne]; rfl)
    simp (disch := omega) only [jc_ref, rI_int, rR_ref, rR_null, rJ_long, ckR_ref, ckR_null, ckr_ref, ckr_null, ckW_int, ckW_ref, ckW_null, cI_ok, cR_ok, cR_null, cV_ok, cJ_ok, qH_eq, qD_in, aG_ref, aS_ref, aL_ref, pF_ref, cK_ref, cK_null, zI_lit, zJ_lit, zI_add, zI_sub, zI_mul, zI_neg, zI_eq, zI_lt, zI_le, Int.reduceLT, Int.reduceLE, Int.reduceAdd, Int.reduceSub, Int.reduceMul, Int.reduceNeg, Int.reduceEq, Int.reduceNe, reduceIte, tw_0, tw_1, tw_2, tw_3, tw_4, tw_5, tw_6, tw_7, tw_8, tw_9, tw_10, tw_11, tw_12, tw_13, tw_14, tw_15, tw_16, tw_17, tw_18, tw_19, tw_20, tw_21, tw_22, tw_23, tw_24, tw_25, tw_26, tw_27, tw_28, tw_29, tw_30, tw_31, ob_0, ob_1, ob_2, ob_3, ob_4, ob_5, ob_6, ob_7, ob_8, ob_9, ob_10, ob_11, ob_12, ob_13, ob_14, ob_15, ob_16, ob_17, ob_18, ob_19, ob_20, ob_21, ob_22, ob_23, ob_24, ob_25, ob_26, ob_27, ob_28, ob_29, ob_30, ob_31, ob_32, ob_33, ob_34, ob_35, ob_36, ob_37, ob_38, ob_39, ob_40, ob_41, ob_42, ob_43, ob_44, ob_45, ob_46, ob_47, ob_48, ob_49, ob_50, ob_51, ob_52, ob_53, ob_54, ob_55, ob_56, ob_57, ob_58, ob_59, ob_60, ob_61, ob_62, ob_63, ob_64, ob_65, jf7, aGi, aGb, aGz, aGj, leT, leF, ltT, ltF, eqT, eqF, tws_0, tws_1, tws_2, tws_3, tws_4, tws_5, tws_6, tws_7, tws_8, tws_9, tws_10, tws_11, tws_12, tws_13, tws_14, tws_15, tws_16, tws_17, tws_18, tws_19, tws_20, tws_21, tws_22, tws_23, tws_24, tws_25, tws_26, tws_27, tws_28, tws_29, tws_30, tws_31, obs_0, obs_2, obs_3, obs_4, obs_5, obs_12, obs_13, obs_14, obs_15, obs_16, obs_17, obs_18, obs_19, obs_20, obs_21, obs_22, obs_26, obs_31, obs_32, obs_33, obs_34, obs_35, obs_41, obs_42, obs_44, obs_48, obs_50, obs_51, obs_52, obs_55, obs_57, obs_58, obs_59, obs_60, obs_61, pF7i, pF7z, pF7j, aSi, aSj, aSb1, aSb24, aSb28, aSb31, ts, tg_eq, tg_ne, tg_tg, fset_eq, fset_ne, tm_peek hT h0 h1, shl8, E7071_248, hp2]
  · by_cases k7 : T 0 14 < 7
    · have hw3 := hw2 (by omega)
      simp (disch := omega) only [jc_ref, rI_int, rR_ref, rR_null, rJ_long, ckR_ref, ckR_null, ckr_ref, ckr_null, ckW_int, ckW_ref, ckW_null, cI_ok, cR_ok, cR_null, cV_ok, cJ_ok, qH_eq, qD_in, aG_ref, aS_ref, aL_ref, pF_ref, cK_ref, cK_null, zI_lit, zJ_lit, zI_add, zI_sub, zI_mul, zI_neg, zI_eq, zI_lt, zI_le, Int.reduceLT, Int.reduceLE, Int.reduceAdd, Int.reduceSub, Int.reduceMul, Int.reduceNeg, Int.reduceEq, Int.reduceNe, reduceIte, tw_0, tw_1, tw_2, tw_3, tw_4, tw_5, tw_6, tw_7, tw_8, tw_9, tw_10, tw_11, tw_12, tw_13, tw_14, tw_15, tw_16, tw_17, tw_18, tw_19, tw_20, tw_21, tw_22, tw_23, tw_24, tw_25, tw_26, tw_27, tw_28, tw_29, tw_30, tw_31, ob_0, ob_1, ob_2, ob_3, ob_4, ob_5, ob_6, ob_7, ob_8, ob_9, ob_10, ob_11, ob_12, ob_13, ob_14, ob_15, ob_16, ob_17, ob_18, ob_19, ob_20, ob_21, ob_22, ob_23, ob_24, ob_25, ob_26, ob_27, ob_28, ob_29, ob_30, ob_31, ob_32, ob_33, ob_34, ob_35, ob_36, ob_37, ob_38, ob_39, ob_40, ob_41, ob_42, ob_43, ob_44, ob_45, ob_46, ob_47, ob_48, ob_49, ob_50, ob_51, ob_52, ob_53, ob_54, ob_55, ob_56, ob_57, ob_58, ob_59, ob_60, ob_61, ob_62, ob_63, ob_64, ob_65, jf7, aGi, aGb, aGz, aGj, leT, leF, ltT, ltF, eqT, eqF, tws_0, tws_1, tws_2, tws_3, tws_4, tws_5, tws_6, tws_7, tws_8, tws_9, tws_10, tws_11, tws_12, tws_13, tws_14, tws_15, tws_16, tws_17, tws_18, tws_19, tws_20, tws_21, tws_22, tws_23, tws_24, tws_25, tws_26, tws_27, tws_28, tws_29, tws_30, tws_31, obs_0, obs_2, obs_3, obs_4, obs_5, obs_12, obs_13, obs_14, obs_15, obs_16, obs_17, obs_18, obs_19, obs_20, obs_21, obs_22, obs_26, obs_31, obs_32, obs_33, obs_34, obs_35, obs_41, obs_42, obs_44, obs_48, obs_50, obs_51, obs_52, obs_55, obs_57, obs_58, obs_59, obs_60, obs_61, pF7i, pF7z, pF7j, aSi, aSj, aSb1, aSb24, aSb28, aSb31, ts, tg_eq, tg_ne, tg_tg, fset_eq, fset_ne, tm_peek hT h0 h1, shl8, E7071_248]
    · simp (disch := omega) only [jc_ref, rI_int, rR_ref, rR_null, rJ_long, ckR_ref, ckR_null, ckr_ref, ckr_null, ckW_int, ckW_ref, ckW_null, cI_ok, cR_ok, cR_null, cV_ok, cJ_ok, qH_eq, qD_in, aG_ref, aS_ref, aL_ref, pF_ref, cK_ref, cK_null, zI_lit, zJ_lit, zI_add, zI_sub, zI_mul, zI_neg, zI_eq, zI_lt, zI_le, Int.reduceLT, Int.reduceLE, Int.reduceAdd, Int.reduceSub, Int.reduceMul, Int.reduceNeg, Int.reduceEq, Int.reduceNe, reduceIte, tw_0, tw_1, tw_2, tw_3, tw_4, tw_5, tw_6, tw_7, tw_8, tw_9, tw_10, tw_11, tw_12, tw_13, tw_14, tw_15, tw_16, tw_17, tw_18, tw_19, tw_20, tw_21, tw_22, tw_23, tw_24, tw_25, tw_26, tw_27, tw_28, tw_29, tw_30, tw_31, ob_0, ob_1, ob_2, ob_3, ob_4, ob_5, ob_6, ob_7, ob_8, ob_9, ob_10, ob_11, ob_12, ob_13, ob_14, ob_15, ob_16, ob_17, ob_18, ob_19, ob_20, ob_21, ob_22, ob_23, ob_24, ob_25, ob_26, ob_27, ob_28, ob_29, ob_30, ob_31, ob_32, ob_33, ob_34, ob_35, ob_36, ob_37, ob_38, ob_39, ob_40, ob_41, ob_42, ob_43, ob_44, ob_45, ob_46, ob_47, ob_48, ob_49, ob_50, ob_51, ob_52, ob_53, ob_54, ob_55, ob_56, ob_57, ob_58, ob_59, ob_60, ob_61, ob_62, ob_63, ob_64, ob_65, jf7, aGi, aGb, aGz, aGj, leT, leF, ltT, ltF, eqT, eqF, tws_0, tws_1, tws_2, tws_3, tws_4, tws_5, tws_6, tws_7, tws_8, tws_9, tws_10, tws_11, tws_12, tws_13, tws_14, tws_15, tws_16, tws_17, tws_18, tws_19, tws_20, tws_21, tws_22, tws_23, tws_24, tws_25, tws_26, tws_27, tws_28, tws_29, tws_30, tws_31, obs_0, obs_2, obs_3, obs_4, obs_5, obs_12, obs_13, obs_14, obs_15, obs_16, obs_17, obs_18, obs_19, obs_20, obs_21, obs_22, obs_26, obs_31, obs_32, obs_33, obs_34, obs_35, obs_41, obs_42, obs_44, obs_48, obs_50, obs_51, obs_52, obs_55, obs_57, obs_58, obs_59, obs_60, obs_61, pF7i, pF7z, pF7j, aSi, aSj, aSb1, aSb24, aSb28, aSb31, ts, tg_eq, tg_ne, tg_tg, fset_eq, fset_ne, tm_peek hT h0 h1, shl8, E7071_248]
theorem wdF_ge : ∀ (n : Nat) {g : Int → Int} {z p a : Int}, 0 ≤ a → (∀ i : Nat, i < n → 0 ≤ tpk g z (p + i)) → 0 ≤ wdF g z n p a
  | 0, _, _, _, _, h, _ => h
  | n + 1, g, z, p, a, h, hi => by
    simp only [wdF]
    refine wdF_ge n ?_ fun i hn => ?_
    · have := hi 0 (by omega); simp at this; omega
    · have := hi (i + 1) (by omega)
      rwa [show p + ((i + 1 : Nat) : Int) = p + 1 + (i : Int) by omega] at this
theorem nxT_0 {T : Nat → Int → Int} {i : Int} (h : i ≠ 4 ∧ i ≠ 14 ∧ i ≠ 15 ∧ i ≠ 18) : nxT T 0 i = T 0 i := by
  unfold nxT
  rw [ts_eq, fset_ne h.1, ts_eq, fset_ne h.2.1]
  split
  · rw [ts_eq, fset_ne h.2.2.1]; split
    · rw [ts_eq, fset_ne h.2.2.2]
    · rfl
  · split
    · rw [ts_eq, fset_ne h.2.2.2]
    · rfl
theorem nxT_k {T : Nat → Int → Int} {k : Nat} (h : k ≠ 0) : nxT T k = T k := by
  unfold nxT
  rw [ts_ne h, ts_ne h]
  split
  · rw [ts_ne h]; split
    · rw [ts_ne h]
    · rfl
  · split
    · rw [ts_ne h]
    · rfl
theorem nxT_pf {T : Nat → Int → Int} : PF T (nxT T) := ⟨fun k hk => nxT_k hk, fun i hi => nxT_0 (by omega)⟩
theorem nxT_4 {T : Nat → Int → Int} : nxT T 0 4 = T 0 4 + 1 := by unfold nxT; rw [ts_eq, fset_eq]
theorem nxT_14 {T : Nat → Int → Int} : nxT T 0 14 = T 0 14 + 1 := by unfold nxT; rw [ts_eq, fset_ne (by decide), ts_eq, fset_eq]
theorem nxT_18 {T : Nat → Int → Int} : nxT T 0 18 = if T 0 14 < 7 then T 0 18 * 256 + TK T (T 0 4) else T 0 18 := by
  unfold nxT
  rw [ts_eq, fset_ne (by decide), ts_eq, fset_ne (by decide)]
  split
  · rw [ts_eq, fset_ne (by decide)]; split
    · rw [ts_eq, fset_eq]
    · rfl
  · split
    · rw [ts_eq, fset_eq]
    · rfl
theorem nxT_15 {T : Nat → Int → Int} : nxT T 0 15 = if T 0 14 < 3 then 10 * T 0 15 + TK T (T 0 4) - 48 else T 0 15 := by
  unfold nxT
  rw [ts_eq, fset_ne (by decide), ts_eq, fset_ne (by decide)]
  split
  · rw [ts_eq, fset_eq]
  · split
    · rw [ts_eq, fset_ne (by decide)]
    · rfl
theorem nx_run {s : Bool} {c1 : Int32} : ∀ (n k : Nat) (T : Nat → Int → Int) (a : Bool), TpOk T → 0 ≤ T 0 4 → T 0 4 ≤ T 0 3 → (en (T 1) (T 0 3) (T 0 4) - T 0 4) = (n : Int) → T 0 14 = (k : Int) → k + n ≤ 1000 → 0 ≤ T 0 18 → T 0 18 < ((256 ^ k : Nat) : Int) →
    ∃ T', G (d + 1) 7071 181 [.ref m, .int c1, .int (zI (bZ s)), .int (zI (bZ a))] [] (tw m T h) = some (.inl none, tw m T' h) ∧ PF T T' ∧ (∀ i : Int, (i ≠ 4 ∧ i ≠ 12 ∧ i ≠ 14 ∧ i ≠ 15 ∧ i ≠ 18) → T' 0 i = T 0 i) ∧ T' 0 4 = en (T 1) (T 0 3) (T 0 4) ∧
      T' 0 18 = wdF (T 1) (T 0 3) (min (7 - k) n) (T 0 4) (T 0 18) ∧ T' 0 15 = nmF (T 1) (T 0 3) (min (3 - k) n) (T 0 4) (T 0 15) ∧
      T' 0 12 = if (a && allF (T 1) (T 0 3) s n (T 0 4)) = true ∧ ((k + n : Nat) : Int) ≤ (if s = true then 7 else 3) then (if s = true then 1 else 2) else 4 := by
  intro n
  induction n with
  | zero =>
    intro k T a hT h0 h1 hn hk hkn hw hw2
    have ha : alnum (TK T (T 0 4)) = false := by
      cases hq : alnum (TK T (T 0 4)) with
      | false => rfl
      | true =>
        rw [en_step, if_pos hq] at hn
        have := en_ge (g := T 1) (z := T 0 3) (p := T 0 4 + 1)
        omega
    have hs : small (TK T (T 0 4)) = false := by
      simp only [alnum, Bool.or_eq_false_iff] at ha; exact ha.1
    have hd : digit (TK T (T 0 4)) = false := by
      simp only [alnum, Bool.or_eq_false_iff] at ha; exact ha.2
    have hen : en (T 1) (T 0 3) (T 0 4) = T 0 4 := by rw [en_step, if_neg (by rw [show alnum (tpk (T 1) (T 0 3) (T 0 4)) = false from ha]; decide)]
    refine ⟨ts T 0 12 (if (a && allF (T 1) (T 0 3) s 0 (T 0 4)) = true ∧ ((k + 0 : Nat) : Int) ≤ (if s = true then 7 else 3) then (if s = true then 1 else 2) else 4), ?_, PF.st (by omega), fun i hi => by rw [ts_eq, fset_ne (by omega)], by rw [ts_eq, fset_ne (by decide), hen], by rw [ts_eq, fset_ne (by decide), Nat.min_zero]; rfl, by rw [ts_eq, fset_ne (by decide), Nat.min_zero]; rfl, by rw [ts_eq, fset_eq]⟩
    rw [E7071_181]
    have hk' : ((k + 0 : Nat) : Int) = T 0 14 := by omega
    rw [hk']
    cases a with
    | false =>
      simp (disch := omega) only [jc_ref, rI_int, rR_ref, rR_null, rJ_long, ckR_ref, ckR_null, ckr_ref, ckr_null, ckW_int, ckW_ref, ckW_null, cI_ok, cR_ok, cR_null, cV_ok, cJ_ok, qH_eq, qD_in, aG_ref, aS_ref, aL_ref, pF_ref, cK_ref, cK_null, zI_lit, zJ_lit, zI_add, zI_sub, zI_mul, zI_neg, zI_eq, zI_lt, zI_le, Int.reduceLT, Int.reduceLE, Int.reduceAdd, Int.reduceSub, Int.reduceMul, Int.reduceNeg, Int.reduceEq, Int.reduceNe, reduceIte, tw_0, tw_1, tw_2, tw_3, tw_4, tw_5, tw_6, tw_7, tw_8, tw_9, tw_10, tw_11, tw_12, tw_13, tw_14, tw_15, tw_16, tw_17, tw_18, tw_19, tw_20, tw_21, tw_22, tw_23, tw_24, tw_25, tw_26, tw_27, tw_28, tw_29, tw_30, tw_31, ob_0, ob_1, ob_2, ob_3, ob_4, ob_5, ob_6, ob_7, ob_8, ob_9, ob_10, ob_11, ob_12, ob_13, ob_14, ob_15, ob_16, ob_17, ob_18, ob_19, ob_20, ob_21, ob_22, ob_23, ob_24, ob_25, ob_26, ob_27, ob_28, ob_29, ob_30, ob_31, ob_32, ob_33, ob_34, ob_35, ob_36, ob_37, ob_38, ob_39, ob_40, ob_41, ob_42, ob_43, ob_44, ob_45, ob_46, ob_47, ob_48, ob_49, ob_50, ob_51, ob_52, ob_53, ob_54, ob_55, ob_56, ob_57, ob_58, ob_59, ob_60, ob_61, ob_62, ob_63, ob_64, ob_65, jf7, aGi, aGb, aGz, aGj, leT, leF, ltT, ltF, eqT, eqF, tws_0, tws_1, tws_2, tws_3, tws_4, tws_5, tws_6, tws_7, tws_8, tws_9, tws_10, tws_11, tws_12, tws_13, tws_14, tws_15, tws_16, tws_17, tws_18, tws_19, tws_20, tws_21, tws_22, tws_23, tws_24, tws_25, tws_26, tws_27, tws_28, tws_29, tws_30, tws_31, obs_0, obs_2, obs_3, obs_4, obs_5, obs_12, obs_13, obs_14, obs_15, obs_16, obs_17, obs_18, obs_19, obs_20, obs_21, obs_22, obs_26, obs_31, obs_32, obs_33, obs_34, obs_35, obs_41, obs_42, obs_44, obs_48, obs_50, obs_51, obs_52, obs_55, obs_57, obs_58, obs_59, obs_60, obs_61, pF7i, pF7z, pF7j, aSi, aSj, aSb1, aSb24, aSb28, aSb31, ts, tg_eq, tg_ne, tg_tg, fset_eq, fset_ne, tm_peek hT h0 h1, tm_small Rg_pk, tm_digit Rg_pk, hs, hd, beq_tt, beq_tf, beq_ft, beq_ff, Bool.true_and, Bool.false_and, Bool.and_true, Bool.and_false, Bool.true_or, Bool.false_or, Bool.or_true, Bool.or_false, Bool.true_eq_false, Bool.false_eq_true, Bool.not_true, Bool.not_false, bZ_t, bZ_f, zI_b0, zI_b1, zI_bb, okZ_0, okZ_1, false_and]
    | true =>
      cases s with
      | true =>
        by_cases h7 : T 0 14 ≤ 7
        · simp (disch := omega) only [jc_ref, rI_int, rR_ref, rR_null, rJ_long, ckR_ref, ckR_null, ckr_ref, ckr_null, ckW_int, ckW_ref, ckW_null, cI_ok, cR_ok, cR_null, cV_ok, cJ_ok, qH_eq, qD_in, aG_ref, aS_ref, aL_ref, pF_ref, cK_ref, cK_null, zI_lit, zJ_lit, zI_add, zI_sub, zI_mul, zI_neg, zI_eq, zI_lt, zI_le, Int.reduceLT, Int.reduceLE, Int.reduceAdd, Int.reduceSub, Int.reduceMul, Int.reduceNeg, Int.reduceEq, Int.reduceNe, reduceIte, tw_0, tw_1, tw_2, tw_3, tw_4, tw_5, tw_6, tw_7, tw_8, tw_9, tw_10, tw_11, tw_12, tw_13, tw_14, tw_15, tw_16, tw_17, tw_18, tw_19, tw_20, tw_21, tw_22, tw_23, tw_24, tw_25, tw_26, tw_27, tw_28, tw_29, tw_30, tw_31, ob_0, ob_1, ob_2, ob_3, ob_4, ob_5, ob_6, ob_7, ob_8, ob_9, ob_10, ob_11, ob_12, ob_13, ob_14, ob_15, ob_16, ob_17, ob_18, ob_19, ob_20, ob_21, ob_22, ob_23, ob_24, ob_25, ob_26, ob_27, ob_28, ob_29, ob_30, ob_31, ob_32, ob_33, ob_34, ob_35, ob_36, ob_37, ob_38, ob_39, ob_40, ob_41, ob_42, ob_43, ob_44, ob_45, ob_46, ob_47, ob_48, ob_49, ob_50, ob_51, ob_52, ob_53, ob_54, ob_55, ob_56, ob_57, ob_58, ob_59, ob_60, ob_61, ob_62, ob_63, ob_64, ob_65, jf7, aGi, aGb, aGz, aGj, leT, leF, ltT, ltF, eqT, eqF, tws_0, tws_1, tws_2, tws_3, tws_4, tws_5, tws_6, tws_7, tws_8, tws_9, tws_10, tws_11, tws_12, tws_13, tws_14, tws_15, tws_16, tws_17, tws_18, tws_19, tws_20, tws_21, tws_22, tws_23, tws_24, tws_25, tws_26, tws_27, tws_28, tws_29, tws_30, tws_31, obs_0, obs_2, obs_3, obs_4, obs_5, obs_12, obs_13, obs_14, obs_15, obs_16, obs_17, obs_18, obs_19, obs_20, obs_21, obs_22, obs_26, obs_31, obs_32, obs_33, obs_34, obs_35, obs_41, obs_42, obs_44, obs_48, obs_50, obs_51, obs_52, obs_55, obs_57, obs_58, obs_59, obs_60, obs_61, pF7i, pF7z, pF7j, aSi, aSj, aSb1, aSb24, aSb28, aSb31, ts, tg_eq, tg_ne, tg_tg, fset_eq, fset_ne, tm_peek hT h0 h1, tm_small Rg_pk, tm_digit Rg_pk, hs, hd, beq_tt, beq_tf, beq_ft, beq_ff, Bool.true_and, Bool.false_and, Bool.and_true, Bool.and_false, Bool.true_or, Bool.false_or, Bool.or_true, Bool.or_false, Bool.true_eq_false, Bool.false_eq_true, Bool.not_true, Bool.not_false, bZ_t, bZ_f, zI_b0, zI_b1, zI_bb, okZ_0, okZ_1, allF, true_and, h7, if_true]
        · simp (disch := omega) only [jc_ref, rI_int, rR_ref, rR_null, rJ_long, ckR_ref, ckR_null, ckr_ref, ckr_null, ckW_int, ckW_ref, ckW_null, cI_ok, cR_ok, cR_null, cV_ok, cJ_ok, qH_eq, qD_in, aG_ref, aS_ref, aL_ref, pF_ref, cK_ref, cK_null, zI_lit, zJ_lit, zI_add, zI_sub, zI_mul, zI_neg, zI_eq, zI_lt, zI_le, Int.reduceLT, Int.reduceLE, Int.reduceAdd, Int.reduceSub, Int.reduceMul, Int.reduceNeg, Int.reduceEq, Int.reduceNe, reduceIte, tw_0, tw_1, tw_2, tw_3, tw_4, tw_5, tw_6, tw_7, tw_8, tw_9, tw_10, tw_11, tw_12, tw_13, tw_14, tw_15, tw_16, tw_17, tw_18, tw_19, tw_20, tw_21, tw_22, tw_23, tw_24, tw_25, tw_26, tw_27, tw_28, tw_29, tw_30, tw_31, ob_0, ob_1, ob_2, ob_3, ob_4, ob_5, ob_6, ob_7, ob_8, ob_9, ob_10, ob_11, ob_12, ob_13, ob_14, ob_15, ob_16, ob_17, ob_18, ob_19, ob_20, ob_21, ob_22, ob_23, ob_24, ob_25, ob_26, ob_27, ob_28, ob_29, ob_30, ob_31, ob_32, ob_33, ob_34, ob_35, ob_36, ob_37, ob_38, ob_39, ob_40, ob_41, ob_42, ob_43, ob_44, ob_45, ob_46, ob_47, ob_48, ob_49, ob_50, ob_51, ob_52, ob_53, ob_54, ob_55, ob_56, ob_57, ob_58, ob_59, ob_60, ob_61, ob_62, ob_63, ob_64, ob_65, jf7, aGi, aGb, aGz, aGj, leT, leF, ltT, ltF, eqT, eqF, tws_0, tws_1, tws_2, tws_3, tws_4, tws_5, tws_6, tws_7, tws_8, tws_9, tws_10, tws_11, tws_12, tws_13, tws_14, tws_15, tws_16, tws_17, tws_18, tws_19, tws_20, tws_21, tws_22, tws_23, tws_24, tws_25, tws_26, tws_27, tws_28, tws_29, tws_30, tws_31, obs_0, obs_2, obs_3, obs_4, obs_5, obs_12, obs_13, obs_14, obs_15, obs_16, obs_17, obs_18, obs_19, obs_20, obs_21, obs_22, obs_26, obs_31, obs_32, obs_33, obs_34, obs_35, obs_41, obs_42, obs_44, obs_48, obs_50, obs_51, obs_52, obs_55, obs_57, obs_58, obs_59, obs_60, obs_61, pF7i, pF7z, pF7j, aSi, aSj, aSb1, aSb24, aSb28, aSb31, ts, tg_eq, tg_ne, tg_tg, fset_eq, fset_ne, tm_peek hT h0 h1, tm_small Rg_pk, tm_digit Rg_pk, hs, hd, beq_tt, beq_tf, beq_ft, beq_ff, Bool.true_and, Bool.false_and, Bool.and_true, Bool.and_false, Bool.true_or, Bool.false_or, Bool.or_true, Bool.or_false, Bool.true_eq_false, Bool.false_eq_true, Bool.not_true, Bool.not_false, bZ_t, bZ_f, zI_b0, zI_b1, zI_bb, okZ_0, okZ_1, allF, true_and, h7, if_true]
      | false =>
        by_cases h7 : T 0 14 ≤ 3
        · simp (disch := omega) only [jc_ref, rI_int, rR_ref, rR_null, rJ_long, ckR_ref, ckR_null, ckr_ref, ckr_null, ckW_int, ckW_ref, ckW_null, cI_ok, cR_ok, cR_null, cV_ok, cJ_ok, qH_eq, qD_in, aG_ref, aS_ref, aL_ref, pF_ref, cK_ref, cK_null, zI_lit, zJ_lit, zI_add, zI_sub, zI_mul, zI_neg, zI_eq, zI_lt, zI_le, Int.reduceLT, Int.reduceLE, Int.reduceAdd, Int.reduceSub, Int.reduceMul, Int.reduceNeg, Int.reduceEq, Int.reduceNe, reduceIte, tw_0, tw_1, tw_2, tw_3, tw_4, tw_5, tw_6, tw_7, tw_8, tw_9, tw_10, tw_11, tw_12, tw_13, tw_14, tw_15, tw_16, tw_17, tw_18, tw_19, tw_20, tw_21, tw_22, tw_23, tw_24, tw_25, tw_26, tw_27, tw_28, tw_29, tw_30, tw_31, ob_0, ob_1, ob_2, ob_3, ob_4, ob_5, ob_6, ob_7, ob_8, ob_9, ob_10, ob_11, ob_12, ob_13, ob_14, ob_15, ob_16, ob_17, ob_18, ob_19, ob_20, ob_21, ob_22, ob_23, ob_24, ob_25, ob_26, ob_27, ob_28, ob_29, ob_30, ob_31, ob_32, ob_33, ob_34, ob_35, ob_36, ob_37, ob_38, ob_39, ob_40, ob_41, ob_42, ob_43, ob_44, ob_45, ob_46, ob_47, ob_48, ob_49, ob_50, ob_51, ob_52, ob_53, ob_54, ob_55, ob_56, ob_57, ob_58, ob_59, ob_60, ob_61, ob_62, ob_63, ob_64, ob_65, jf7, aGi, aGb, aGz, aGj, leT, leF, ltT, ltF, eqT, eqF, tws_0, tws_1, tws_2, tws_3, tws_4, tws_5, tws_6, tws_7, tws_8, tws_9, tws_10, tws_11, tws_12, tws_13, tws_14, tws_15, tws_16, tws_17, tws_18, tws_19, tws_20, tws_21, tws_22, tws_23, tws_24, tws_25, tws_26, tws_27, tws_28, tws_29, tws_30, tws_31, obs_0, obs_2, obs_3, obs_4, obs_5, obs_12, obs_13, obs_14, obs_15, obs_16, obs_17, obs_18, obs_19, obs_20, obs_21, obs_22, obs_26, obs_31, obs_32, obs_33, obs_34, obs_35, obs_41, obs_42, obs_44, obs_48, obs_50, obs_51, obs_52, obs_55, obs_57, obs_58, obs_59, obs_60, obs_61, pF7i, pF7z, pF7j, aSi, aSj, aSb1, aSb24, aSb28, aSb31, ts, tg_eq, tg_ne, tg_tg, fset_eq, fset_ne, tm_peek hT h0 h1, tm_small Rg_pk, tm_digit Rg_pk, hs, hd, beq_tt, beq_tf, beq_ft, beq_ff, Bool.true_and, Bool.false_and, Bool.and_true, Bool.and_false, Bool.true_or, Bool.false_or, Bool.or_true, Bool.or_false, Bool.true_eq_false, Bool.false_eq_true, Bool.not_true, Bool.not_false, bZ_t, bZ_f, zI_b0, zI_b1, zI_bb, okZ_0, okZ_1, allF, true_and, h7, if_true]
        · simp (disch := omega) only [jc_ref, rI_int, rR_ref, rR_null, rJ_long, ckR_ref, ckR_null, ckr_ref, ckr_null, ckW_int, ckW_ref, ckW_null, cI_ok, cR_ok, cR_null, cV_ok, cJ_ok, qH_eq, qD_in, aG_ref, aS_ref, aL_ref, pF_ref, cK_ref, cK_null, zI_lit, zJ_lit, zI_add, zI_sub, zI_mul, zI_neg, zI_eq, zI_lt, zI_le, Int.reduceLT, Int.reduceLE, Int.reduceAdd, Int.reduceSub, Int.reduceMul, Int.reduceNeg, Int.reduceEq, Int.reduceNe, reduceIte, tw_0, tw_1, tw_2, tw_3, tw_4, tw_5, tw_6, tw_7, tw_8, tw_9, tw_10, tw_11, tw_12, tw_13, tw_14, tw_15, tw_16, tw_17, tw_18, tw_19, tw_20, tw_21, tw_22, tw_23, tw_24, tw_25, tw_26, tw_27, tw_28, tw_29, tw_30, tw_31, ob_0, ob_1, ob_2, ob_3, ob_4, ob_5, ob_6, ob_7, ob_8, ob_9, ob_10, ob_11, ob_12, ob_13, ob_14, ob_15, ob_16, ob_17, ob_18, ob_19, ob_20, ob_21, ob_22, ob_23, ob_24, ob_25, ob_26, ob_27, ob_28, ob_29, ob_30, ob_31, ob_32, ob_33, ob_34, ob_35, ob_36, ob_37, ob_38, ob_39, ob_40, ob_41, ob_42, ob_43, ob_44, ob_45, ob_46, ob_47, ob_48, ob_49, ob_50, ob_51, ob_52, ob_53, ob_54, ob_55, ob_56, ob_57, ob_58, ob_59, ob_60, ob_61, ob_62, ob_63, ob_64, ob_65, jf7, aGi, aGb, aGz, aGj, leT, leF, ltT, ltF, eqT, eqF, tws_0, tws_1, tws_2, tws_3, tws_4, tws_5, tws_6, tws_7, tws_8, tws_9, tws_10, tws_11, tws_12, tws_13, tws_14, tws_15, tws_16, tws_17, tws_18, tws_19, tws_20, tws_21, tws_22, tws_23, tws_24, tws_25, tws_26, tws_27, tws_28, tws_29, tws_30, tws_31, obs_0, obs_2, obs_3, obs_4, obs_5, obs_12, obs_13, obs_14, obs_15, obs_16, obs_17, obs_18, obs_19, obs_20, obs_21, obs_22, obs_26, obs_31, obs_32, obs_33, obs_34, obs_35, obs_41, obs_42, obs_44, obs_48, obs_50, obs_51, obs_52, obs_55, obs_57, obs_58, obs_59, obs_60, obs_61, pF7i, pF7z, pF7j, aSi, aSj, aSb1, aSb24, aSb28, aSb31, ts, tg_eq, tg_ne, tg_tg, fset_eq, fset_ne, tm_peek hT h0 h1, tm_small Rg_pk, tm_digit Rg_pk, hs, hd, beq_tt, beq_tf, beq_ft, beq_ff, Bool.true_and, Bool.false_and, Bool.and_true, Bool.and_false, Bool.true_or, Bool.false_or, Bool.or_true, Bool.or_false, Bool.true_eq_false, Bool.false_eq_true, Bool.not_true, Bool.not_false, bZ_t, bZ_f, zI_b0, zI_b1, zI_bb, okZ_0, okZ_1, allF, true_and, h7, if_true]
  | succ n ih =>
    intro k T a hT h0 h1 hn hk hkn hw hw2
    have ha : alnum (TK T (T 0 4)) = true := by
      cases hq : alnum (TK T (T 0 4)) with
      | true => rfl
      | false =>
        rw [en_step, if_neg (by rw [show alnum (tpk (T 1) (T 0 3) (T 0 4)) = false from hq]; decide)] at hn
        omega
    have hp : T 0 4 < T 0 3 := alnum_in (g := T 1) ha
    have hb : 0 ≤ TK T (T 0 4) := by rw [TK, tpk_lt hp]; omega
    have hb2 : TK T (T 0 4) < 256 := tpk_hi _
    have hen : en (T 1) (T 0 3) (T 0 4) = en (T 1) (T 0 3) (T 0 4 + 1) := by rw [en_step, if_pos ha]
    have hbig : T 0 14 < 7 → T 0 18 < 281474976710656 := by
      intro hq
      have : 256 ^ k ≤ 256 ^ 6 := Nat.pow_le_pow_right (by decide) (by omega)
      have e6 : (256 : Nat) ^ 6 = 281474976710656 := by decide +kernel
      omega
    have hpow : (256 : Nat) ^ (k + 1) = 256 ^ k * 256 := Nat.pow_succ 256 k
    obtain ⟨T', e1, e2, e3, e4, e5, e6, e7⟩ := ih (k + 1) (nxT T) (a && (small (TK T (T 0 4)) == s)) (hT.pf nxT_pf) (by rw [nxT_4]; omega) (by rw [nxT_4, nxT_0 (by decide)]; omega)
      (by rw [nxT_4, nxT_0 (by decide), nxT_k (by decide), ← hen]; omega) (by rw [nxT_14]; omega) (by omega) (by rw [nxT_18]; split <;> omega) (by
        rw [nxT_18, hpow]
        split
        · omega
        · have := Nat.le_mul_of_pos_right (256 ^ k) (show 0 < 256 by decide); omega)
    rw [nxT_4, nxT_0 (by decide), nxT_k (by decide)] at e4 e5 e6 e7
    refine ⟨T', by rw [nx_step hT h0 h1 ha (by omega) (by omega) hw hbig, e1], nxT_pf.tr e2, fun i hi => by rw [e3 i hi, nxT_0 (by omega)], by rw [e4, hen], ?_, ?_, ?_⟩
    · rw [e5, nxT_18]
      by_cases h7 : T 0 14 < 7
      · rw [if_pos h7, show min (7 - k) (n + 1) = min (7 - (k + 1)) n + 1 by omega]
        rfl
      · rw [if_neg h7, show min (7 - k) (n + 1) = 0 by omega, show min (7 - (k + 1)) n = 0 by omega]
        rfl
    · rw [e6, nxT_15]
      by_cases h3 : T 0 14 < 3
      · rw [if_pos h3, show min (3 - k) (n + 1) = min (3 - (k + 1)) n + 1 by omega]
        rfl
      · rw [if_neg h3, show min (3 - k) (n + 1) = 0 by omega, show min (3 - (k + 1)) n = 0 by omega]
        rfl
    · rw [e7, show k + 1 + n = k + (n + 1) by omega, Bool.and_assoc]
      rfl
end
