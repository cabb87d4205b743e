/-! the twin reads statements (S: the store, nm: the names, L: line, to: where) -/
/-- what reading a statement changes: the token's fields, and line from to on -/
def LF (to : Int) (T T' : Nat → Int → Int) : Prop := (∀ k, k ≠ 0 → k ≠ 5 → T' k = T k) ∧ (∀ i : Int, (i ≤ 3 ∨ i = 5 ∨ i = 20 ∨ 23 ≤ i) → T' 0 i = T 0 i) ∧ ∀ i : Int, (i < to ∨ to + 20 ≤ i) → T' 5 i = T 5 i
theorem LF.of {to : Int} {T T' : Nat → Int → Int} (p : PF T T') : LF to T T' := ⟨fun k h _ => p.1 k h, p.2, fun i _ => by rw [p.1 5 (by decide)]⟩
theorem LF.tr {to : Int} {T T' T'' : Nat → Int → Int} (a : LF to T T') (b : LF to T' T'') : LF to T T'' := ⟨fun k h0 h5 => (b.1 k h0 h5).trans (a.1 k h0 h5), fun i hi => (b.2.1 i hi).trans (a.2.1 i hi), fun i hi => (b.2.2 i hi).trans (a.2.2 i hi)⟩
theorem LF.s {to : Int} {T : Nat → Int → Int} {i v : Int} (h1 : to ≤ i) (h2 : i < to + 20) : LF to T (ts T 5 i v) := ⟨fun k _ h5 => ts_ne h5, fun j _ => by rw [ts_ne (by decide)], fun j hj => by rw [ts_eq, fset_ne (by omega)]⟩
def TL {α : Type} (to : Int) (r : Except Er α) (m : Nat) (T : Nat → Int → Int) (h : AH) (R : Rz) (K : α → (Nat → Int → Int) → Prop) : Prop :=
  ∃ T', R = some (.inl (some (.int (zI (bZ (isK r))))), tw m T' h) ∧ LF to T T' ∧ match r with
    | .error e => Fl T' e
    | .ok a => K a T'
theorem TL.of {α : Type} {to : Int} {r : Except Er α} {m : Nat} {T T5 : Nat → Int → Int} {h : AH} {R R' : Rz} {K : α → (Nat → Int → Int) → Prop} (he : R = R') (pf : LF to T T5) (w : TL to r m T5 h R' K) : TL to r m T h R K := by
  obtain ⟨T', a, b, c⟩ := w
  exact ⟨T', he.trans a, pf.tr b, c⟩
section
variable (g : Int → Int) (z l : Int) (S nm : Int → Int)
abbrev LQ : Type := (Int → Int) × Int
def valP (L : Int → Int) (i q : Int) : Except Er LQ := if isW g z l q wNONE = true then .ok (fset L i (-1), nxt g z l q) else eb (numP g z l 0 99 q) fun a => .ok (fset L i a, nxt g z l q)
def ownP (L : Int → Int) (to q : Int) : Except Er LQ := eb (lookP g z l (fun k => nm (0 + k)) (S 0).toNat q) fun a => .ok (fset (fset (fset L (to + 1) a) (to + 2) 0) (to + 7) 0, nxt g z l q)
def lookC (t q : Int) : Except Er Int := lookP g z l (fun k => nm (4 + 4 * t + k)) (S (4 + t)).toNat q
def condF (to : Int) : Nat → (Int → Int) → Int → Except Er LQ
  | 0, L, q => .ok (L, q)
  | n + 1, L, q => eb (lookC g z l S nm (L (to + 1)) (nxt g z l q)) fun a =>
    if L (to + 7) = 4 then .error (erx g z l (nxt g z l q) 4) else
    if kd g z l (nxt g z l (nxt g z l q)) = 3 ∧ isInZ (nmv g z (nxt g z l (nxt g z l q))) 60 62 = true then
      eb (valP g z l (fset (fset L (to + 8 + 3 * L (to + 7)) a) (to + 8 + 3 * L (to + 7) + 1) (nmv g z (nxt g z l (nxt g z l q)))) (to + 8 + 3 * L (to + 7) + 2) (nxt g z l (nxt g z l (nxt g z l q)))) fun b =>
        if isW g z l b.2 wAND = true then condF to n (fset b.1 (to + 7) (b.1 (to + 7) + 1)) b.2 else .ok (fset b.1 (to + 7) (b.1 (to + 7) + 1), b.2)
    else .error (erx g z l (nxt g z l (nxt g z l q)) 1)
def condsP (L : Int → Int) (to q : Int) : Except Er LQ := if isW g z l q wIF = true then condF g z l S nm to 5 L q else .ok (L, q)
end
section
variable {g : Int → Int} {z l : Int} {d m : Nat} {T : Nat → Int → Int} {h : AH} {q : Int} {S nm : Int → Int}
theorem val_at {L : Int → Int} {i q : Int} {b : LQ} (h : valP g z l L i q = .ok b) : (∀ j, j ≠ i → b.1 j = L j) ∧ -1 ≤ b.1 i ∧ b.1 i ≤ 99 := by
  unfold valP at h
  split at h
  · cases h; exact ⟨fun j hj => fset_ne hj, by show -1 ≤ fset L i (-1) i; rw [fset_eq]; decide, by show fset L i (-1) i ≤ 99; rw [fset_eq]; decide⟩
  · obtain ⟨a, h1, h2⟩ := eb_inv h
    cases h2
    refine ⟨fun j hj => fset_ne hj, ?_⟩
    show -1 ≤ fset L i a i ∧ fset L i a i ≤ 99
    rw [fset_eq]
    unfold numP at h1
    split at h1
    · cases h1
    · split at h1
      · cases h1
      · rename_i hi
        cases h1
        simp only [isInZ, decide_eq_false_iff_not, Classical.not_not] at hi
        omega
theorem tm_takesValue {to i : Int} (R : Rd g z l T q) (h0 : 0 ≤ i) (h1 : i < 800) (h2 : to ≤ i) (h3 : i < to + 20) :
    TL to (valP g z l (T 5) i q) m T h (M (d + 4) 7123 [.ref m, .int (zI i)] (tw m T h)) (fun a T' => T' 5 = a.1 ∧ Rd g z l T' a.2) := by
  rw [X7123 _ (tw_recv rfl), E7123_0]
  have w := rd_isW (d := d + 2) (m := m) (h := h) R (w := 1852796517) (by omega) (by omega)
  unfold valP
  cases e1 : isW g z l q wNONE with
  | true =>
    rw [if_pos rfl]
    have R1 : Rd g z l (ts T 5 i (-1)) q := R.tg (by decide) (by decide) (by decide) (by decide)
    obtain ⟨T1, n1, n2, -, R2⟩ := rd_next (d := d + 1) (m := m) (h := h) R1
    refine ⟨T1, ?_, (LF.s h2 h3).tr (LF.of n2), by rw [n2.1 5 (by decide), ts_eq], R2⟩
    simp (disch := omega) only [jc_ref, rI_int, rR_ref, rR_null, rJ_long, ckR_ref, ckR_null, ckr_ref, ckr_null, ckW_int, ckW_ref, ckW_null, cI_ok, cR_ok, cR_null, cV_ok, cJ_ok, qH_eq, qD_in, aG_ref, aS_ref, aL_ref, pF_ref, cK_ref, cK_null, zI_lit, zJ_lit, zI_add, zI_sub, zI_mul, zI_neg, zI_eq, zI_lt, zI_le, Int.reduceLT, Int.reduceLE, Int.reduceAdd, Int.reduceSub, Int.reduceMul, Int.reduceNeg, Int.reduceEq, Int.reduceNe, reduceIte, tw_0, tw_1, tw_2, tw_3, tw_4, tw_5, tw_6, tw_7, tw_8, tw_9, tw_10, tw_11, tw_12, tw_13, tw_14, tw_15, tw_16, tw_17, tw_18, tw_19, tw_20, tw_21, tw_22, tw_23, tw_24, tw_25, tw_26, tw_27, tw_28, tw_29, tw_30, tw_31, ob_0, ob_1, ob_2, ob_3, ob_4, ob_5, ob_6, ob_7, ob_8, ob_9, ob_10, ob_11, ob_12, ob_13, ob_14, ob_15, ob_16, ob_17, ob_18, ob_19, ob_20, ob_21, ob_22, ob_23, ob_24, ob_25, ob_26, ob_27, ob_28, ob_29, ob_30, ob_31, ob_32, ob_33, ob_34, ob_35, ob_36, ob_37, ob_38, ob_39, ob_40, ob_41, ob_42, ob_43, ob_44, ob_45, ob_46, ob_47, ob_48, ob_49, ob_50, ob_51, ob_52, ob_53, ob_54, ob_55, ob_56, ob_57, ob_58, ob_59, ob_60, ob_61, ob_62, ob_63, ob_64, ob_65, jf7, aGi, aGb, aGz, aGj, leT, leF, ltT, ltF, eqT, eqF, tws_0, tws_1, tws_2, tws_3, tws_4, tws_5, tws_6, tws_7, tws_8, tws_9, tws_10, tws_11, tws_12, tws_13, tws_14, tws_15, tws_16, tws_17, tws_18, tws_19, tws_20, tws_21, tws_22, tws_23, tws_24, tws_25, tws_26, tws_27, tws_28, tws_29, tws_30, tws_31, obs_0, obs_2, obs_3, obs_4, obs_5, obs_12, obs_13, obs_14, obs_15, obs_16, obs_17, obs_18, obs_19, obs_20, obs_21, obs_22, obs_26, obs_31, obs_32, obs_33, obs_34, obs_35, obs_41, obs_42, obs_44, obs_48, obs_50, obs_51, obs_52, obs_55, obs_57, obs_58, obs_59, obs_60, obs_61, pF7i, pF7z, pF7j, aSi, aSj, aSb1, aSb24, aSb28, aSb31, ts, tg_eq, tg_ne, tg_tg, fset_eq, fset_ne] at n1 ⊢
    simp (disch := omega) only [jc_ref, rI_int, rR_ref, rR_null, rJ_long, ckR_ref, ckR_null, ckr_ref, ckr_null, ckW_int, ckW_ref, ckW_null, cI_ok, cR_ok, cR_null, cV_ok, cJ_ok, qH_eq, qD_in, aG_ref, aS_ref, aL_ref, pF_ref, cK_ref, cK_null, zI_lit, zJ_lit, zI_add, zI_sub, zI_mul, zI_neg, zI_eq, zI_lt, zI_le, Int.reduceLT, Int.reduceLE, Int.reduceAdd, Int.reduceSub, Int.reduceMul, Int.reduceNeg, Int.reduceEq, Int.reduceNe, reduceIte, tw_0, tw_1, tw_2, tw_3, tw_4, tw_5, tw_6, tw_7, tw_8, tw_9, tw_10, tw_11, tw_12, tw_13, tw_14, tw_15, tw_16, tw_17, tw_18, tw_19, tw_20, tw_21, tw_22, tw_23, tw_24, tw_25, tw_26, tw_27, tw_28, tw_29, tw_30, tw_31, ob_0, ob_1, ob_2, ob_3, ob_4, ob_5, ob_6, ob_7, ob_8, ob_9, ob_10, ob_11, ob_12, ob_13, ob_14, ob_15, ob_16, ob_17, ob_18, ob_19, ob_20, ob_21, ob_22, ob_23, ob_24, ob_25, ob_26, ob_27, ob_28, ob_29, ob_30, ob_31, ob_32, ob_33, ob_34, ob_35, ob_36, ob_37, ob_38, ob_39, ob_40, ob_41, ob_42, ob_43, ob_44, ob_45, ob_46, ob_47, ob_48, ob_49, ob_50, ob_51, ob_52, ob_53, ob_54, ob_55, ob_56, ob_57, ob_58, ob_59, ob_60, ob_61, ob_62, ob_63, ob_64, ob_65, jf7, aGi, aGb, aGz, aGj, leT, leF, ltT, ltF, eqT, eqF, tws_0, tws_1, tws_2, tws_3, tws_4, tws_5, tws_6, tws_7, tws_8, tws_9, tws_10, tws_11, tws_12, tws_13, tws_14, tws_15, tws_16, tws_17, tws_18, tws_19, tws_20, tws_21, tws_22, tws_23, tws_24, tws_25, tws_26, tws_27, tws_28, tws_29, tws_30, tws_31, obs_0, obs_2, obs_3, obs_4, obs_5, obs_12, obs_13, obs_14, obs_15, obs_16, obs_17, obs_18, obs_19, obs_20, obs_21, obs_22, obs_26, obs_31, obs_32, obs_33, obs_34, obs_35, obs_41, obs_42, obs_44, obs_48, obs_50, obs_51, obs_52, obs_55, obs_57, obs_58, obs_59, obs_60, obs_61, pF7i, pF7z, pF7j, aSi, aSj, aSb1, aSb24, aSb28, aSb31, ts, tg_eq, tg_ne, tg_tg, fset_eq, fset_ne, w, e1, beq_tt, beq_tf, beq_ft, beq_ff, Bool.true_and, Bool.false_and, Bool.and_true, Bool.and_false, Bool.true_or, Bool.false_or, Bool.or_true, Bool.or_false, Bool.true_eq_false, Bool.false_eq_true, Bool.not_true, Bool.not_false, bZ_t, bZ_f, zI_b0, zI_b1, zI_bb, okZ_0, okZ_1, n1, isK]
  | false =>
    rw [if_neg (by decide)]
    obtain ⟨T1, a1, a2, a3⟩ := rd_takes (d := d) (m := m) (h := h) R (low := 0) (high := 99) (by omega) (by omega) (by omega) (by omega)
    cases hr : numP g z l 0 99 q with
    | error e =>
      rw [hr] at a1 a3
      refine ⟨T1, ?_, LF.of a2, a3⟩
      simp (disch := omega) only [jc_ref, rI_int, rR_ref, rR_null, rJ_long, ckR_ref, ckR_null, ckr_ref, ckr_null, ckW_int, ckW_ref, ckW_null, cI_ok, cR_ok, cR_null, cV_ok, cJ_ok, qH_eq, qD_in, aG_ref, aS_ref, aL_ref, pF_ref, cK_ref, cK_null, zI_lit, zJ_lit, zI_add, zI_sub, zI_mul, zI_neg, zI_eq, zI_lt, zI_le, Int.reduceLT, Int.reduceLE, Int.reduceAdd, Int.reduceSub, Int.reduceMul, Int.reduceNeg, Int.reduceEq, Int.reduceNe, reduceIte, tw_0, tw_1, tw_2, tw_3, tw_4, tw_5, tw_6, tw_7, tw_8, tw_9, tw_10, tw_11, tw_12, tw_13, tw_14, tw_15, tw_16, tw_17, tw_18, tw_19, tw_20, tw_21, tw_22, tw_23, tw_24, tw_25, tw_26, tw_27, tw_28, tw_29, tw_30, tw_31, ob_0, ob_1, ob_2, ob_3, ob_4, ob_5, ob_6, ob_7, ob_8, ob_9, ob_10, ob_11, ob_12, ob_13, ob_14, ob_15, ob_16, ob_17, ob_18, ob_19, ob_20, ob_21, ob_22, ob_23, ob_24, ob_25, ob_26, ob_27, ob_28, ob_29, ob_30, ob_31, ob_32, ob_33, ob_34, ob_35, ob_36, ob_37, ob_38, ob_39, ob_40, ob_41, ob_42, ob_43, ob_44, ob_45, ob_46, ob_47, ob_48, ob_49, ob_50, ob_51, ob_52, ob_53, ob_54, ob_55, ob_56, ob_57, ob_58, ob_59, ob_60, ob_61, ob_62, ob_63, ob_64, ob_65, jf7, aGi, aGb, aGz, aGj, leT, leF, ltT, ltF, eqT, eqF, w, e1, beq_tt, beq_tf, beq_ft, beq_ff, Bool.true_and, Bool.false_and, Bool.and_true, Bool.and_false, Bool.true_or, Bool.false_or, Bool.or_true, Bool.or_false, Bool.true_eq_false, Bool.false_eq_true, Bool.not_true, Bool.not_false, bZ_t, bZ_f, zI_b0, zI_b1, zI_bb, okZ_0, okZ_1, a1, isK, eb]
    | ok a =>
      rw [hr] at a1 a3
      obtain ⟨b1, R1, -, -⟩ := a3
      refine ⟨ts T1 5 i a, ?_, (LF.of a2).tr (LF.s h2 h3), by rw [ts_eq, a2.1 5 (by decide)], R1.tg (by decide) (by decide) (by decide) (by decide)⟩
      simp (disch := omega) only [jc_ref, rI_int, rR_ref, rR_null, rJ_long, ckR_ref, ckR_null, ckr_ref, ckr_null, ckW_int, ckW_ref, ckW_null, cI_ok, cR_ok, cR_null, cV_ok, cJ_ok, qH_eq, qD_in, aG_ref, aS_ref, aL_ref, pF_ref, cK_ref, cK_null, zI_lit, zJ_lit, zI_add, zI_sub, zI_mul, zI_neg, zI_eq, zI_lt, zI_le, Int.reduceLT, Int.reduceLE, Int.reduceAdd, Int.reduceSub, Int.reduceMul, Int.reduceNeg, Int.reduceEq, Int.reduceNe, reduceIte, tw_0, tw_1, tw_2, tw_3, tw_4, tw_5, tw_6, tw_7, tw_8, tw_9, tw_10, tw_11, tw_12, tw_13, tw_14, tw_15, tw_16, tw_17, tw_18, tw_19, tw_20, tw_21, tw_22, tw_23, tw_24, tw_25, tw_26, tw_27, tw_28, tw_29, tw_30, tw_31, ob_0, ob_1, ob_2, ob_3, ob_4, ob_5, ob_6, ob_7, ob_8, ob_9, ob_10, ob_11, ob_12, ob_13, ob_14, ob_15, ob_16, ob_17, ob_18, ob_19, ob_20, ob_21, ob_22, ob_23, ob_24, ob_25, ob_26, ob_27, ob_28, ob_29, ob_30, ob_31, ob_32, ob_33, ob_34, ob_35, ob_36, ob_37, ob_38, ob_39, ob_40, ob_41, ob_42, ob_43, ob_44, ob_45, ob_46, ob_47, ob_48, ob_49, ob_50, ob_51, ob_52, ob_53, ob_54, ob_55, ob_56, ob_57, ob_58, ob_59, ob_60, ob_61, ob_62, ob_63, ob_64, ob_65, jf7, aGi, aGb, aGz, aGj, leT, leF, ltT, ltF, eqT, eqF, tws_0, tws_1, tws_2, tws_3, tws_4, tws_5, tws_6, tws_7, tws_8, tws_9, tws_10, tws_11, tws_12, tws_13, tws_14, tws_15, tws_16, tws_17, tws_18, tws_19, tws_20, tws_21, tws_22, tws_23, tws_24, tws_25, tws_26, tws_27, tws_28, tws_29, tws_30, tws_31, obs_0, obs_2, obs_3, obs_4, obs_5, obs_12, obs_13, obs_14, obs_15, obs_16, obs_17, obs_18, obs_19, obs_20, obs_21, obs_22, obs_26, obs_31, obs_32, obs_33, obs_34, obs_35, obs_41, obs_42, obs_44, obs_48, obs_50, obs_51, obs_52, obs_55, obs_57, obs_58, obs_59, obs_60, obs_61, pF7i, pF7z, pF7j, aSi, aSj, aSb1, aSb24, aSb28, aSb31, ts, tg_eq, tg_ne, tg_tg, fset_eq, fset_ne, w, e1, beq_tt, beq_tf, beq_ft, beq_ff, Bool.true_and, Bool.false_and, Bool.and_true, Bool.and_false, Bool.true_or, Bool.false_or, Bool.or_true, Bool.or_false, Bool.true_eq_false, Bool.false_eq_true, Bool.not_true, Bool.not_false, bZ_t, bZ_f, zI_b0, zI_b1, zI_bb, okZ_0, okZ_1, a1, isK, b1, eb]
theorem tm_takesOwn {to : Int} (R : Rd g z l T q) (n0 : 0 ≤ T 2 0 ∧ T 2 0 ≤ 4) (h0 : 0 ≤ to) (h1 : to ≤ 780) :
    TL to (ownP g z l (T 2) (T 6) (T 5) to q) m T h (M (d + 4) 7119 [.ref m, .int (zI to)] (tw m T h)) (fun a T' => T' 5 = a.1 ∧ Rd g z l T' a.2 ∧ 0 ≤ a.1 (to + 1) ∧ a.1 (to + 1) < T 2 0) := by
  rw [X7119 _ (tw_recv rfl), E7119_0]
  obtain ⟨T1, a1, a2, a3⟩ := rd_name (d := d) (m := m) (h := h) (fr := 0) (n := T 2 0) R (by omega) (by omega) n0.1
  unfold ownP
  cases hr : lookP g z l (fun k => T 6 (0 + k)) (T 2 0).toNat q with
  | error e =>
    rw [hr] at a1 a3
    refine ⟨T1, ?_, LF.of a2, a3⟩
    simp (disch := omega) only [jc_ref, rI_int, rR_ref, rR_null, rJ_long, ckR_ref, ckR_null, ckr_ref, ckr_null, ckW_int, ckW_ref, ckW_null, cI_ok, cR_ok, cR_null, cV_ok, cJ_ok, qH_eq, qD_in, aG_ref, aS_ref, aL_ref, pF_ref, cK_ref, cK_null, zI_lit, zJ_lit, zI_add, zI_sub, zI_mul, zI_neg, zI_eq, zI_lt, zI_le, Int.reduceLT, Int.reduceLE, Int.reduceAdd, Int.reduceSub, Int.reduceMul, Int.reduceNeg, Int.reduceEq, Int.reduceNe, reduceIte, tw_0, tw_1, tw_2, tw_3, tw_4, tw_5, tw_6, tw_7, tw_8, tw_9, tw_10, tw_11, tw_12, tw_13, tw_14, tw_15, tw_16, tw_17, tw_18, tw_19, tw_20, tw_21, tw_22, tw_23, tw_24, tw_25, tw_26, tw_27, tw_28, tw_29, tw_30, tw_31, ob_0, ob_1, ob_2, ob_3, ob_4, ob_5, ob_6, ob_7, ob_8, ob_9, ob_10, ob_11, ob_12, ob_13, ob_14, ob_15, ob_16, ob_17, ob_18, ob_19, ob_20, ob_21, ob_22, ob_23, ob_24, ob_25, ob_26, ob_27, ob_28, ob_29, ob_30, ob_31, ob_32, ob_33, ob_34, ob_35, ob_36, ob_37, ob_38, ob_39, ob_40, ob_41, ob_42, ob_43, ob_44, ob_45, ob_46, ob_47, ob_48, ob_49, ob_50, ob_51, ob_52, ob_53, ob_54, ob_55, ob_56, ob_57, ob_58, ob_59, ob_60, ob_61, ob_62, ob_63, ob_64, ob_65, jf7, aGi, aGb, aGz, aGj, leT, leF, ltT, ltF, eqT, eqF, beq_tt, beq_tf, beq_ft, beq_ff, Bool.true_and, Bool.false_and, Bool.and_true, Bool.and_false, Bool.true_or, Bool.false_or, Bool.or_true, Bool.or_false, Bool.true_eq_false, Bool.false_eq_true, Bool.not_true, Bool.not_false, bZ_t, bZ_f, zI_b0, zI_b1, zI_bb, okZ_0, okZ_1, a1, isK, eb]
  | ok a =>
    rw [hr] at a1 a3
    obtain ⟨b1, R1, -, -, b4, b5⟩ := a3
    have e5 : T1 5 = T 5 := a2.1 5 (by decide)
    refine ⟨ts (ts (ts T1 5 (to + 1) a) 5 (to + 2) 0) 5 (to + 7) 0, ?_, (LF.of a2).tr ((LF.s (by omega) (by omega)).tr ((LF.s (by omega) (by omega)).tr (LF.s (by omega) (by omega)))), ?_, ((R1.tg (by decide) (by decide) (by decide) (by decide)).tg (by decide) (by decide) (by decide) (by decide)).tg (by decide) (by decide) (by decide) (by decide), ?_⟩
    · simp (disch := omega) only [jc_ref, rI_int, rR_ref, rR_null, rJ_long, ckR_ref, ckR_null, ckr_ref, ckr_null, ckW_int, ckW_ref, ckW_null, cI_ok, cR_ok, cR_null, cV_ok, cJ_ok, qH_eq, qD_in, aG_ref, aS_ref, aL_ref, pF_ref, cK_ref, cK_null, zI_lit, zJ_lit, zI_add, zI_sub, zI_mul, zI_neg, zI_eq, zI_lt, zI_le, Int.reduceLT, Int.reduceLE, Int.reduceAdd, Int.reduceSub, Int.reduceMul, Int.reduceNeg, Int.reduceEq, Int.reduceNe, reduceIte, tw_0, tw_1, tw_2, tw_3, tw_4, tw_5, tw_6, tw_7, tw_8, tw_9, tw_10, tw_11, tw_12, tw_13, tw_14, tw_15, tw_16, tw_17, tw_18, tw_19, tw_20, tw_21, tw_22, tw_23, tw_24, tw_25, tw_26, tw_27, tw_28, tw_29, tw_30, tw_31, ob_0, ob_1, ob_2, ob_3, ob_4, ob_5, ob_6, ob_7, ob_8, ob_9, ob_10, ob_11, ob_12, ob_13, ob_14, ob_15, ob_16, ob_17, ob_18, ob_19, ob_20, ob_21, ob_22, ob_23, ob_24, ob_25, ob_26, ob_27, ob_28, ob_29, ob_30, ob_31, ob_32, ob_33, ob_34, ob_35, ob_36, ob_37, ob_38, ob_39, ob_40, ob_41, ob_42, ob_43, ob_44, ob_45, ob_46, ob_47, ob_48, ob_49, ob_50, ob_51, ob_52, ob_53, ob_54, ob_55, ob_56, ob_57, ob_58, ob_59, ob_60, ob_61, ob_62, ob_63, ob_64, ob_65, jf7, aGi, aGb, aGz, aGj, leT, leF, ltT, ltF, eqT, eqF, tws_0, tws_1, tws_2, tws_3, tws_4, tws_5, tws_6, tws_7, tws_8, tws_9, tws_10, tws_11, tws_12, tws_13, tws_14, tws_15, tws_16, tws_17, tws_18, tws_19, tws_20, tws_21, tws_22, tws_23, tws_24, tws_25, tws_26, tws_27, tws_28, tws_29, tws_30, tws_31, obs_0, obs_2, obs_3, obs_4, obs_5, obs_12, obs_13, obs_14, obs_15, obs_16, obs_17, obs_18, obs_19, obs_20, obs_21, obs_22, obs_26, obs_31, obs_32, obs_33, obs_34, obs_35, obs_41, obs_42, obs_44, obs_48, obs_50, obs_51, obs_52, obs_55, obs_57, obs_58, obs_59, obs_60, obs_61, pF7i, pF7z, pF7j, aSi, aSj, aSb1, aSb24, aSb28, aSb31, ts, tg_eq, tg_ne, tg_tg, fset_eq, fset_ne, beq_tt, beq_tf, beq_ft, beq_ff, Bool.true_and, Bool.false_and, Bool.and_true, Bool.and_false, Bool.true_or, Bool.false_or, Bool.or_true, Bool.or_false, Bool.true_eq_false, Bool.false_eq_true, Bool.not_true, Bool.not_false, bZ_t, bZ_f, zI_b0, zI_b1, zI_bb, okZ_0, okZ_1, a1, isK, b1, eb]
    · simp (disch := omega) only [ts, tg_eq, e5]
    · simp (disch := omega) only [fset_ne, fset_eq]
      exact ⟨b4, b5⟩
theorem tm_looksCol {t : Int} (R : Rd g z l T q) (h0 : 0 ≤ t) (h1 : t < 4) (h2 : 0 ≤ T 2 (4 + t) ∧ T 2 (4 + t) ≤ 4) :
    TM (lookC g z l (T 2) (T 6) t q) m T h (M (d + 3) 7069 [.ref m, .int (zI t)] (tw m T h)) (fun a T' => T' 0 19 = a ∧ Rd g z l T' q ∧ 0 ≤ a ∧ a < T 2 (4 + t)) := by
  rw [X7069 _ (tw_recv rfl), E7069_0]
  obtain ⟨T1, a1, a2, a3⟩ := rd_look (d := d) (m := m) (h := h) (fr := 4 + 4 * t) (n := T 2 (4 + t)) R (by omega) (by omega) h2.1
  refine ⟨T1, ?_, a2, ?_⟩
  · simp (disch := omega) only [jc_ref, rI_int, rR_ref, rR_null, rJ_long, ckR_ref, ckR_null, ckr_ref, ckr_null, ckW_int, ckW_ref, ckW_null, cI_ok, cR_ok, cR_null, cV_ok, cJ_ok, qH_eq, qD_in, aG_ref, aS_ref, aL_ref, pF_ref, cK_ref, cK_null, zI_lit, zJ_lit, zI_add, zI_sub, zI_mul, zI_neg, zI_eq, zI_lt, zI_le, Int.reduceLT, Int.reduceLE, Int.reduceAdd, Int.reduceSub, Int.reduceMul, Int.reduceNeg, Int.reduceEq, Int.reduceNe, reduceIte, tw_0, tw_1, tw_2, tw_3, tw_4, tw_5, tw_6, tw_7, tw_8, tw_9, tw_10, tw_11, tw_12, tw_13, tw_14, tw_15, tw_16, tw_17, tw_18, tw_19, tw_20, tw_21, tw_22, tw_23, tw_24, tw_25, tw_26, tw_27, tw_28, tw_29, tw_30, tw_31, ob_0, ob_1, ob_2, ob_3, ob_4, ob_5, ob_6, ob_7, ob_8, ob_9, ob_10, ob_11, ob_12, ob_13, ob_14, ob_15, ob_16, ob_17, ob_18, ob_19, ob_20, ob_21, ob_22, ob_23, ob_24, ob_25, ob_26, ob_27, ob_28, ob_29, ob_30, ob_31, ob_32, ob_33, ob_34, ob_35, ob_36, ob_37, ob_38, ob_39, ob_40, ob_41, ob_42, ob_43, ob_44, ob_45, ob_46, ob_47, ob_48, ob_49, ob_50, ob_51, ob_52, ob_53, ob_54, ob_55, ob_56, ob_57, ob_58, ob_59, ob_60, ob_61, ob_62, ob_63, ob_64, ob_65, jf7, aGi, aGb, aGz, aGj, leT, leF, ltT, ltF, eqT, eqF, beq_tt, beq_tf, beq_ft, beq_ff, Bool.true_and, Bool.false_and, Bool.and_true, Bool.and_false, Bool.true_or, Bool.false_or, Bool.or_true, Bool.or_false, Bool.true_eq_false, Bool.false_eq_true, Bool.not_true, Bool.not_false, bZ_t, bZ_f, zI_b0, zI_b1, zI_bb, okZ_0, okZ_1, a1, okZ_b]; rfl
  · unfold lookC
    generalize lookP g z l (fun k => T 6 (4 + 4 * t + k)) (T 2 (4 + t)).toNat q = r at a3
    cases r with
    | error e => exact a3
    | ok a => exact ⟨a3.1, a3.2.1, a3.2.2.2.2⟩
end
