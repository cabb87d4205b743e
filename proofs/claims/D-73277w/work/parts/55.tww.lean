/-! the twin reads a schema's lines: ref, check, any line -/
section
variable {g : Int → Int} {z l : Int} {d m : Nat} {T : Nat → Int → Int} {h : AH} {q : Int}
theorem col_k4 {hs nm : Int → Int} {t q a : Int} (h : colP g z l hs nm t q = .ok a) : kd g z l q ≠ 4 := by
  unfold colP lookP at h
  intro e4
  rw [if_pos (by simp [isNm, e4])] at h
  cases h
theorem keyOfH_rg {hs : Int → Int} {t one two : Int} (h : hs 1 ≤ 6) : -1 ≤ keyOfH hs t one two ∧ keyOfH hs t one two < 6 := by
  unfold keyOfH
  have := fnd_rg (f := fun k => decide (hs (40 + k) = t ∧ hs (46 + k) = one ∧ hs (52 + k) = two)) (hs 1).toNat 0
  omega
theorem ref_99 {f t one two o : Int} (R : Rd g z l T q) (hB : HsB (T 3)) (f0 : 0 ≤ f) (f1 : f < 6) (hf : T 3 2 = f) (o0 : 0 ≤ o) (o1 : o < 4) (w1 : -1 ≤ two) (w2 : two < 4) (hg0 : 0 ≤ T 0 19) (hg1 : T 0 19 < 4) :
    TS (eb (colP g z l (T 3) (T 6) o q) fun a =>
      if (if two < 0 then keyOfH (T 3) o a (-1) else if T 0 19 = a then -1 else keyOfH (T 3) o (T 0 19) a) < 0 then .error (erx g z l q 3)
      else eb (onP g z l (nxt g z l q)) fun g1 => eb (onP g z l (nxt g z l (nxt g z l q))) fun g2 =>
        .ok (refW (T 3) f t one two o (if two < 0 then keyOfH (T 3) o a (-1) else if T 0 19 = a then -1 else keyOfH (T 3) o (T 0 19) a) g1 g2 (bZ (isW g z l (nxt g z l (nxt g z l (nxt g z l q))) wFULL)) (bZ (isW g z l (may g z l (nxt g z l (nxt g z l (nxt g z l q))) wFULL) wLATE)), T 6, may g z l (may g z l (nxt g z l (nxt g z l (nxt g z l q))) wFULL) wLATE)) m T h
      (G (d + 3) 7086 99 [.ref m, .int (zI f), .int (zI t), .int (zI one), .int (zI two), .int (zI o), jno, jno] [] (tw m T h)) (fun a T' => T' 3 = a.1 ∧ T' 6 = a.2.1 ∧ Rd g z l T' a.2.2) := by
  have hB' := id hB
  obtain ⟨b1, ⟨b2, b2'⟩, b3, ⟨b4, b4'⟩, -⟩ := hB'
  have hb := b3 o o0 o1
  rw [E7086_99]
  obtain ⟨T1, a1, a2, a3⟩ := rd_look (d := d + 1) (m := m) (h := h) (fr := 24 + 4 * o) (n := T 3 (4 + o)) R (by omega) (by omega) hb.1
  have hcol : lookP g z l (fun k => T 6 (24 + 4 * o + k)) (T 3 (4 + o)).toNat q = colP g z l (T 3) (T 6) o q := rfl
  rw [hcol] at a1 a3
  cases hr : colP g z l (T 3) (T 6) o q with
  | error e =>
    rw [hr] at a1 a3
    refine ⟨T1, ?_, SF.of a2, a3⟩
    simp (disch := omega) only [jc_ref, rI_int, rR_ref, rR_null, rJ_long, ckR_ref, ckR_null, ckr_ref, ckr_null, ckW_int, ckW_ref, ckW_null, cI_ok, cR_ok, cR_null, cV_ok, cJ_ok, qH_eq, qD_in, aG_ref, aS_ref, aL_ref, pF_ref, cK_ref, cK_null, zI_lit, zJ_lit, zI_add, zI_sub, zI_mul, zI_neg, zI_eq, zI_lt, zI_le, Int.reduceLT, Int.reduceLE, Int.reduceAdd, Int.reduceSub, Int.reduceMul, Int.reduceNeg, Int.reduceEq, Int.reduceNe, reduceIte, tw_0, tw_1, tw_2, tw_3, tw_4, tw_5, tw_6, tw_7, tw_8, tw_9, tw_10, tw_11, tw_12, tw_13, tw_14, tw_15, tw_16, tw_17, tw_18, tw_19, tw_20, tw_21, tw_22, tw_23, tw_24, tw_25, tw_26, tw_27, tw_28, tw_29, tw_30, tw_31, ob_0, ob_1, ob_2, ob_3, ob_4, ob_5, ob_6, ob_7, ob_8, ob_9, ob_10, ob_11, ob_12, ob_13, ob_14, ob_15, ob_16, ob_17, ob_18, ob_19, ob_20, ob_21, ob_22, ob_23, ob_24, ob_25, ob_26, ob_27, ob_28, ob_29, ob_30, ob_31, ob_32, ob_33, ob_34, ob_35, ob_36, ob_37, ob_38, ob_39, ob_40, ob_41, ob_42, ob_43, ob_44, ob_45, ob_46, ob_47, ob_48, ob_49, ob_50, ob_51, ob_52, ob_53, ob_54, ob_55, ob_56, ob_57, ob_58, ob_59, ob_60, ob_61, ob_62, ob_63, ob_64, ob_65, jf7, aGi, aGb, aGz, aGj, leT, leF, ltT, ltF, eqT, eqF, a1, isK, beq_tt, beq_tf, beq_ft, beq_ff, Bool.true_and, Bool.false_and, Bool.and_true, Bool.and_false, Bool.true_or, Bool.false_or, Bool.or_true, Bool.or_false, Bool.true_eq_false, Bool.false_eq_true, Bool.not_true, Bool.not_false, bZ_t, bZ_f, zI_b0, zI_b1, zI_bb, okZ_0, okZ_1, eb]
  | ok a =>
    rw [hr] at a1 a3
    obtain ⟨t1, R1, -, -, t4, t5⟩ := a3
    have e3 : T1 3 = T 3 := a2.1 3 (by decide)
    have e6 : T1 6 = T 6 := a2.1 6 (by decide)
    have hB1 : HsB (T1 3) := by rw [e3]; exact hB
    have hk4 := col_k4 hr
    rw [eb_ok]
    have fin : ∀ key, (if two < 0 then keyOfH (T 3) o a (-1) else if T 0 19 = a then -1 else keyOfH (T 3) o (T 0 19) a) = key → (zcI (M (d + 3) 7068 [.ref m, .int (zI (24 + 4 * o)), .int (zI (T 3 (4 + o)))] (tw m T h)) (fun x5 h6 => if x5 = 0 then (some (.inl (some (.int 0)), h6)) else (if 0 ≤ zI two then (zpI (jf (jc h6 (.ref m)) [7] 19) (fun x7 => if zI (T 0 19) = x7 then (G (d + 3) 7086 174 [.ref m, .int (zI f), .int (zI t), .int (zI one), .int (zI two), .int (zI o), .int (zI (T 0 19)), jno] [.int (-1)] h6) else (zpI (jf (jc h6 (.ref m)) [7] 19) (fun x8 => zcI (M (d + 3) 7063 [.ref m, .int (zI o), .int (zI (T 0 19)), .int x8] h6) (fun x9 h10 => G (d + 3) 7086 174 [.ref m, .int (zI f), .int (zI t), .int (zI one), .int (zI two), .int (zI o), .int (zI (T 0 19)), jno] [.int x9] h10) ()) ())) ()) else (zpI (jf (jc h6 (.ref m)) [7] 19) (fun x11 => zcI (M (d + 3) 7063 [.ref m, .int (zI o), .int x11, .int (-1)] h6) (fun x12 h13 => G (d + 3) 7086 174 [.ref m, .int (zI f), .int (zI t), .int (zI one), .int (zI two), .int (zI o), .int (zI (T 0 19)), jno] [.int x12] h13) ()) ()))) ()) = G (d + 3) 7086 174 [.ref m, .int (zI f), .int (zI t), .int (zI one), .int (zI two), .int (zI o), .int (zI (T 0 19)), jno] [.int (zI key)] (tw m T1 h) := by
      intro key hkey
      by_cases h2 : two < 0
      · rw [if_pos h2] at hkey
        have hko := tm_keyOf (d := d + 2) (m := m) (h := h) (T := T1) (t := o) (one := a) (two := -1) hB1 ⟨by omega, by omega⟩ ⟨by omega, by omega⟩ ⟨by omega, by omega⟩
        rw [e3, hkey] at hko
        simp (disch := omega) only [jc_ref, rI_int, rR_ref, rR_null, rJ_long, ckR_ref, ckR_null, ckr_ref, ckr_null, ckW_int, ckW_ref, ckW_null, cI_ok, cR_ok, cR_null, cV_ok, cJ_ok, qH_eq, qD_in, aG_ref, aS_ref, aL_ref, pF_ref, cK_ref, cK_null, zI_lit, zJ_lit, zI_add, zI_sub, zI_mul, zI_neg, zI_eq, zI_lt, zI_le, Int.reduceLT, Int.reduceLE, Int.reduceAdd, Int.reduceSub, Int.reduceMul, Int.reduceNeg, Int.reduceEq, Int.reduceNe, reduceIte, tw_0, tw_1, tw_2, tw_3, tw_4, tw_5, tw_6, tw_7, tw_8, tw_9, tw_10, tw_11, tw_12, tw_13, tw_14, tw_15, tw_16, tw_17, tw_18, tw_19, tw_20, tw_21, tw_22, tw_23, tw_24, tw_25, tw_26, tw_27, tw_28, tw_29, tw_30, tw_31, ob_0, ob_1, ob_2, ob_3, ob_4, ob_5, ob_6, ob_7, ob_8, ob_9, ob_10, ob_11, ob_12, ob_13, ob_14, ob_15, ob_16, ob_17, ob_18, ob_19, ob_20, ob_21, ob_22, ob_23, ob_24, ob_25, ob_26, ob_27, ob_28, ob_29, ob_30, ob_31, ob_32, ob_33, ob_34, ob_35, ob_36, ob_37, ob_38, ob_39, ob_40, ob_41, ob_42, ob_43, ob_44, ob_45, ob_46, ob_47, ob_48, ob_49, ob_50, ob_51, ob_52, ob_53, ob_54, ob_55, ob_56, ob_57, ob_58, ob_59, ob_60, ob_61, ob_62, ob_63, ob_64, ob_65, jf7, aGi, aGb, aGz, aGj, leT, leF, ltT, ltF, eqT, eqF, a1, isK, beq_tt, beq_tf, beq_ft, beq_ff, Bool.true_and, Bool.false_and, Bool.and_true, Bool.and_false, Bool.true_or, Bool.false_or, Bool.or_true, Bool.or_false, Bool.true_eq_false, Bool.false_eq_true, Bool.not_true, Bool.not_false, bZ_t, bZ_f, zI_b0, zI_b1, zI_bb, okZ_0, okZ_1, t1, hko]
      · rw [if_neg h2] at hkey
        by_cases h3 : T 0 19 = a
        · rw [if_pos h3] at hkey
          simp (disch := omega) only [jc_ref, rI_int, rR_ref, rR_null, rJ_long, ckR_ref, ckR_null, ckr_ref, ckr_null, ckW_int, ckW_ref, ckW_null, cI_ok, cR_ok, cR_null, cV_ok, cJ_ok, qH_eq, qD_in, aG_ref, aS_ref, aL_ref, pF_ref, cK_ref, cK_null, zI_lit, zJ_lit, zI_add, zI_sub, zI_mul, zI_neg, zI_eq, zI_lt, zI_le, Int.reduceLT, Int.reduceLE, Int.reduceAdd, Int.reduceSub, Int.reduceMul, Int.reduceNeg, Int.reduceEq, Int.reduceNe, reduceIte, tw_0, tw_1, tw_2, tw_3, tw_4, tw_5, tw_6, tw_7, tw_8, tw_9, tw_10, tw_11, tw_12, tw_13, tw_14, tw_15, tw_16, tw_17, tw_18, tw_19, tw_20, tw_21, tw_22, tw_23, tw_24, tw_25, tw_26, tw_27, tw_28, tw_29, tw_30, tw_31, ob_0, ob_1, ob_2, ob_3, ob_4, ob_5, ob_6, ob_7, ob_8, ob_9, ob_10, ob_11, ob_12, ob_13, ob_14, ob_15, ob_16, ob_17, ob_18, ob_19, ob_20, ob_21, ob_22, ob_23, ob_24, ob_25, ob_26, ob_27, ob_28, ob_29, ob_30, ob_31, ob_32, ob_33, ob_34, ob_35, ob_36, ob_37, ob_38, ob_39, ob_40, ob_41, ob_42, ob_43, ob_44, ob_45, ob_46, ob_47, ob_48, ob_49, ob_50, ob_51, ob_52, ob_53, ob_54, ob_55, ob_56, ob_57, ob_58, ob_59, ob_60, ob_61, ob_62, ob_63, ob_64, ob_65, jf7, aGi, aGb, aGz, aGj, leT, leF, ltT, ltF, eqT, eqF, a1, isK, beq_tt, beq_tf, beq_ft, beq_ff, Bool.true_and, Bool.false_and, Bool.and_true, Bool.and_false, Bool.true_or, Bool.false_or, Bool.or_true, Bool.or_false, Bool.true_eq_false, Bool.false_eq_true, Bool.not_true, Bool.not_false, bZ_t, bZ_f, zI_b0, zI_b1, zI_bb, okZ_0, okZ_1, t1, ← hkey, h3]
        · rw [if_neg h3] at hkey
          have hko := tm_keyOf (d := d + 2) (m := m) (h := h) (T := T1) (t := o) (one := T 0 19) (two := a) hB1 ⟨by omega, by omega⟩ ⟨by omega, by omega⟩ ⟨by omega, by omega⟩
          rw [e3, hkey] at hko
          simp (disch := omega) only [jc_ref, rI_int, rR_ref, rR_null, rJ_long, ckR_ref, ckR_null, ckr_ref, ckr_null, ckW_int, ckW_ref, ckW_null, cI_ok, cR_ok, cR_null, cV_ok, cJ_ok, qH_eq, qD_in, aG_ref, aS_ref, aL_ref, pF_ref, cK_ref, cK_null, zI_lit, zJ_lit, zI_add, zI_sub, zI_mul, zI_neg, zI_eq, zI_lt, zI_le, Int.reduceLT, Int.reduceLE, Int.reduceAdd, Int.reduceSub, Int.reduceMul, Int.reduceNeg, Int.reduceEq, Int.reduceNe, reduceIte, tw_0, tw_1, tw_2, tw_3, tw_4, tw_5, tw_6, tw_7, tw_8, tw_9, tw_10, tw_11, tw_12, tw_13, tw_14, tw_15, tw_16, tw_17, tw_18, tw_19, tw_20, tw_21, tw_22, tw_23, tw_24, tw_25, tw_26, tw_27, tw_28, tw_29, tw_30, tw_31, ob_0, ob_1, ob_2, ob_3, ob_4, ob_5, ob_6, ob_7, ob_8, ob_9, ob_10, ob_11, ob_12, ob_13, ob_14, ob_15, ob_16, ob_17, ob_18, ob_19, ob_20, ob_21, ob_22, ob_23, ob_24, ob_25, ob_26, ob_27, ob_28, ob_29, ob_30, ob_31, ob_32, ob_33, ob_34, ob_35, ob_36, ob_37, ob_38, ob_39, ob_40, ob_41, ob_42, ob_43, ob_44, ob_45, ob_46, ob_47, ob_48, ob_49, ob_50, ob_51, ob_52, ob_53, ob_54, ob_55, ob_56, ob_57, ob_58, ob_59, ob_60, ob_61, ob_62, ob_63, ob_64, ob_65, jf7, aGi, aGb, aGz, aGj, leT, leF, ltT, ltF, eqT, eqF, a1, isK, beq_tt, beq_tf, beq_ft, beq_ff, Bool.true_and, Bool.false_and, Bool.and_true, Bool.and_false, Bool.true_or, Bool.false_or, Bool.or_true, Bool.or_false, Bool.true_eq_false, Bool.false_eq_true, Bool.not_true, Bool.not_false, bZ_t, bZ_f, zI_b0, zI_b1, zI_bb, okZ_0, okZ_1, t1, h3, hko]
    have hrg : Rg (if two < 0 then keyOfH (T 3) o a (-1) else if T 0 19 = a then -1 else keyOfH (T 3) o (T 0 19) a) := by
      have k1 := keyOfH_rg (hs := T 3) (t := o) (one := a) (two := -1) b4'
      have k2 := keyOfH_rg (hs := T 3) (t := o) (one := T 0 19) (two := a) b4'
      unfold Rg
      split
      · omega
      · split <;> omega
    have fin := fin _ rfl
    generalize (if two < 0 then keyOfH (T 3) o a (-1) else if T 0 19 = a then -1 else keyOfH (T 3) o (T 0 19) a) = key at fin hrg ⊢
    obtain ⟨T', c1, c2, c3⟩ := ref_174 (d := d) (m := m) (h := h) (f := f) (t := t) (one := one) (two := two) (o := o) (key := key) (i6 := zI (T 0 19)) R1 f0 f1 hk4 (by rw [e3]; exact hf) hrg
    rw [e3, e6] at c1 c3
    refine ⟨T', ?_, (SF.of a2).tr c2, c3⟩
    rw [← c1, ← fin]
    simp (disch := omega) only [jc_ref, rI_int, rR_ref, rR_null, rJ_long, ckR_ref, ckR_null, ckr_ref, ckr_null, ckW_int, ckW_ref, ckW_null, cI_ok, cR_ok, cR_null, cV_ok, cJ_ok, qH_eq, qD_in, aG_ref, aS_ref, aL_ref, pF_ref, cK_ref, cK_null, zI_lit, zJ_lit, zI_add, zI_sub, zI_mul, zI_neg, zI_eq, zI_lt, zI_le, Int.reduceLT, Int.reduceLE, Int.reduceAdd, Int.reduceSub, Int.reduceMul, Int.reduceNeg, Int.reduceEq, Int.reduceNe, reduceIte, tw_0, tw_1, tw_2, tw_3, tw_4, tw_5, tw_6, tw_7, tw_8, tw_9, tw_10, tw_11, tw_12, tw_13, tw_14, tw_15, tw_16, tw_17, tw_18, tw_19, tw_20, tw_21, tw_22, tw_23, tw_24, tw_25, tw_26, tw_27, tw_28, tw_29, tw_30, tw_31, ob_0, ob_1, ob_2, ob_3, ob_4, ob_5, ob_6, ob_7, ob_8, ob_9, ob_10, ob_11, ob_12, ob_13, ob_14, ob_15, ob_16, ob_17, ob_18, ob_19, ob_20, ob_21, ob_22, ob_23, ob_24, ob_25, ob_26, ob_27, ob_28, ob_29, ob_30, ob_31, ob_32, ob_33, ob_34, ob_35, ob_36, ob_37, ob_38, ob_39, ob_40, ob_41, ob_42, ob_43, ob_44, ob_45, ob_46, ob_47, ob_48, ob_49, ob_50, ob_51, ob_52, ob_53, ob_54, ob_55, ob_56, ob_57, ob_58, ob_59, ob_60, ob_61, ob_62, ob_63, ob_64, ob_65, jf7, aGi, aGb, aGz, aGj, leT, leF, ltT, ltF, eqT, eqF]
theorem TS.of {α : Type} {r : Except Er α} {m : Nat} {T T5 : Nat → Int → Int} {h : AH} {R R' : Rz} {K : α → (Nat → Int → Int) → Prop} (he : R = R') (pf : SF T T5) (w : TS r m T5 h R' K) : TS r m T h R K := by
  obtain ⟨T', a, b, c⟩ := w
  exact ⟨T', he.trans a, pf.tr b, c⟩
theorem TM.of {α : Type} {r : Except Er α} {m : Nat} {T T5 : Nat → Int → Int} {h : AH} {R R' : Rz} {K : α → (Nat → Int → Int) → Prop} (he : R = R') (pf : PF T T5) (w : TM r m T5 h R' K) : TM r m T h R K := by
  obtain ⟨T', a, b, c⟩ := w
  exact ⟨T', he.trans a, pf.tr b, c⟩
theorem refK_lt {α : Type} {hs nm : Int → Int} {two o : Int} {K : Int × Int → Except Er α} (h2 : two < 0) : eb (refK g z l hs nm two o q) K = eb (colP g z l hs nm o q) fun a => if keyOfH hs o a (-1) < 0 then .error (erx g z l q 3) else K (keyOfH hs o a (-1), nxt g z l q) := by
  unfold refK
  simp only [if_pos h2, eb_ok]
  cases colP g z l hs nm o q with
  | error e => rfl
  | ok a => simp only [eb_ok]; split <;> rfl
theorem refK_ge {α : Type} {hs nm : Int → Int} {two o : Int} {K : Int × Int → Except Er α} (h2 : ¬ two < 0) : eb (refK g z l hs nm two o q) K = eb (colP g z l hs nm o q) fun b => eb (colP g z l hs nm o (nxt g z l q)) fun a => if (if b = a then -1 else keyOfH hs o b a) < 0 then .error (erx g z l (nxt g z l q) 3) else K (if b = a then -1 else keyOfH hs o b a, nxt g z l (nxt g z l q)) := by
  unfold refK
  simp only [if_neg h2]
  cases colP g z l hs nm o q with
  | error e => rfl
  | ok b =>
    simp only [eb_ok]
    cases colP g z l hs nm o (nxt g z l q) with
    | error e => rfl
    | ok a => simp only [eb_ok]; generalize (if b = a then (-1 : Int) else keyOfH hs o b a) = k; by_cases hk : k < 0 <;> simp only [hk, if_true, if_false] <;> rfl
theorem eb_assoc {α β γ : Type} {r : Except Er α} {f : α → Except Er β} {k : β → Except Er γ} : eb (eb r f) k = eb r fun a => eb (f a) k := by cases r <;> rfl
theorem tm_readRef (R : Rd g z l T q) (hB : HsB (T 3)) (h6 : T 3 2 < 6) :
    TS (refP g z l (T 3) (T 6) q) m T h (M (d + 6) 7086 [.ref m] (tw m T h)) (fun a T' => T' 3 = a.1 ∧ T' 6 = a.2.1 ∧ Rd g z l T' a.2.2) := by
  have hB' := id hB
  obtain ⟨b1, ⟨b2, b2'⟩, b3, ⟨b4, b4'⟩, ⟨b5, b5'⟩, -⟩ := hB'
  rw [X7086 _ (tw_recv rfl), E7086_0]
  unfold refP
  obtain ⟨T1, n1, n2, n3, R1⟩ := rd_next (d := d + 3) (m := m) (h := h) R
  have e3 : T1 3 = T 3 := n2.1 3 (by decide)
  have e6 : T1 6 = T 6 := n2.1 6 (by decide)
  obtain ⟨T2, a1, a2, a3⟩ := tm_takesTable (d := d + 1) (m := m) (h := h) R1 (by rw [e3]; exact b2) (by rw [e3]; exact b2')
  rw [e3, e6] at a1 a3
  cases hr : tabP g z l (T 3) (T 6) (nxt g z l q) with
  | error e =>
    rw [hr] at a1 a3
    refine ⟨T2, ?_, SF.of (n2.tr a2), a3⟩
    simp (disch := omega) only [jc_ref, rI_int, rR_ref, rR_null, rJ_long, ckR_ref, ckR_null, ckr_ref, ckr_null, ckW_int, ckW_ref, ckW_null, cI_ok, cR_ok, cR_null, cV_ok, cJ_ok, qH_eq, qD_in, aG_ref, aS_ref, aL_ref, pF_ref, cK_ref, cK_null, zI_lit, zJ_lit, zI_add, zI_sub, zI_mul, zI_neg, zI_eq, zI_lt, zI_le, Int.reduceLT, Int.reduceLE, Int.reduceAdd, Int.reduceSub, Int.reduceMul, Int.reduceNeg, Int.reduceEq, Int.reduceNe, reduceIte, tw_0, tw_1, tw_2, tw_3, tw_4, tw_5, tw_6, tw_7, tw_8, tw_9, tw_10, tw_11, tw_12, tw_13, tw_14, tw_15, tw_16, tw_17, tw_18, tw_19, tw_20, tw_21, tw_22, tw_23, tw_24, tw_25, tw_26, tw_27, tw_28, tw_29, tw_30, tw_31, ob_0, ob_1, ob_2, ob_3, ob_4, ob_5, ob_6, ob_7, ob_8, ob_9, ob_10, ob_11, ob_12, ob_13, ob_14, ob_15, ob_16, ob_17, ob_18, ob_19, ob_20, ob_21, ob_22, ob_23, ob_24, ob_25, ob_26, ob_27, ob_28, ob_29, ob_30, ob_31, ob_32, ob_33, ob_34, ob_35, ob_36, ob_37, ob_38, ob_39, ob_40, ob_41, ob_42, ob_43, ob_44, ob_45, ob_46, ob_47, ob_48, ob_49, ob_50, ob_51, ob_52, ob_53, ob_54, ob_55, ob_56, ob_57, ob_58, ob_59, ob_60, ob_61, ob_62, ob_63, ob_64, ob_65, jf7, aGi, aGb, aGz, aGj, leT, leF, ltT, ltF, eqT, eqF, n1, a1, isK, beq_tt, beq_tf, beq_ft, beq_ff, Bool.true_and, Bool.false_and, Bool.and_true, Bool.and_false, Bool.true_or, Bool.false_or, Bool.or_true, Bool.or_false, Bool.true_eq_false, Bool.false_eq_true, Bool.not_true, Bool.not_false, bZ_t, bZ_f, zI_b0, zI_b1, zI_bb, okZ_0, okZ_1, eb]
  | ok t =>
    rw [hr] at a1 a3
    obtain ⟨t1, R2, t3, t4⟩ := a3
    have f3 : T2 3 = T 3 := by rw [a2.1 3 (by decide), e3]
    have f6 : T2 6 = T 6 := by rw [a2.1 6 (by decide), e6]
    have hb := b3 t (by omega) (by omega)
    obtain ⟨T3, c1, c2, c3⟩ := tm_takesCols (d := d) (m := m) (h := h) (t := t) R2 (by omega) (by omega) (by rw [f3]; exact hb.1) (by rw [f3]; exact hb.2)
    rw [f3, f6] at c1 c3
    rw [eb_ok]
    cases hr2 : colsP g z l (T 3) (T 6) t (nxt g z l (nxt g z l q)) with
    | error e =>
      rw [hr2] at c1 c3
      refine ⟨T3, ?_, SF.of ((n2.tr a2).tr c2), c3⟩
      simp (disch := omega) only [jc_ref, rI_int, rR_ref, rR_null, rJ_long, ckR_ref, ckR_null, ckr_ref, ckr_null, ckW_int, ckW_ref, ckW_null, cI_ok, cR_ok, cR_null, cV_ok, cJ_ok, qH_eq, qD_in, aG_ref, aS_ref, aL_ref, pF_ref, cK_ref, cK_null, zI_lit, zJ_lit, zI_add, zI_sub, zI_mul, zI_neg, zI_eq, zI_lt, zI_le, Int.reduceLT, Int.reduceLE, Int.reduceAdd, Int.reduceSub, Int.reduceMul, Int.reduceNeg, Int.reduceEq, Int.reduceNe, reduceIte, tw_0, tw_1, tw_2, tw_3, tw_4, tw_5, tw_6, tw_7, tw_8, tw_9, tw_10, tw_11, tw_12, tw_13, tw_14, tw_15, tw_16, tw_17, tw_18, tw_19, tw_20, tw_21, tw_22, tw_23, tw_24, tw_25, tw_26, tw_27, tw_28, tw_29, tw_30, tw_31, ob_0, ob_1, ob_2, ob_3, ob_4, ob_5, ob_6, ob_7, ob_8, ob_9, ob_10, ob_11, ob_12, ob_13, ob_14, ob_15, ob_16, ob_17, ob_18, ob_19, ob_20, ob_21, ob_22, ob_23, ob_24, ob_25, ob_26, ob_27, ob_28, ob_29, ob_30, ob_31, ob_32, ob_33, ob_34, ob_35, ob_36, ob_37, ob_38, ob_39, ob_40, ob_41, ob_42, ob_43, ob_44, ob_45, ob_46, ob_47, ob_48, ob_49, ob_50, ob_51, ob_52, ob_53, ob_54, ob_55, ob_56, ob_57, ob_58, ob_59, ob_60, ob_61, ob_62, ob_63, ob_64, ob_65, jf7, aGi, aGb, aGz, aGj, leT, leF, ltT, ltF, eqT, eqF, n1, a1, isK, beq_tt, beq_tf, beq_ft, beq_ff, Bool.true_and, Bool.false_and, Bool.and_true, Bool.and_false, Bool.true_or, Bool.false_or, Bool.or_true, Bool.or_false, Bool.true_eq_false, Bool.false_eq_true, Bool.not_true, Bool.not_false, bZ_t, bZ_f, zI_b0, zI_b1, zI_bb, okZ_0, okZ_1, eb, t1, c1]
    | ok c =>
      obtain ⟨one, two, q3⟩ := c
      rw [hr2] at c1 c3
      obtain ⟨i1, i2, R3, ⟨i4, i4'⟩, i5, i6⟩ := c3
      have i1 : T3 0 21 = one := i1
      have i2 : T3 0 22 = two := i2
      have i4 : 0 ≤ one := i4
      have i5 : -1 ≤ two := i5
      have i6 : two < T 3 (4 + t) := i6
      have R3 : Rd g z l T3 q3 := R3
      have j3 : T3 3 = T 3 := by rw [c2.1 3 (by decide), f3]
      have j6 : T3 6 = T 6 := by rw [c2.1 6 (by decide), f6]
      rw [eb_ok]
      have hw := rd_isW (d := d + 4) (m := m) (h := h) R3 (w := 29807) (by omega) (by omega)
      cases hto : isW g z l q3 wTO with
      | false =>
        rw [if_pos rfl]
        refine ⟨bdT T3 1, ?_, SF.of (((n2.tr a2).tr c2).tr bd_pf), rd_fl R3 (fun _ => rfl)⟩
        simp (disch := omega) only [jc_ref, rI_int, rR_ref, rR_null, rJ_long, ckR_ref, ckR_null, ckr_ref, ckr_null, ckW_int, ckW_ref, ckW_null, cI_ok, cR_ok, cR_null, cV_ok, cJ_ok, qH_eq, qD_in, aG_ref, aS_ref, aL_ref, pF_ref, cK_ref, cK_null, zI_lit, zJ_lit, zI_add, zI_sub, zI_mul, zI_neg, zI_eq, zI_lt, zI_le, Int.reduceLT, Int.reduceLE, Int.reduceAdd, Int.reduceSub, Int.reduceMul, Int.reduceNeg, Int.reduceEq, Int.reduceNe, reduceIte, tw_0, tw_1, tw_2, tw_3, tw_4, tw_5, tw_6, tw_7, tw_8, tw_9, tw_10, tw_11, tw_12, tw_13, tw_14, tw_15, tw_16, tw_17, tw_18, tw_19, tw_20, tw_21, tw_22, tw_23, tw_24, tw_25, tw_26, tw_27, tw_28, tw_29, tw_30, tw_31, ob_0, ob_1, ob_2, ob_3, ob_4, ob_5, ob_6, ob_7, ob_8, ob_9, ob_10, ob_11, ob_12, ob_13, ob_14, ob_15, ob_16, ob_17, ob_18, ob_19, ob_20, ob_21, ob_22, ob_23, ob_24, ob_25, ob_26, ob_27, ob_28, ob_29, ob_30, ob_31, ob_32, ob_33, ob_34, ob_35, ob_36, ob_37, ob_38, ob_39, ob_40, ob_41, ob_42, ob_43, ob_44, ob_45, ob_46, ob_47, ob_48, ob_49, ob_50, ob_51, ob_52, ob_53, ob_54, ob_55, ob_56, ob_57, ob_58, ob_59, ob_60, ob_61, ob_62, ob_63, ob_64, ob_65, jf7, aGi, aGb, aGz, aGj, leT, leF, ltT, ltF, eqT, eqF, n1, a1, isK, beq_tt, beq_tf, beq_ft, beq_ff, Bool.true_and, Bool.false_and, Bool.and_true, Bool.and_false, Bool.true_or, Bool.false_or, Bool.or_true, Bool.or_false, Bool.true_eq_false, Bool.false_eq_true, Bool.not_true, Bool.not_false, bZ_t, bZ_f, zI_b0, zI_b1, zI_bb, okZ_0, okZ_1, t1, c1, i1, i2, hw, hto, tm_bad]
      | true =>
        rw [if_neg (by decide)]
        obtain ⟨T4, m1, m2, m3, R4⟩ := rd_next (d := d + 3) (m := m) (h := h) R3
        have k3 : T4 3 = T 3 := by rw [m2.1 3 (by decide), j3]
        have k6 : T4 6 = T 6 := by rw [m2.1 6 (by decide), j6]
        obtain ⟨T5, u1, u2, u3⟩ := tm_takesTable (d := d + 1) (m := m) (h := h) R4 (by rw [k3]; exact b2) (by rw [k3]; exact b2')
        rw [k3, k6] at u1 u3
        cases hr3 : tabP g z l (T 3) (T 6) (nxt g z l q3) with
        | error e =>
          rw [hr3] at u1 u3
          refine ⟨T5, ?_, SF.of ((((n2.tr a2).tr c2).tr m2).tr u2), u3⟩
          simp (disch := omega) only [jc_ref, rI_int, rR_ref, rR_null, rJ_long, ckR_ref, ckR_null, ckr_ref, ckr_null, ckW_int, ckW_ref, ckW_null, cI_ok, cR_ok, cR_null, cV_ok, cJ_ok, qH_eq, qD_in, aG_ref, aS_ref, aL_ref, pF_ref, cK_ref, cK_null, zI_lit, zJ_lit, zI_add, zI_sub, zI_mul, zI_neg, zI_eq, zI_lt, zI_le, Int.reduceLT, Int.reduceLE, Int.reduceAdd, Int.reduceSub, Int.reduceMul, Int.reduceNeg, Int.reduceEq, Int.reduceNe, reduceIte, tw_0, tw_1, tw_2, tw_3, tw_4, tw_5, tw_6, tw_7, tw_8, tw_9, tw_10, tw_11, tw_12, tw_13, tw_14, tw_15, tw_16, tw_17, tw_18, tw_19, tw_20, tw_21, tw_22, tw_23, tw_24, tw_25, tw_26, tw_27, tw_28, tw_29, tw_30, tw_31, ob_0, ob_1, ob_2, ob_3, ob_4, ob_5, ob_6, ob_7, ob_8, ob_9, ob_10, ob_11, ob_12, ob_13, ob_14, ob_15, ob_16, ob_17, ob_18, ob_19, ob_20, ob_21, ob_22, ob_23, ob_24, ob_25, ob_26, ob_27, ob_28, ob_29, ob_30, ob_31, ob_32, ob_33, ob_34, ob_35, ob_36, ob_37, ob_38, ob_39, ob_40, ob_41, ob_42, ob_43, ob_44, ob_45, ob_46, ob_47, ob_48, ob_49, ob_50, ob_51, ob_52, ob_53, ob_54, ob_55, ob_56, ob_57, ob_58, ob_59, ob_60, ob_61, ob_62, ob_63, ob_64, ob_65, jf7, aGi, aGb, aGz, aGj, leT, leF, ltT, ltF, eqT, eqF, n1, a1, isK, beq_tt, beq_tf, beq_ft, beq_ff, Bool.true_and, Bool.false_and, Bool.and_true, Bool.and_false, Bool.true_or, Bool.false_or, Bool.or_true, Bool.or_false, Bool.true_eq_false, Bool.false_eq_true, Bool.not_true, Bool.not_false, bZ_t, bZ_f, zI_b0, zI_b1, zI_bb, okZ_0, okZ_1, eb, t1, c1, i1, i2, hw, hto, m1, u1]
        | ok o =>
          rw [hr3] at u1 u3
          obtain ⟨v1, R5, v3, v4⟩ := u3
          have l3 : T5 3 = T 3 := by rw [u2.1 3 (by decide), k3]
          have l6 : T5 6 = T 6 := by rw [u2.1 6 (by decide), k6]
          have hbo := b3 o (by omega) (by omega)
          have pf5 : PF T T5 := (((n2.tr a2).tr c2).tr m2).tr u2
          rw [eb_ok]
          by_cases h2 : two < 0
          · rw [refK_lt h2]
            have w := ref_99 (d := d + 2) (m := m) (h := h) (f := T 3 2) (t := t) (one := one) (two := two) (o := o) R5 (by rw [l3]; exact hB) b5 h6 (by rw [l3]) v3 (by omega) i5 (by omega) (by omega) (by omega)
            rw [l3, l6] at w
            simp only [if_pos h2] at w
            refine TS.of ?_ (SF.of pf5) w
            simp (disch := omega) only [jc_ref, rI_int, rR_ref, rR_null, rJ_long, ckR_ref, ckR_null, ckr_ref, ckr_null, ckW_int, ckW_ref, ckW_null, cI_ok, cR_ok, cR_null, cV_ok, cJ_ok, qH_eq, qD_in, aG_ref, aS_ref, aL_ref, pF_ref, cK_ref, cK_null, zI_lit, zJ_lit, zI_add, zI_sub, zI_mul, zI_neg, zI_eq, zI_lt, zI_le, Int.reduceLT, Int.reduceLE, Int.reduceAdd, Int.reduceSub, Int.reduceMul, Int.reduceNeg, Int.reduceEq, Int.reduceNe, reduceIte, tw_0, tw_1, tw_2, tw_3, tw_4, tw_5, tw_6, tw_7, tw_8, tw_9, tw_10, tw_11, tw_12, tw_13, tw_14, tw_15, tw_16, tw_17, tw_18, tw_19, tw_20, tw_21, tw_22, tw_23, tw_24, tw_25, tw_26, tw_27, tw_28, tw_29, tw_30, tw_31, ob_0, ob_1, ob_2, ob_3, ob_4, ob_5, ob_6, ob_7, ob_8, ob_9, ob_10, ob_11, ob_12, ob_13, ob_14, ob_15, ob_16, ob_17, ob_18, ob_19, ob_20, ob_21, ob_22, ob_23, ob_24, ob_25, ob_26, ob_27, ob_28, ob_29, ob_30, ob_31, ob_32, ob_33, ob_34, ob_35, ob_36, ob_37, ob_38, ob_39, ob_40, ob_41, ob_42, ob_43, ob_44, ob_45, ob_46, ob_47, ob_48, ob_49, ob_50, ob_51, ob_52, ob_53, ob_54, ob_55, ob_56, ob_57, ob_58, ob_59, ob_60, ob_61, ob_62, ob_63, ob_64, ob_65, jf7, aGi, aGb, aGz, aGj, leT, leF, ltT, ltF, eqT, eqF, n1, a1, isK, beq_tt, beq_tf, beq_ft, beq_ff, Bool.true_and, Bool.false_and, Bool.and_true, Bool.and_false, Bool.true_or, Bool.false_or, Bool.or_true, Bool.or_false, Bool.true_eq_false, Bool.false_eq_true, Bool.not_true, Bool.not_false, bZ_t, bZ_f, zI_b0, zI_b1, zI_bb, okZ_0, okZ_1, t1, c1, i1, i2, hw, hto, m1, u1, v1]
          · rw [refK_ge h2]
            obtain ⟨T6, p1, p2, p3⟩ := tm_takesCol (d := d + 1) (m := m) (h := h) (t := o) R5 v3 (by omega) (by rw [l3]; exact hbo.1) (by rw [l3]; exact hbo.2)
            rw [l3, l6] at p1 p3
            cases hr4 : colP g z l (T 3) (T 6) o (nxt g z l (nxt g z l q3)) with
            | error e =>
              rw [hr4] at p1 p3
              refine ⟨T6, ?_, SF.of (pf5.tr p2), p3⟩
              simp (disch := omega) only [jc_ref, rI_int, rR_ref, rR_null, rJ_long, ckR_ref, ckR_null, ckr_ref, ckr_null, ckW_int, ckW_ref, ckW_null, cI_ok, cR_ok, cR_null, cV_ok, cJ_ok, qH_eq, qD_in, aG_ref, aS_ref, aL_ref, pF_ref, cK_ref, cK_null, zI_lit, zJ_lit, zI_add, zI_sub, zI_mul, zI_neg, zI_eq, zI_lt, zI_le, Int.reduceLT, Int.reduceLE, Int.reduceAdd, Int.reduceSub, Int.reduceMul, Int.reduceNeg, Int.reduceEq, Int.reduceNe, reduceIte, tw_0, tw_1, tw_2, tw_3, tw_4, tw_5, tw_6, tw_7, tw_8, tw_9, tw_10, tw_11, tw_12, tw_13, tw_14, tw_15, tw_16, tw_17, tw_18, tw_19, tw_20, tw_21, tw_22, tw_23, tw_24, tw_25, tw_26, tw_27, tw_28, tw_29, tw_30, tw_31, ob_0, ob_1, ob_2, ob_3, ob_4, ob_5, ob_6, ob_7, ob_8, ob_9, ob_10, ob_11, ob_12, ob_13, ob_14, ob_15, ob_16, ob_17, ob_18, ob_19, ob_20, ob_21, ob_22, ob_23, ob_24, ob_25, ob_26, ob_27, ob_28, ob_29, ob_30, ob_31, ob_32, ob_33, ob_34, ob_35, ob_36, ob_37, ob_38, ob_39, ob_40, ob_41, ob_42, ob_43, ob_44, ob_45, ob_46, ob_47, ob_48, ob_49, ob_50, ob_51, ob_52, ob_53, ob_54, ob_55, ob_56, ob_57, ob_58, ob_59, ob_60, ob_61, ob_62, ob_63, ob_64, ob_65, jf7, aGi, aGb, aGz, aGj, leT, leF, ltT, ltF, eqT, eqF, n1, a1, isK, beq_tt, beq_tf, beq_ft, beq_ff, Bool.true_and, Bool.false_and, Bool.and_true, Bool.and_false, Bool.true_or, Bool.false_or, Bool.or_true, Bool.or_false, Bool.true_eq_false, Bool.false_eq_true, Bool.not_true, Bool.not_false, bZ_t, bZ_f, zI_b0, zI_b1, zI_bb, okZ_0, okZ_1, eb, t1, c1, i1, i2, hw, hto, m1, u1, v1, p1]
            | ok b =>
              rw [hr4] at p1 p3
              obtain ⟨s1, R6, -, -, s4, s5⟩ := p3
              have m3' : T6 3 = T 3 := by rw [p2.1 3 (by decide), l3]
              have m6' : T6 6 = T 6 := by rw [p2.1 6 (by decide), l6]
              rw [eb_ok]
              have w := ref_99 (d := d + 2) (m := m) (h := h) (f := T 3 2) (t := t) (one := one) (two := two) (o := o) R6 (by rw [m3']; exact hB) b5 h6 (by rw [m3']) v3 (by omega) i5 (by omega) (by rw [s1]; exact s4) (by rw [s1]; omega)
              rw [m3', m6', s1] at w
              simp only [if_neg h2] at w
              refine TS.of ?_ (SF.of (pf5.tr p2)) w
              simp (disch := omega) only [jc_ref, rI_int, rR_ref, rR_null, rJ_long, ckR_ref, ckR_null, ckr_ref, ckr_null, ckW_int, ckW_ref, ckW_null, cI_ok, cR_ok, cR_null, cV_ok, cJ_ok, qH_eq, qD_in, aG_ref, aS_ref, aL_ref, pF_ref, cK_ref, cK_null, zI_lit, zJ_lit, zI_add, zI_sub, zI_mul, zI_neg, zI_eq, zI_lt, zI_le, Int.reduceLT, Int.reduceLE, Int.reduceAdd, Int.reduceSub, Int.reduceMul, Int.reduceNeg, Int.reduceEq, Int.reduceNe, reduceIte, tw_0, tw_1, tw_2, tw_3, tw_4, tw_5, tw_6, tw_7, tw_8, tw_9, tw_10, tw_11, tw_12, tw_13, tw_14, tw_15, tw_16, tw_17, tw_18, tw_19, tw_20, tw_21, tw_22, tw_23, tw_24, tw_25, tw_26, tw_27, tw_28, tw_29, tw_30, tw_31, ob_0, ob_1, ob_2, ob_3, ob_4, ob_5, ob_6, ob_7, ob_8, ob_9, ob_10, ob_11, ob_12, ob_13, ob_14, ob_15, ob_16, ob_17, ob_18, ob_19, ob_20, ob_21, ob_22, ob_23, ob_24, ob_25, ob_26, ob_27, ob_28, ob_29, ob_30, ob_31, ob_32, ob_33, ob_34, ob_35, ob_36, ob_37, ob_38, ob_39, ob_40, ob_41, ob_42, ob_43, ob_44, ob_45, ob_46, ob_47, ob_48, ob_49, ob_50, ob_51, ob_52, ob_53, ob_54, ob_55, ob_56, ob_57, ob_58, ob_59, ob_60, ob_61, ob_62, ob_63, ob_64, ob_65, jf7, aGi, aGb, aGz, aGj, leT, leF, ltT, ltF, eqT, eqF, n1, a1, isK, beq_tt, beq_tf, beq_ft, beq_ff, Bool.true_and, Bool.false_and, Bool.and_true, Bool.and_false, Bool.true_or, Bool.false_or, Bool.or_true, Bool.or_false, Bool.true_eq_false, Bool.false_eq_true, Bool.not_true, Bool.not_false, bZ_t, bZ_f, zI_b0, zI_b1, zI_bb, okZ_0, okZ_1, t1, c1, i1, i2, hw, hto, m1, u1, v1, p1]
theorem chk_188 {k t c sg : Int} (R : Rd g z l T q) (k0 : 0 ≤ k) (k1 : k < 6) (hk : T 3 3 = k) :
    ∃ T', G (d + 2) 7081 188 [.ref m, .int (zI k), .int (zI t), .int (zI c)] [] (tw m T h) = some (.inl (some (.int (zI 1))), tw m T' h) ∧ SF T T' ∧ T' 3 = fset (fset (fset (fset (T 3) (112 + k) t) (118 + k) c) (142 + k) (bZ (isW g z l q wLATE))) 3 (k + 1) ∧ T' 6 = T 6 ∧ Rd g z l T' (may g z l q wLATE) := by
  have RA : Rd g z l (tg T 3 (fset (fset (T 3) (112 + k) t) (118 + k) c)) q := R.tg (by decide) (by decide) (by decide) (by decide)
  have hw := rd_isW (d := d + 1) (m := m) (h := h) RA (w := 1818326117) (by omega) (by omega)
  have RB : Rd g z l (tg T 3 (fset (fset (fset (T 3) (112 + k) t) (118 + k) c) (142 + k) (bZ (isW g z l q wLATE)))) q := R.tg (by decide) (by decide) (by decide) (by decide)
  have hw2 := rd_isW (d := d + 1) (m := m) (h := h) RB (w := 1818326117) (by omega) (by omega)
  rw [E7081_188]
  unfold may
  cases hl : isW g z l q wLATE with
  | false =>
    rw [hl] at hw hw2 RB
    rw [if_neg (by decide)]
    refine ⟨tg T 3 (fset (fset (fset (fset (T 3) (112 + k) t) (118 + k) c) (142 + k) (bZ false)) 3 (k + 1)), ?_, SF.h, by rw [tg_eq], by rw [tg_ne (by decide)], R.tg (by decide) (by decide) (by decide) (by decide)⟩
    simp (disch := omega) only [bZ_f] at hw hw2 ⊢
    simp (disch := omega) only [jc_ref, rI_int, rR_ref, rR_null, rJ_long, ckR_ref, ckR_null, ckr_ref, ckr_null, ckW_int, ckW_ref, ckW_null, cI_ok, cR_ok, cR_null, cV_ok, cJ_ok, qH_eq, qD_in, aG_ref, aS_ref, aL_ref, pF_ref, cK_ref, cK_null, zI_lit, zJ_lit, zI_add, zI_sub, zI_mul, zI_neg, zI_eq, zI_lt, zI_le, Int.reduceLT, Int.reduceLE, Int.reduceAdd, Int.reduceSub, Int.reduceMul, Int.reduceNeg, Int.reduceEq, Int.reduceNe, reduceIte, tw_0, tw_1, tw_2, tw_3, tw_4, tw_5, tw_6, tw_7, tw_8, tw_9, tw_10, tw_11, tw_12, tw_13, tw_14, tw_15, tw_16, tw_17, tw_18, tw_19, tw_20, tw_21, tw_22, tw_23, tw_24, tw_25, tw_26, tw_27, tw_28, tw_29, tw_30, tw_31, ob_0, ob_1, ob_2, ob_3, ob_4, ob_5, ob_6, ob_7, ob_8, ob_9, ob_10, ob_11, ob_12, ob_13, ob_14, ob_15, ob_16, ob_17, ob_18, ob_19, ob_20, ob_21, ob_22, ob_23, ob_24, ob_25, ob_26, ob_27, ob_28, ob_29, ob_30, ob_31, ob_32, ob_33, ob_34, ob_35, ob_36, ob_37, ob_38, ob_39, ob_40, ob_41, ob_42, ob_43, ob_44, ob_45, ob_46, ob_47, ob_48, ob_49, ob_50, ob_51, ob_52, ob_53, ob_54, ob_55, ob_56, ob_57, ob_58, ob_59, ob_60, ob_61, ob_62, ob_63, ob_64, ob_65, jf7, aGi, aGb, aGz, aGj, leT, leF, ltT, ltF, eqT, eqF, tws_0, tws_1, tws_2, tws_3, tws_4, tws_5, tws_6, tws_7, tws_8, tws_9, tws_10, tws_11, tws_12, tws_13, tws_14, tws_15, tws_16, tws_17, tws_18, tws_19, tws_20, tws_21, tws_22, tws_23, tws_24, tws_25, tws_26, tws_27, tws_28, tws_29, tws_30, tws_31, obs_0, obs_2, obs_3, obs_4, obs_5, obs_12, obs_13, obs_14, obs_15, obs_16, obs_17, obs_18, obs_19, obs_20, obs_21, obs_22, obs_26, obs_31, obs_32, obs_33, obs_34, obs_35, obs_41, obs_42, obs_44, obs_48, obs_50, obs_51, obs_52, obs_55, obs_57, obs_58, obs_59, obs_60, obs_61, pF7i, pF7z, pF7j, aSi, aSj, aSb1, aSb24, aSb28, aSb31, ts, tg_eq, tg_ne, tg_tg, fset_eq, fset_ne, hw, hw2, beq_tt, beq_tf, beq_ft, beq_ff, Bool.true_and, Bool.false_and, Bool.and_true, Bool.and_false, Bool.true_or, Bool.false_or, Bool.or_true, Bool.or_false, Bool.true_eq_false, Bool.false_eq_true, Bool.not_true, Bool.not_false, bZ_t, bZ_f, zI_b0, zI_b1, zI_bb, okZ_0, okZ_1, E7081_232, hk]
  | true =>
    rw [hl] at hw hw2 RB
    rw [if_pos rfl]
    obtain ⟨T1, n1, n2, n3, R1⟩ := rd_next (d := d) (m := m) (h := h) RB
    have e3 : T1 3 = fset (fset (fset (T 3) (112 + k) t) (118 + k) c) (142 + k) (bZ true) := by rw [n2.1 3 (by decide), tg_eq]
    have e6 : T1 6 = T 6 := by rw [n2.1 6 (by decide), tg_ne (by decide)]
    refine ⟨tg T1 3 (fset (fset (fset (fset (T 3) (112 + k) t) (118 + k) c) (142 + k) (bZ true)) 3 (k + 1)), ?_, SF.h.tr ((SF.of n2).tr SF.h), by rw [tg_eq], by rw [tg_ne (by decide), e6], R1.tg (by decide) (by decide) (by decide) (by decide)⟩
    simp (disch := omega) only [bZ_t] at hw hw2 n1 e3 ⊢
    simp (disch := omega) only [jc_ref, rI_int, rR_ref, rR_null, rJ_long, ckR_ref, ckR_null, ckr_ref, ckr_null, ckW_int, ckW_ref, ckW_null, cI_ok, cR_ok, cR_null, cV_ok, cJ_ok, qH_eq, qD_in, aG_ref, aS_ref, aL_ref, pF_ref, cK_ref, cK_null, zI_lit, zJ_lit, zI_add, zI_sub, zI_mul, zI_neg, zI_eq, zI_lt, zI_le, Int.reduceLT, Int.reduceLE, Int.reduceAdd, Int.reduceSub, Int.reduceMul, Int.reduceNeg, Int.reduceEq, Int.reduceNe, reduceIte, tw_0, tw_1, tw_2, tw_3, tw_4, tw_5, tw_6, tw_7, tw_8, tw_9, tw_10, tw_11, tw_12, tw_13, tw_14, tw_15, tw_16, tw_17, tw_18, tw_19, tw_20, tw_21, tw_22, tw_23, tw_24, tw_25, tw_26, tw_27, tw_28, tw_29, tw_30, tw_31, ob_0, ob_1, ob_2, ob_3, ob_4, ob_5, ob_6, ob_7, ob_8, ob_9, ob_10, ob_11, ob_12, ob_13, ob_14, ob_15, ob_16, ob_17, ob_18, ob_19, ob_20, ob_21, ob_22, ob_23, ob_24, ob_25, ob_26, ob_27, ob_28, ob_29, ob_30, ob_31, ob_32, ob_33, ob_34, ob_35, ob_36, ob_37, ob_38, ob_39, ob_40, ob_41, ob_42, ob_43, ob_44, ob_45, ob_46, ob_47, ob_48, ob_49, ob_50, ob_51, ob_52, ob_53, ob_54, ob_55, ob_56, ob_57, ob_58, ob_59, ob_60, ob_61, ob_62, ob_63, ob_64, ob_65, jf7, aGi, aGb, aGz, aGj, leT, leF, ltT, ltF, eqT, eqF, tws_0, tws_1, tws_2, tws_3, tws_4, tws_5, tws_6, tws_7, tws_8, tws_9, tws_10, tws_11, tws_12, tws_13, tws_14, tws_15, tws_16, tws_17, tws_18, tws_19, tws_20, tws_21, tws_22, tws_23, tws_24, tws_25, tws_26, tws_27, tws_28, tws_29, tws_30, tws_31, obs_0, obs_2, obs_3, obs_4, obs_5, obs_12, obs_13, obs_14, obs_15, obs_16, obs_17, obs_18, obs_19, obs_20, obs_21, obs_22, obs_26, obs_31, obs_32, obs_33, obs_34, obs_35, obs_41, obs_42, obs_44, obs_48, obs_50, obs_51, obs_52, obs_55, obs_57, obs_58, obs_59, obs_60, obs_61, pF7i, pF7z, pF7j, aSi, aSj, aSb1, aSb24, aSb28, aSb31, ts, tg_eq, tg_ne, tg_tg, fset_eq, fset_ne, hw, hw2, beq_tt, beq_tf, beq_ft, beq_ff, Bool.true_and, Bool.false_and, Bool.and_true, Bool.and_false, Bool.true_or, Bool.false_or, Bool.or_true, Bool.or_false, Bool.true_eq_false, Bool.false_eq_true, Bool.not_true, Bool.not_false, bZ_t, bZ_f, zI_b0, zI_b1, zI_bb, okZ_0, okZ_1, E7081_232, hk, n1, e3]
theorem tm_readCheck (R : Rd g z l T q) (hB : HsB (T 3)) (h6 : T 3 3 < 6) :
    TS (chkP g z l (T 3) (T 6) q) m T h (M (d + 5) 7081 [.ref m] (tw m T h)) (fun a T' => T' 3 = a.1 ∧ T' 6 = a.2.1 ∧ Rd g z l T' a.2.2) := by
  obtain ⟨b1, ⟨b2, b2'⟩, b3, ⟨b4, b4'⟩, ⟨b5, b5'⟩, b7, b7'⟩ := id hB
  rw [X7081 _ (tw_recv rfl), E7081_0]
  unfold chkP
  obtain ⟨T1, n1, n2, n3, R1⟩ := rd_next (d := d + 2) (m := m) (h := h) R
  have e3 : T1 3 = T 3 := n2.1 3 (by decide)
  have e6 : T1 6 = T 6 := n2.1 6 (by decide)
  obtain ⟨T2, a1, a2, a3⟩ := tm_takesTable (d := d) (m := m) (h := h) R1 (by rw [e3]; exact b2) (by rw [e3]; exact b2')
  rw [e3, e6] at a1 a3
  cases hr : tabP g z l (T 3) (T 6) (nxt g z l q) with
  | error e =>
    rw [hr] at a1 a3
    refine ⟨T2, ?_, SF.of (n2.tr a2), a3⟩
    simp (disch := omega) only [jc_ref, rI_int, rR_ref, rR_null, rJ_long, ckR_ref, ckR_null, ckr_ref, ckr_null, ckW_int, ckW_ref, ckW_null, cI_ok, cR_ok, cR_null, cV_ok, cJ_ok, qH_eq, qD_in, aG_ref, aS_ref, aL_ref, pF_ref, cK_ref, cK_null, zI_lit, zJ_lit, zI_add, zI_sub, zI_mul, zI_neg, zI_eq, zI_lt, zI_le, Int.reduceLT, Int.reduceLE, Int.reduceAdd, Int.reduceSub, Int.reduceMul, Int.reduceNeg, Int.reduceEq, Int.reduceNe, reduceIte, tw_0, tw_1, tw_2, tw_3, tw_4, tw_5, tw_6, tw_7, tw_8, tw_9, tw_10, tw_11, tw_12, tw_13, tw_14, tw_15, tw_16, tw_17, tw_18, tw_19, tw_20, tw_21, tw_22, tw_23, tw_24, tw_25, tw_26, tw_27, tw_28, tw_29, tw_30, tw_31, ob_0, ob_1, ob_2, ob_3, ob_4, ob_5, ob_6, ob_7, ob_8, ob_9, ob_10, ob_11, ob_12, ob_13, ob_14, ob_15, ob_16, ob_17, ob_18, ob_19, ob_20, ob_21, ob_22, ob_23, ob_24, ob_25, ob_26, ob_27, ob_28, ob_29, ob_30, ob_31, ob_32, ob_33, ob_34, ob_35, ob_36, ob_37, ob_38, ob_39, ob_40, ob_41, ob_42, ob_43, ob_44, ob_45, ob_46, ob_47, ob_48, ob_49, ob_50, ob_51, ob_52, ob_53, ob_54, ob_55, ob_56, ob_57, ob_58, ob_59, ob_60, ob_61, ob_62, ob_63, ob_64, ob_65, jf7, aGi, aGb, aGz, aGj, leT, leF, ltT, ltF, eqT, eqF, n1, a1, isK, beq_tt, beq_tf, beq_ft, beq_ff, Bool.true_and, Bool.false_and, Bool.and_true, Bool.and_false, Bool.true_or, Bool.false_or, Bool.or_true, Bool.or_false, Bool.true_eq_false, Bool.false_eq_true, Bool.not_true, Bool.not_false, bZ_t, bZ_f, zI_b0, zI_b1, zI_bb, okZ_0, okZ_1, eb]
  | ok t =>
    rw [hr] at a1 a3
    obtain ⟨t1, R2, t3, t4⟩ := a3
    have f3 : T2 3 = T 3 := by rw [a2.1 3 (by decide), e3]
    have f6 : T2 6 = T 6 := by rw [a2.1 6 (by decide), e6]
    have hb := b3 t (by omega) (by omega)
    obtain ⟨T3, c1, c2, c3⟩ := tm_takesCol (d := d) (m := m) (h := h) (t := t) R2 (by omega) (by omega) (by rw [f3]; exact hb.1) (by rw [f3]; exact hb.2)
    rw [f3, f6] at c1 c3
    rw [eb_ok]
    cases hr2 : colP g z l (T 3) (T 6) t (nxt g z l (nxt g z l q)) with
    | error e =>
      rw [hr2] at c1 c3
      refine ⟨T3, ?_, SF.of ((n2.tr a2).tr c2), c3⟩
      simp (disch := omega) only [jc_ref, rI_int, rR_ref, rR_null, rJ_long, ckR_ref, ckR_null, ckr_ref, ckr_null, ckW_int, ckW_ref, ckW_null, cI_ok, cR_ok, cR_null, cV_ok, cJ_ok, qH_eq, qD_in, aG_ref, aS_ref, aL_ref, pF_ref, cK_ref, cK_null, zI_lit, zJ_lit, zI_add, zI_sub, zI_mul, zI_neg, zI_eq, zI_lt, zI_le, Int.reduceLT, Int.reduceLE, Int.reduceAdd, Int.reduceSub, Int.reduceMul, Int.reduceNeg, Int.reduceEq, Int.reduceNe, reduceIte, tw_0, tw_1, tw_2, tw_3, tw_4, tw_5, tw_6, tw_7, tw_8, tw_9, tw_10, tw_11, tw_12, tw_13, tw_14, tw_15, tw_16, tw_17, tw_18, tw_19, tw_20, tw_21, tw_22, tw_23, tw_24, tw_25, tw_26, tw_27, tw_28, tw_29, tw_30, tw_31, ob_0, ob_1, ob_2, ob_3, ob_4, ob_5, ob_6, ob_7, ob_8, ob_9, ob_10, ob_11, ob_12, ob_13, ob_14, ob_15, ob_16, ob_17, ob_18, ob_19, ob_20, ob_21, ob_22, ob_23, ob_24, ob_25, ob_26, ob_27, ob_28, ob_29, ob_30, ob_31, ob_32, ob_33, ob_34, ob_35, ob_36, ob_37, ob_38, ob_39, ob_40, ob_41, ob_42, ob_43, ob_44, ob_45, ob_46, ob_47, ob_48, ob_49, ob_50, ob_51, ob_52, ob_53, ob_54, ob_55, ob_56, ob_57, ob_58, ob_59, ob_60, ob_61, ob_62, ob_63, ob_64, ob_65, jf7, aGi, aGb, aGz, aGj, leT, leF, ltT, ltF, eqT, eqF, n1, a1, isK, beq_tt, beq_tf, beq_ft, beq_ff, Bool.true_and, Bool.false_and, Bool.and_true, Bool.and_false, Bool.true_or, Bool.false_or, Bool.or_true, Bool.or_false, Bool.true_eq_false, Bool.false_eq_true, Bool.not_true, Bool.not_false, bZ_t, bZ_f, zI_b0, zI_b1, zI_bb, okZ_0, okZ_1, eb, t1, c1]
    | ok c =>
      rw [hr2] at c1 c3
      obtain ⟨i1, R3, -, -, i4, i5⟩ := c3
      have j3 : T3 3 = T 3 := by rw [c2.1 3 (by decide), f3]
      have j6 : T3 6 = T 6 := by rw [c2.1 6 (by decide), f6]
      have pf3 : PF T T3 := (n2.tr a2).tr c2
      rw [eb_ok]
      have hk := R3.k12
      have hn15 := R3.n15
      generalize hq3 : nxt g z l (nxt g z l (nxt g z l q)) = q3 at R3 hk hn15 ⊢
      obtain ⟨r1, r2⟩ : 0 ≤ kd g z l q3 ∧ kd g z l q3 ≤ 4 := kd_rg _
      by_cases h3 : kd g z l q3 = 3
      · obtain ⟨s1, s2⟩ : 0 ≤ nmv g z q3 ∧ nmv g z q3 ≤ 255 := nmv_rg3 h3
        have hn15 := hn15 (Or.inr h3)
        have hI := tm_isIn (d := d + 3) (h := tw m T3 h) (v := nmv g z q3) (low := 60) (high := 62) ⟨by omega, by omega⟩ ⟨by omega, by omega⟩ ⟨by omega, by omega⟩
        cases hin : isInZ (nmv g z q3) 60 62 with
        | false =>
          rw [if_pos (by simp only [isThan, hin, Bool.and_false])]
          refine ⟨bdT T3 1, ?_, SF.of (pf3.tr bd_pf), rd_fl R3 (fun _ => rfl)⟩
          simp (disch := omega) only [jc_ref, rI_int, rR_ref, rR_null, rJ_long, ckR_ref, ckR_null, ckr_ref, ckr_null, ckW_int, ckW_ref, ckW_null, cI_ok, cR_ok, cR_null, cV_ok, cJ_ok, qH_eq, qD_in, aG_ref, aS_ref, aL_ref, pF_ref, cK_ref, cK_null, zI_lit, zJ_lit, zI_add, zI_sub, zI_mul, zI_neg, zI_eq, zI_lt, zI_le, Int.reduceLT, Int.reduceLE, Int.reduceAdd, Int.reduceSub, Int.reduceMul, Int.reduceNeg, Int.reduceEq, Int.reduceNe, reduceIte, tw_0, tw_1, tw_2, tw_3, tw_4, tw_5, tw_6, tw_7, tw_8, tw_9, tw_10, tw_11, tw_12, tw_13, tw_14, tw_15, tw_16, tw_17, tw_18, tw_19, tw_20, tw_21, tw_22, tw_23, tw_24, tw_25, tw_26, tw_27, tw_28, tw_29, tw_30, tw_31, ob_0, ob_1, ob_2, ob_3, ob_4, ob_5, ob_6, ob_7, ob_8, ob_9, ob_10, ob_11, ob_12, ob_13, ob_14, ob_15, ob_16, ob_17, ob_18, ob_19, ob_20, ob_21, ob_22, ob_23, ob_24, ob_25, ob_26, ob_27, ob_28, ob_29, ob_30, ob_31, ob_32, ob_33, ob_34, ob_35, ob_36, ob_37, ob_38, ob_39, ob_40, ob_41, ob_42, ob_43, ob_44, ob_45, ob_46, ob_47, ob_48, ob_49, ob_50, ob_51, ob_52, ob_53, ob_54, ob_55, ob_56, ob_57, ob_58, ob_59, ob_60, ob_61, ob_62, ob_63, ob_64, ob_65, jf7, aGi, aGb, aGz, aGj, leT, leF, ltT, ltF, eqT, eqF, n1, a1, isK, beq_tt, beq_tf, beq_ft, beq_ff, Bool.true_and, Bool.false_and, Bool.and_true, Bool.and_false, Bool.true_or, Bool.false_or, Bool.or_true, Bool.or_false, Bool.true_eq_false, Bool.false_eq_true, Bool.not_true, Bool.not_false, bZ_t, bZ_f, zI_b0, zI_b1, zI_bb, okZ_0, okZ_1, t1, c1, i1, hk, h3, hn15, hI, hin, tm_bad]
        | true =>
          rw [if_neg (by simp only [isThan, hin, h3, decide_true, beq_tt, beq_tf, beq_ft, beq_ff, Bool.true_and, Bool.false_and, Bool.and_true, Bool.and_false, Bool.true_or, Bool.false_or, Bool.or_true, Bool.or_false, Bool.true_eq_false, Bool.false_eq_true, Bool.not_true, Bool.not_false, bZ_t, bZ_f, zI_b0, zI_b1, zI_bb, okZ_0, okZ_1]; decide)]
          obtain ⟨T4, m1, m2, m3, R4⟩ := rd_next (d := d + 2) (m := m) (h := h) (R3.tg (k := 3) (f := fset (T 3) (124 + T 3 3) (nmv g z q3)) (by decide) (by decide) (by decide) (by decide))
          have k3 : T4 3 = fset (T 3) (124 + T 3 3) (nmv g z q3) := by rw [m2.1 3 (by decide), tg_eq]
          have k6 : T4 6 = T 6 := by rw [m2.1 6 (by decide), tg_ne (by decide), j6]
          have R4' : Rd g z l (tg T4 3 (fset (fset (T 3) (124 + T 3 3) (nmv g z q3)) (136 + T 3 3) (-1))) (nxt g z l q3) := R4.tg (by decide) (by decide) (by decide) (by decide)
          have hk4 := R4'.k12
          obtain ⟨u1, u2⟩ : 0 ≤ kd g z l (nxt g z l q3) ∧ kd g z l (nxt g z l q3) ≤ 4 := kd_rg _
          rw [tg_ne (by decide)] at hk4
          have pf4 : SF T (tg T4 3 (fset (fset (T 3) (124 + T 3 3) (nmv g z q3)) (136 + T 3 3) (-1))) := (SF.of pf3).tr (SF.h.tr ((SF.of m2).tr SF.h))
          unfold byP
          by_cases h2 : kd g z l (nxt g z l q3) = 2
          · rw [if_pos h2]
            obtain ⟨T5, v1, v2, v3⟩ := rd_takes (d := d + 1) (m := m) (h := h) (low := 0) (high := 99) R4' (by omega) (by omega) (by omega) (by omega)
            cases hr3 : numP g z l 0 99 (nxt g z l q3) with
            | error e =>
              rw [hr3] at v1 v3
              refine ⟨T5, ?_, pf4.tr (SF.of v2), v3⟩
              simp (disch := omega) only [jc_ref, rI_int, rR_ref, rR_null, rJ_long, ckR_ref, ckR_null, ckr_ref, ckr_null, ckW_int, ckW_ref, ckW_null, cI_ok, cR_ok, cR_null, cV_ok, cJ_ok, qH_eq, qD_in, aG_ref, aS_ref, aL_ref, pF_ref, cK_ref, cK_null, zI_lit, zJ_lit, zI_add, zI_sub, zI_mul, zI_neg, zI_eq, zI_lt, zI_le, Int.reduceLT, Int.reduceLE, Int.reduceAdd, Int.reduceSub, Int.reduceMul, Int.reduceNeg, Int.reduceEq, Int.reduceNe, reduceIte, tw_0, tw_1, tw_2, tw_3, tw_4, tw_5, tw_6, tw_7, tw_8, tw_9, tw_10, tw_11, tw_12, tw_13, tw_14, tw_15, tw_16, tw_17, tw_18, tw_19, tw_20, tw_21, tw_22, tw_23, tw_24, tw_25, tw_26, tw_27, tw_28, tw_29, tw_30, tw_31, ob_0, ob_1, ob_2, ob_3, ob_4, ob_5, ob_6, ob_7, ob_8, ob_9, ob_10, ob_11, ob_12, ob_13, ob_14, ob_15, ob_16, ob_17, ob_18, ob_19, ob_20, ob_21, ob_22, ob_23, ob_24, ob_25, ob_26, ob_27, ob_28, ob_29, ob_30, ob_31, ob_32, ob_33, ob_34, ob_35, ob_36, ob_37, ob_38, ob_39, ob_40, ob_41, ob_42, ob_43, ob_44, ob_45, ob_46, ob_47, ob_48, ob_49, ob_50, ob_51, ob_52, ob_53, ob_54, ob_55, ob_56, ob_57, ob_58, ob_59, ob_60, ob_61, ob_62, ob_63, ob_64, ob_65, jf7, aGi, aGb, aGz, aGj, leT, leF, ltT, ltF, eqT, eqF, tws_0, tws_1, tws_2, tws_3, tws_4, tws_5, tws_6, tws_7, tws_8, tws_9, tws_10, tws_11, tws_12, tws_13, tws_14, tws_15, tws_16, tws_17, tws_18, tws_19, tws_20, tws_21, tws_22, tws_23, tws_24, tws_25, tws_26, tws_27, tws_28, tws_29, tws_30, tws_31, obs_0, obs_2, obs_3, obs_4, obs_5, obs_12, obs_13, obs_14, obs_15, obs_16, obs_17, obs_18, obs_19, obs_20, obs_21, obs_22, obs_26, obs_31, obs_32, obs_33, obs_34, obs_35, obs_41, obs_42, obs_44, obs_48, obs_50, obs_51, obs_52, obs_55, obs_57, obs_58, obs_59, obs_60, obs_61, pF7i, pF7z, pF7j, aSi, aSj, aSb1, aSb24, aSb28, aSb31, ts, tg_eq, tg_ne, tg_tg, fset_eq, fset_ne, n1, a1, isK, beq_tt, beq_tf, beq_ft, beq_ff, Bool.true_and, Bool.false_and, Bool.and_true, Bool.and_false, Bool.true_or, Bool.false_or, Bool.or_true, Bool.or_false, Bool.true_eq_false, Bool.false_eq_true, Bool.not_true, Bool.not_false, bZ_t, bZ_f, zI_b0, zI_b1, zI_bb, okZ_0, okZ_1, eb, t1, c1, i1, hk, h3, hn15, hI, hin, j3, m1, k3, hk4, h2, v1]
            | ok v =>
              rw [hr3] at v1 v3
              obtain ⟨x1, R5, -, -⟩ := v3
              have l3 : T5 3 = fset (fset (T 3) (124 + T 3 3) (nmv g z q3)) (136 + T 3 3) (-1) := by rw [v2.1 3 (by decide), tg_eq]
              have l6 : T5 6 = T 6 := by rw [v2.1 6 (by decide), tg_ne (by decide), k6]
              rw [eb_ok, eb_ok]
              obtain ⟨T', y1, y2, y3, y4, y5⟩ := chk_188 (d := d + 2) (m := m) (h := h) (k := T 3 3) (t := t) (c := c) (sg := 0) (R5.tg (k := 3) (f := fset (fset (fset (T 3) (124 + T 3 3) (nmv g z q3)) (136 + T 3 3) (-1)) (130 + T 3 3) v) (by decide) (by decide) (by decide) (by decide)) b7 h6 (by rw [tg_eq]; simp (disch := omega) only [fset_ne])
              refine ⟨T', ?_, (pf4.tr (SF.of v2)).tr (SF.h.tr y2), ?_, ?_, y5⟩
              · simp (disch := omega) only [jc_ref, rI_int, rR_ref, rR_null, rJ_long, ckR_ref, ckR_null, ckr_ref, ckr_null, ckW_int, ckW_ref, ckW_null, cI_ok, cR_ok, cR_null, cV_ok, cJ_ok, qH_eq, qD_in, aG_ref, aS_ref, aL_ref, pF_ref, cK_ref, cK_null, zI_lit, zJ_lit, zI_add, zI_sub, zI_mul, zI_neg, zI_eq, zI_lt, zI_le, Int.reduceLT, Int.reduceLE, Int.reduceAdd, Int.reduceSub, Int.reduceMul, Int.reduceNeg, Int.reduceEq, Int.reduceNe, reduceIte, tw_0, tw_1, tw_2, tw_3, tw_4, tw_5, tw_6, tw_7, tw_8, tw_9, tw_10, tw_11, tw_12, tw_13, tw_14, tw_15, tw_16, tw_17, tw_18, tw_19, tw_20, tw_21, tw_22, tw_23, tw_24, tw_25, tw_26, tw_27, tw_28, tw_29, tw_30, tw_31, ob_0, ob_1, ob_2, ob_3, ob_4, ob_5, ob_6, ob_7, ob_8, ob_9, ob_10, ob_11, ob_12, ob_13, ob_14, ob_15, ob_16, ob_17, ob_18, ob_19, ob_20, ob_21, ob_22, ob_23, ob_24, ob_25, ob_26, ob_27, ob_28, ob_29, ob_30, ob_31, ob_32, ob_33, ob_34, ob_35, ob_36, ob_37, ob_38, ob_39, ob_40, ob_41, ob_42, ob_43, ob_44, ob_45, ob_46, ob_47, ob_48, ob_49, ob_50, ob_51, ob_52, ob_53, ob_54, ob_55, ob_56, ob_57, ob_58, ob_59, ob_60, ob_61, ob_62, ob_63, ob_64, ob_65, jf7, aGi, aGb, aGz, aGj, leT, leF, ltT, ltF, eqT, eqF, tws_0, tws_1, tws_2, tws_3, tws_4, tws_5, tws_6, tws_7, tws_8, tws_9, tws_10, tws_11, tws_12, tws_13, tws_14, tws_15, tws_16, tws_17, tws_18, tws_19, tws_20, tws_21, tws_22, tws_23, tws_24, tws_25, tws_26, tws_27, tws_28, tws_29, tws_30, tws_31, obs_0, obs_2, obs_3, obs_4, obs_5, obs_12, obs_13, obs_14, obs_15, obs_16, obs_17, obs_18, obs_19, obs_20, obs_21, obs_22, obs_26, obs_31, obs_32, obs_33, obs_34, obs_35, obs_41, obs_42, obs_44, obs_48, obs_50, obs_51, obs_52, obs_55, obs_57, obs_58, obs_59, obs_60, obs_61, pF7i, pF7z, pF7j, aSi, aSj, aSb1, aSb24, aSb28, aSb31, ts, tg_eq, tg_ne, tg_tg, fset_eq, fset_ne, n1, a1, isK, beq_tt, beq_tf, beq_ft, beq_ff, Bool.true_and, Bool.false_and, Bool.and_true, Bool.and_false, Bool.true_or, Bool.false_or, Bool.or_true, Bool.or_false, Bool.true_eq_false, Bool.false_eq_true, Bool.not_true, Bool.not_false, bZ_t, bZ_f, zI_b0, zI_b1, zI_bb, okZ_0, okZ_1, t1, c1, i1, hk, h3, hn15, hI, hin, j3, m1, k3, hk4, h2, v1, l3, x1]
                exact y1
              · rw [y3, tg_eq]; rfl
              · rw [y4, tg_ne (by decide), l6]
          · rw [if_neg h2]
            obtain ⟨T5, v1, v2, v3⟩ := rd_look (d := d + 2) (m := m) (h := h) (fr := 24 + 4 * t) (n := T 3 (4 + t)) R4' (by omega) (by omega) hb.1
            rw [tg_ne (show (6 : Nat) ≠ 3 by decide), k6] at v1 v3
            have hcol : lookP g z l (fun k => T 6 (24 + 4 * t + k)) (T 3 (4 + t)).toNat (nxt g z l q3) = colP g z l (T 3) (T 6) t (nxt g z l q3) := rfl
            rw [hcol] at v1 v3
            have hx4 : fset (fset (T 3) (124 + T 3 3) (nmv g z q3)) (136 + T 3 3) (-1) (4 + t) = T 3 (4 + t) := by simp (disch := omega) only [fset_ne]
            cases hr3 : colP g z l (T 3) (T 6) t (nxt g z l q3) with
            | error e =>
              rw [hr3] at v1 v3
              refine ⟨T5, ?_, pf4.tr (SF.of v2), v3⟩
              simp (disch := omega) only [jc_ref, rI_int, rR_ref, rR_null, rJ_long, ckR_ref, ckR_null, ckr_ref, ckr_null, ckW_int, ckW_ref, ckW_null, cI_ok, cR_ok, cR_null, cV_ok, cJ_ok, qH_eq, qD_in, aG_ref, aS_ref, aL_ref, pF_ref, cK_ref, cK_null, zI_lit, zJ_lit, zI_add, zI_sub, zI_mul, zI_neg, zI_eq, zI_lt, zI_le, Int.reduceLT, Int.reduceLE, Int.reduceAdd, Int.reduceSub, Int.reduceMul, Int.reduceNeg, Int.reduceEq, Int.reduceNe, reduceIte, tw_0, tw_1, tw_2, tw_3, tw_4, tw_5, tw_6, tw_7, tw_8, tw_9, tw_10, tw_11, tw_12, tw_13, tw_14, tw_15, tw_16, tw_17, tw_18, tw_19, tw_20, tw_21, tw_22, tw_23, tw_24, tw_25, tw_26, tw_27, tw_28, tw_29, tw_30, tw_31, ob_0, ob_1, ob_2, ob_3, ob_4, ob_5, ob_6, ob_7, ob_8, ob_9, ob_10, ob_11, ob_12, ob_13, ob_14, ob_15, ob_16, ob_17, ob_18, ob_19, ob_20, ob_21, ob_22, ob_23, ob_24, ob_25, ob_26, ob_27, ob_28, ob_29, ob_30, ob_31, ob_32, ob_33, ob_34, ob_35, ob_36, ob_37, ob_38, ob_39, ob_40, ob_41, ob_42, ob_43, ob_44, ob_45, ob_46, ob_47, ob_48, ob_49, ob_50, ob_51, ob_52, ob_53, ob_54, ob_55, ob_56, ob_57, ob_58, ob_59, ob_60, ob_61, ob_62, ob_63, ob_64, ob_65, jf7, aGi, aGb, aGz, aGj, leT, leF, ltT, ltF, eqT, eqF, tws_0, tws_1, tws_2, tws_3, tws_4, tws_5, tws_6, tws_7, tws_8, tws_9, tws_10, tws_11, tws_12, tws_13, tws_14, tws_15, tws_16, tws_17, tws_18, tws_19, tws_20, tws_21, tws_22, tws_23, tws_24, tws_25, tws_26, tws_27, tws_28, tws_29, tws_30, tws_31, obs_0, obs_2, obs_3, obs_4, obs_5, obs_12, obs_13, obs_14, obs_15, obs_16, obs_17, obs_18, obs_19, obs_20, obs_21, obs_22, obs_26, obs_31, obs_32, obs_33, obs_34, obs_35, obs_41, obs_42, obs_44, obs_48, obs_50, obs_51, obs_52, obs_55, obs_57, obs_58, obs_59, obs_60, obs_61, pF7i, pF7z, pF7j, aSi, aSj, aSb1, aSb24, aSb28, aSb31, ts, tg_eq, tg_ne, tg_tg, fset_eq, fset_ne, n1, a1, isK, beq_tt, beq_tf, beq_ft, beq_ff, Bool.true_and, Bool.false_and, Bool.and_true, Bool.and_false, Bool.true_or, Bool.false_or, Bool.or_true, Bool.or_false, Bool.true_eq_false, Bool.false_eq_true, Bool.not_true, Bool.not_false, bZ_t, bZ_f, zI_b0, zI_b1, zI_bb, okZ_0, okZ_1, eb, t1, c1, i1, hk, h3, hn15, hI, hin, j3, m1, k3, hk4, h2, v1]
            | ok a =>
              rw [hr3] at v1 v3
              obtain ⟨x1, R5, -, -, x4, x5⟩ := v3
              have l3 : T5 3 = fset (fset (T 3) (124 + T 3 3) (nmv g z q3)) (136 + T 3 3) (-1) := by rw [v2.1 3 (by decide), tg_eq]
              have l6 : T5 6 = T 6 := by rw [v2.1 6 (by decide), tg_ne (by decide), k6]
              rw [eb_ok]
              by_cases hac : a = c
              · rw [if_pos hac]
                refine ⟨bdT T5 3, ?_, pf4.tr (SF.of (v2.tr bd_pf)), rd_fl R5 (fun e => absurd e (col_k4 hr3))⟩
                simp (disch := omega) only [jc_ref, rI_int, rR_ref, rR_null, rJ_long, ckR_ref, ckR_null, ckr_ref, ckr_null, ckW_int, ckW_ref, ckW_null, cI_ok, cR_ok, cR_null, cV_ok, cJ_ok, qH_eq, qD_in, aG_ref, aS_ref, aL_ref, pF_ref, cK_ref, cK_null, zI_lit, zJ_lit, zI_add, zI_sub, zI_mul, zI_neg, zI_eq, zI_lt, zI_le, Int.reduceLT, Int.reduceLE, Int.reduceAdd, Int.reduceSub, Int.reduceMul, Int.reduceNeg, Int.reduceEq, Int.reduceNe, reduceIte, tw_0, tw_1, tw_2, tw_3, tw_4, tw_5, tw_6, tw_7, tw_8, tw_9, tw_10, tw_11, tw_12, tw_13, tw_14, tw_15, tw_16, tw_17, tw_18, tw_19, tw_20, tw_21, tw_22, tw_23, tw_24, tw_25, tw_26, tw_27, tw_28, tw_29, tw_30, tw_31, ob_0, ob_1, ob_2, ob_3, ob_4, ob_5, ob_6, ob_7, ob_8, ob_9, ob_10, ob_11, ob_12, ob_13, ob_14, ob_15, ob_16, ob_17, ob_18, ob_19, ob_20, ob_21, ob_22, ob_23, ob_24, ob_25, ob_26, ob_27, ob_28, ob_29, ob_30, ob_31, ob_32, ob_33, ob_34, ob_35, ob_36, ob_37, ob_38, ob_39, ob_40, ob_41, ob_42, ob_43, ob_44, ob_45, ob_46, ob_47, ob_48, ob_49, ob_50, ob_51, ob_52, ob_53, ob_54, ob_55, ob_56, ob_57, ob_58, ob_59, ob_60, ob_61, ob_62, ob_63, ob_64, ob_65, jf7, aGi, aGb, aGz, aGj, leT, leF, ltT, ltF, eqT, eqF, tws_0, tws_1, tws_2, tws_3, tws_4, tws_5, tws_6, tws_7, tws_8, tws_9, tws_10, tws_11, tws_12, tws_13, tws_14, tws_15, tws_16, tws_17, tws_18, tws_19, tws_20, tws_21, tws_22, tws_23, tws_24, tws_25, tws_26, tws_27, tws_28, tws_29, tws_30, tws_31, obs_0, obs_2, obs_3, obs_4, obs_5, obs_12, obs_13, obs_14, obs_15, obs_16, obs_17, obs_18, obs_19, obs_20, obs_21, obs_22, obs_26, obs_31, obs_32, obs_33, obs_34, obs_35, obs_41, obs_42, obs_44, obs_48, obs_50, obs_51, obs_52, obs_55, obs_57, obs_58, obs_59, obs_60, obs_61, pF7i, pF7z, pF7j, aSi, aSj, aSb1, aSb24, aSb28, aSb31, ts, tg_eq, tg_ne, tg_tg, fset_eq, fset_ne, n1, a1, isK, beq_tt, beq_tf, beq_ft, beq_ff, Bool.true_and, Bool.false_and, Bool.and_true, Bool.and_false, Bool.true_or, Bool.false_or, Bool.or_true, Bool.or_false, Bool.true_eq_false, Bool.false_eq_true, Bool.not_true, Bool.not_false, bZ_t, bZ_f, zI_b0, zI_b1, zI_bb, okZ_0, okZ_1, eb, t1, c1, i1, hk, h3, hn15, hI, hin, j3, m1, k3, hk4, h2, v1, x1, hac, tm_bad]
              · rw [if_neg hac, eb_ok]
                obtain ⟨T6, o1, o2, o3, R6⟩ := rd_next (d := d + 2) (m := m) (h := h) (R5.tg (k := 3) (f := fset (fset (fset (T 3) (124 + T 3 3) (nmv g z q3)) (136 + T 3 3) (-1)) (136 + T 3 3) a) (by decide) (by decide) (by decide) (by decide))
                have p3 : T6 3 = fset (fset (fset (T 3) (124 + T 3 3) (nmv g z q3)) (136 + T 3 3) (-1)) (136 + T 3 3) a := by rw [o2.1 3 (by decide), tg_eq]
                have p6 : T6 6 = T 6 := by rw [o2.1 6 (by decide), tg_ne (by decide), l6]
                obtain ⟨T', y1, y2, y3, y4, y5⟩ := chk_188 (d := d + 2) (m := m) (h := h) (k := T 3 3) (t := t) (c := c) (sg := 0) R6 b7 h6 (by rw [p3]; simp (disch := omega) only [fset_ne])
                refine ⟨T', ?_, (pf4.tr (SF.of v2)).tr ((SF.h.tr (SF.of o2)).tr y2), ?_, ?_, y5⟩
                · simp (disch := omega) only [jc_ref, rI_int, rR_ref, rR_null, rJ_long, ckR_ref, ckR_null, ckr_ref, ckr_null, ckW_int, ckW_ref, ckW_null, cI_ok, cR_ok, cR_null, cV_ok, cJ_ok, qH_eq, qD_in, aG_ref, aS_ref, aL_ref, pF_ref, cK_ref, cK_null, zI_lit, zJ_lit, zI_add, zI_sub, zI_mul, zI_neg, zI_eq, zI_lt, zI_le, Int.reduceLT, Int.reduceLE, Int.reduceAdd, Int.reduceSub, Int.reduceMul, Int.reduceNeg, Int.reduceEq, Int.reduceNe, reduceIte, tw_0, tw_1, tw_2, tw_3, tw_4, tw_5, tw_6, tw_7, tw_8, tw_9, tw_10, tw_11, tw_12, tw_13, tw_14, tw_15, tw_16, tw_17, tw_18, tw_19, tw_20, tw_21, tw_22, tw_23, tw_24, tw_25, tw_26, tw_27, tw_28, tw_29, tw_30, tw_31, ob_0, ob_1, ob_2, ob_3, ob_4, ob_5, ob_6, ob_7, ob_8, ob_9, ob_10, ob_11, ob_12, ob_13, ob_14, ob_15, ob_16, ob_17, ob_18, ob_19, ob_20, ob_21, ob_22, ob_23, ob_24, ob_25, ob_26, ob_27, ob_28, ob_29, ob_30, ob_31, ob_32, ob_33, ob_34, ob_35, ob_36, ob_37, ob_38, ob_39, ob_40, ob_41, ob_42, ob_43, ob_44, ob_45, ob_46, ob_47, ob_48, ob_49, ob_50, ob_51, ob_52, ob_53, ob_54, ob_55, ob_56, ob_57, ob_58, ob_59, ob_60, ob_61, ob_62, ob_63, ob_64, ob_65, jf7, aGi, aGb, aGz, aGj, leT, leF, ltT, ltF, eqT, eqF, tws_0, tws_1, tws_2, tws_3, tws_4, tws_5, tws_6, tws_7, tws_8, tws_9, tws_10, tws_11, tws_12, tws_13, tws_14, tws_15, tws_16, tws_17, tws_18, tws_19, tws_20, tws_21, tws_22, tws_23, tws_24, tws_25, tws_26, tws_27, tws_28, tws_29, tws_30, tws_31, obs_0, obs_2, obs_3, obs_4, obs_5, obs_12, obs_13, obs_14, obs_15, obs_16, obs_17, obs_18, obs_19, obs_20, obs_21, obs_22, obs_26, obs_31, obs_32, obs_33, obs_34, obs_35, obs_41, obs_42, obs_44, obs_48, obs_50, obs_51, obs_52, obs_55, obs_57, obs_58, obs_59, obs_60, obs_61, pF7i, pF7z, pF7j, aSi, aSj, aSb1, aSb24, aSb28, aSb31, ts, tg_eq, tg_ne, tg_tg, fset_eq, fset_ne, n1, a1, isK, beq_tt, beq_tf, beq_ft, beq_ff, Bool.true_and, Bool.false_and, Bool.and_true, Bool.and_false, Bool.true_or, Bool.false_or, Bool.or_true, Bool.or_false, Bool.true_eq_false, Bool.false_eq_true, Bool.not_true, Bool.not_false, bZ_t, bZ_f, zI_b0, zI_b1, zI_bb, okZ_0, okZ_1, t1, c1, i1, hk, h3, hn15, hI, hin, j3, m1, k3, hk4, h2, v1, l3, x1, hac, o1]
                  exact y1
                · rw [y3, p3]; rfl
                · rw [y4, p6]
      · rw [if_pos (by simp only [isThan, h3, decide_false, beq_tt, beq_tf, beq_ft, beq_ff, Bool.true_and, Bool.false_and, Bool.and_true, Bool.and_false, Bool.true_or, Bool.false_or, Bool.or_true, Bool.or_false, Bool.true_eq_false, Bool.false_eq_true, Bool.not_true, Bool.not_false, bZ_t, bZ_f, zI_b0, zI_b1, zI_bb, okZ_0, okZ_1])]
        refine ⟨bdT T3 1, ?_, SF.of (pf3.tr bd_pf), rd_fl R3 (fun _ => rfl)⟩
        simp (disch := omega) only [jc_ref, rI_int, rR_ref, rR_null, rJ_long, ckR_ref, ckR_null, ckr_ref, ckr_null, ckW_int, ckW_ref, ckW_null, cI_ok, cR_ok, cR_null, cV_ok, cJ_ok, qH_eq, qD_in, aG_ref, aS_ref, aL_ref, pF_ref, cK_ref, cK_null, zI_lit, zJ_lit, zI_add, zI_sub, zI_mul, zI_neg, zI_eq, zI_lt, zI_le, Int.reduceLT, Int.reduceLE, Int.reduceAdd, Int.reduceSub, Int.reduceMul, Int.reduceNeg, Int.reduceEq, Int.reduceNe, reduceIte, tw_0, tw_1, tw_2, tw_3, tw_4, tw_5, tw_6, tw_7, tw_8, tw_9, tw_10, tw_11, tw_12, tw_13, tw_14, tw_15, tw_16, tw_17, tw_18, tw_19, tw_20, tw_21, tw_22, tw_23, tw_24, tw_25, tw_26, tw_27, tw_28, tw_29, tw_30, tw_31, ob_0, ob_1, ob_2, ob_3, ob_4, ob_5, ob_6, ob_7, ob_8, ob_9, ob_10, ob_11, ob_12, ob_13, ob_14, ob_15, ob_16, ob_17, ob_18, ob_19, ob_20, ob_21, ob_22, ob_23, ob_24, ob_25, ob_26, ob_27, ob_28, ob_29, ob_30, ob_31, ob_32, ob_33, ob_34, ob_35, ob_36, ob_37, ob_38, ob_39, ob_40, ob_41, ob_42, ob_43, ob_44, ob_45, ob_46, ob_47, ob_48, ob_49, ob_50, ob_51, ob_52, ob_53, ob_54, ob_55, ob_56, ob_57, ob_58, ob_59, ob_60, ob_61, ob_62, ob_63, ob_64, ob_65, jf7, aGi, aGb, aGz, aGj, leT, leF, ltT, ltF, eqT, eqF, n1, a1, isK, beq_tt, beq_tf, beq_ft, beq_ff, Bool.true_and, Bool.false_and, Bool.and_true, Bool.and_false, Bool.true_or, Bool.false_or, Bool.or_true, Bool.or_false, Bool.true_eq_false, Bool.false_eq_true, Bool.not_true, Bool.not_false, bZ_t, bZ_f, zI_b0, zI_b1, zI_bb, okZ_0, okZ_1, t1, c1, i1, hk, h3, tm_bad]
end
