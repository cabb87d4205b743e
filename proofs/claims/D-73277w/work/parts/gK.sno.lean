/-! the twin's sentences: an operand's beginning -/
section
variable (g : Int → Int) (z l : Int) (S nm : Int → Int)
abbrev OR4 : Type := List Cd × List Int × Bool × Int
/-- an operand's beginning; dp: how deep it is -/
def opP (dp ones q : Int) : Except Er OR4 :=
  if isW g z l q wNOT = false ∧ isS g z l q 40 = false ∧ leafZ g z l S nm q < 0 then .error (erx g z l q 1) else
  if leafZ g z l S nm q = 100 then .error (erx g z l q 3) else
  if ones = 20 ∨ 8 ≤ dp then .error (erx g z l q 4) else
  if isW g z l q wNOT = true then .ok ([], [20], false, nxt g z l q) else
  if isS g z l q 40 = true then .ok ([], [23], false, nxt g z l q) else
  eb (lfP g z l S nm (leafZ g z l S nm q) (nxt g z l q)) fun c => .ok ([c.1], [], true, c.2)
end
section
variable {g : Int → Int} {z l : Int} {d m : Nat} {T : Nat → Int → Int} {h : AH} {q ones : Int} {cds : List Cd} {st b : List Int} {wh : Bool} {S nm : Int → Int}
theorem pkR_rg {w : Int} (W : ScW S) : ∀ (j : Nat) (t : Int), 0 ≤ t → t + j = S 0 → 0 ≤ pkR S nm w j t ∧ pkR S nm w j t ≤ 2048 * j
  | 0, t, _, _ => ⟨Int.le_refl _, by show (0 : Int) ≤ _; omega⟩
  | j + 1, t, t0, ht => by
    have W0 := W.1
    have co := W.2 t t0 (by omega)
    have sk := skZ_rg (S := S) (nm := nm) (w := w) (t := t) co.2
    have p0 := p8_pos (t := t)
    have i := pkR_rg (w := w) W j (t + 1) (by omega) (by omega)
    have bd : 0 ≤ (skZ S nm w t + 1) * p8 t ∧ (skZ S nm w t + 1) * p8 t ≤ 4 * p8 t := ⟨Int.mul_nonneg (by omega) (by omega), Int.mul_le_mul_of_nonneg_right (by omega) (by omega)⟩
    show 0 ≤ (skZ S nm w t + 1) * p8 t + pkR S nm w j (t + 1) ∧ (skZ S nm w t + 1) * p8 t + pkR S nm w j (t + 1) ≤ 2048 * ((j + 1 : Nat) : Int)
    omega
theorem pkZ_rg {w : Int} (W : ScW S) : 0 ≤ pkZ S nm w ∧ pkZ S nm w ≤ 8192 := by
  have W0 := W.1
  have := pkR_rg (nm := nm) (w := w) W (S 0).toNat 0 (Int.le_refl _) (by omega)
  unfold pkZ; omega
theorem leafZ_rg (W : ScW S) : -1 ≤ leafZ g z l S nm q ∧ leafZ g z l S nm q ≤ 8292 := by
  have := pkZ_rg (nm := nm) (w := wdv g z q) W
  unfold leafZ
  split; omega
  split; omega
  split; omega
  split; omega
  split; omega
  split <;> omega
/-- the rest of a leaf -/
theorem op_leaf {lf n57 : Int} (R : Rd g z l T q) (W : ScW (T 2)) (h57 : T 0 57 = n57) (c0 : 0 ≤ n57) (c1 : n57 < 45) (hlf : 0 ≤ lf ∧ lf ≤ 8292) (hn : lf ≠ 100) :
    ∃ T', (if zI 3 ≤ zI lf then (if zI lf = zI 3 then (zcI (M (d + 4) 7068 [.ref m, .int (zI 0), .int (zI (T 2 0))] (tw m T h)) (fun x15 h16 => if x15 = zI 0 then (some (.inl (some (.int (zI 0))), h16)) else (zpI (jf (jc h16 (.ref m)) [7] 19) (fun x17 => zcV (M (d + 4) 7014 [.ref m, .int (zI lf), .int (zI 0), .int x17] h16) (fun h19 => zcV (M (d + 4) 7071 [.ref m] h19) (fun h21 => some (.inl (some (.int (zI 1))), h21)) ()) ()) ())) ())
      else (if kd g z l q = 3 then (if zI (nmv g z q) < zI 60 then (zcI (M (d + 4) 7002 [.ref m, .int (zI 1)] (tw m T h)) (fun x24 h25 => okZ x24 (some (.inl (some (.int x24)), h25))) ()) else (if zI (nmv g z q) ≤ zI 62 then (zcV (M (d + 4) 7071 [.ref m] (tw m T h)) (fun h29 => zpI (jf (jc h29 (.ref m)) [7] 12) (fun x30 => if x30 = zI 2 then (zpI (jf (jc h29 (.ref m)) [7] 15) (fun x31 => if x31 ≤ zI 99 then (zpI (jf (jc h29 (.ref m)) [7] 15) (fun x32 => zcV (M (d + 4) 7014 [.ref m, .int (zI lf), .int (zI (nmv g z q)), .int x32] h29) (fun h34 => zcV (M (d + 4) 7071 [.ref m] h34) (fun h36 => some (.inl (some (.int (zI 1))), h36)) ()) ()) ()) else (zcI (M (d + 4) 7002 [.ref m, .int (zI 2)] h29) (fun x37 h38 => okZ x37 (some (.inl (some (.int x37)), h38))) ())) ()) else (zcI (M (d + 4) 7002 [.ref m, .int (zI 1)] h29) (fun x39 h40 => okZ x39 (some (.inl (some (.int x39)), h40))) ())) ()) ()) else (zcI (M (d + 4) 7002 [.ref m, .int (zI 1)] (tw m T h)) (fun x41 h42 => okZ x41 (some (.inl (some (.int x41)), h42))) ())))
        else (zcI (M (d + 4) 7002 [.ref m, .int (zI 1)] (tw m T h)) (fun x43 h44 => okZ x43 (some (.inl (some (.int x43)), h44))) ()))) else (zcV (M (d + 4) 7014 [.ref m, .int (zI lf), .int (zI 0), .int (zI 0)] (tw m T h)) (fun h46 => some (.inl (some (.int (zI 1))), h46)) ())) = some (.inl (some (.int (zI (bZ (isK (lfP g z l (T 2) (T 6) lf q)))))), tw m T' h) ∧
      match lfP g z l (T 2) (T 6) lf q with
      | .error e => Fl T' e ∧ PF T T'
      | .ok c => ∃ T1 T2, PF T T1 ∧ T2 = cdT T1 c.1.1 c.1.2.1 c.1.2.2 ∧ PF T2 T' ∧ (∀ i, 57 ≤ i → i ≤ 61 → T' 0 i = T2 0 i) ∧ Rd g z l T' c.2 := by
  unfold lfP
  have tn := fun (X : Nat → Int → Int) (R' : Rd g z l X q) => rd_next (d := d + 2) (m := m) (h := h) R'
  by_cases c3 : lf < 3
  · rw [if_pos c3, if_neg (by rw [zI_le (by omega) (by omega) (by omega) (by omega)]; omega)]
    have cw := tm_code (d := d + 3) (m := m) (h := h) (T := T) (a := lf) (b := 0) (c := 0) (by omega) (by omega)
    rw [cw, cV_ok]
    exact ⟨_, rfl, T, _, PF.rf, rfl, PF.rf, fun _ _ _ => rfl, R.cd⟩
  · rw [if_neg c3, if_pos (by rw [zI_le (by omega) (by omega) (by omega) (by omega)]; omega)]
    by_cases e3 : lf = 3
    · rw [if_pos e3, if_pos (by rw [e3])]
      subst e3
      have lk := rd_look (d := d + 2) (m := m) (h := h) R (fr := 0) (n := T 2 0) (by omega) (by have := W.1; omega) W.1.1
      cases hl : lookP g z l (fun k => T 6 (0 + k)) (T 2 0).toNat q with
      | error e =>
        rw [hl] at lk
        obtain ⟨T1, k1, k2, k3⟩ := lk
        refine ⟨T1, ?_, k3, k2⟩
        simp (disch := omega) only [jc_ref, rI_int, rR_ref, rR_null, rJ_long, ckR_ref, ckR_null, ckr_ref, ckr_null, ckW_int, ckW_ref, ckW_null, cI_ok, cR_ok, cR_null, cV_ok, cJ_ok, qH_eq, qD_in, aG_ref, aS_ref, aL_ref, pF_ref, cK_ref, cK_null, zI_lit, zJ_lit, zI_add, zI_sub, zI_mul, zI_neg, zI_eq, zI_lt, zI_le, Int.reduceLT, Int.reduceLE, Int.reduceAdd, Int.reduceSub, Int.reduceMul, Int.reduceNeg, Int.reduceEq, Int.reduceNe, reduceIte, tw_0, tw_1, tw_2, tw_3, tw_4, tw_5, tw_6, tw_7, tw_8, tw_9, tw_10, tw_11, tw_12, tw_13, tw_14, tw_15, tw_16, tw_17, tw_18, tw_19, tw_20, tw_21, tw_22, tw_23, tw_24, tw_25, tw_26, tw_27, tw_28, tw_29, tw_30, tw_31, ob_0, ob_1, ob_2, ob_3, ob_4, ob_5, ob_6, ob_7, ob_8, ob_9, ob_10, ob_11, ob_12, ob_13, ob_14, ob_15, ob_16, ob_17, ob_18, ob_19, ob_20, ob_21, ob_22, ob_23, ob_24, ob_25, ob_26, ob_27, ob_28, ob_29, ob_30, ob_31, ob_32, ob_33, ob_34, ob_35, ob_36, ob_37, ob_38, ob_39, ob_40, ob_41, ob_42, ob_43, ob_44, ob_45, ob_46, ob_47, ob_48, ob_49, ob_50, ob_51, ob_52, ob_53, ob_54, ob_55, ob_56, ob_57, ob_58, ob_59, ob_60, ob_61, ob_62, ob_63, ob_64, ob_65, jf7, aGi, aGb, aGz, aGj, leT, leF, ltT, ltF, eqT, eqF, k1, isK, beq_tt, beq_tf, beq_ft, beq_ff, Bool.true_and, Bool.false_and, Bool.and_true, Bool.and_false, Bool.true_or, Bool.false_or, Bool.or_true, Bool.or_false, Bool.true_eq_false, Bool.false_eq_true, Bool.not_true, Bool.not_false, bZ_t, bZ_f, zI_b0, zI_b1, zI_bb, okZ_0, okZ_1, eb]
      | ok a =>
        rw [hl] at lk
        obtain ⟨T1, k1, k2, k3, k4, -⟩ := lk
        have e57 : T1 0 57 = n57 := (k2.2 57 (by omega)).trans h57
        have cw := tm_code (d := d + 3) (m := m) (h := h) (T := T1) (a := 3) (b := 0) (c := a) (by omega) (by omega)
        obtain ⟨T2, n1, n2, n3, n4⟩ := rd_next (d := d + 2) (m := m) (h := h) (k4.cd (a := 3) (b := 0) (c := a))
        refine ⟨T2, ?_, T1, _, k2, rfl, n2, fun i i0 i1 => n2.2 i (by omega), n4⟩
        simp (disch := omega) only [jc_ref, rI_int, rR_ref, rR_null, rJ_long, ckR_ref, ckR_null, ckr_ref, ckr_null, ckW_int, ckW_ref, ckW_null, cI_ok, cR_ok, cR_null, cV_ok, cJ_ok, qH_eq, qD_in, aG_ref, aS_ref, aL_ref, pF_ref, cK_ref, cK_null, zI_lit, zJ_lit, zI_add, zI_sub, zI_mul, zI_neg, zI_eq, zI_lt, zI_le, Int.reduceLT, Int.reduceLE, Int.reduceAdd, Int.reduceSub, Int.reduceMul, Int.reduceNeg, Int.reduceEq, Int.reduceNe, reduceIte, tw_0, tw_1, tw_2, tw_3, tw_4, tw_5, tw_6, tw_7, tw_8, tw_9, tw_10, tw_11, tw_12, tw_13, tw_14, tw_15, tw_16, tw_17, tw_18, tw_19, tw_20, tw_21, tw_22, tw_23, tw_24, tw_25, tw_26, tw_27, tw_28, tw_29, tw_30, tw_31, ob_0, ob_1, ob_2, ob_3, ob_4, ob_5, ob_6, ob_7, ob_8, ob_9, ob_10, ob_11, ob_12, ob_13, ob_14, ob_15, ob_16, ob_17, ob_18, ob_19, ob_20, ob_21, ob_22, ob_23, ob_24, ob_25, ob_26, ob_27, ob_28, ob_29, ob_30, ob_31, ob_32, ob_33, ob_34, ob_35, ob_36, ob_37, ob_38, ob_39, ob_40, ob_41, ob_42, ob_43, ob_44, ob_45, ob_46, ob_47, ob_48, ob_49, ob_50, ob_51, ob_52, ob_53, ob_54, ob_55, ob_56, ob_57, ob_58, ob_59, ob_60, ob_61, ob_62, ob_63, ob_64, ob_65, jf7, aGi, aGb, aGz, aGj, leT, leF, ltT, ltF, eqT, eqF, k1, isK, beq_tt, beq_tf, beq_ft, beq_ff, Bool.true_and, Bool.false_and, Bool.and_true, Bool.and_false, Bool.true_or, Bool.false_or, Bool.or_true, Bool.or_false, Bool.true_eq_false, Bool.false_eq_true, Bool.not_true, Bool.not_false, bZ_t, bZ_f, zI_b0, zI_b1, zI_bb, okZ_0, okZ_1, k3, cw, n1, eb]
    · rw [if_neg e3, if_neg (by rw [zI_eq (by omega) (by omega) (by omega) (by omega)]; exact e3)]
      have bd1 := tm_bad (d := d + 3) (m := m) (h := h) (T := T) (k := 1)
      unfold isThan
      by_cases k3 : kd g z l q = 3
      · obtain ⟨v0, v1⟩ := nmv_rg3 k3
        rw [if_pos k3]
        by_cases c60 : nmv g z q < 60
        · have ef : (decide (kd g z l q = 3) && isInZ (nmv g z q) 60 62) = false := by
            unfold isInZ; rw [decide_eq_false (p := 60 ≤ nmv g z q ∧ nmv g z q ≤ 62) (by omega), Bool.and_false]
          rw [if_pos ef, if_pos (by rw [zI_lt (by omega) (by omega) (by omega) (by omega)]; exact c60)]
          refine ⟨bdT T 1, ?_, rd_fl R fun _ => rfl, bd_pf⟩
          simp (disch := omega) only [jc_ref, rI_int, rR_ref, rR_null, rJ_long, ckR_ref, ckR_null, ckr_ref, ckr_null, ckW_int, ckW_ref, ckW_null, cI_ok, cR_ok, cR_null, cV_ok, cJ_ok, qH_eq, qD_in, aG_ref, aS_ref, aL_ref, pF_ref, cK_ref, cK_null, zI_lit, zJ_lit, zI_add, zI_sub, zI_mul, zI_neg, zI_eq, zI_lt, zI_le, Int.reduceLT, Int.reduceLE, Int.reduceAdd, Int.reduceSub, Int.reduceMul, Int.reduceNeg, Int.reduceEq, Int.reduceNe, reduceIte, tw_0, tw_1, tw_2, tw_3, tw_4, tw_5, tw_6, tw_7, tw_8, tw_9, tw_10, tw_11, tw_12, tw_13, tw_14, tw_15, tw_16, tw_17, tw_18, tw_19, tw_20, tw_21, tw_22, tw_23, tw_24, tw_25, tw_26, tw_27, tw_28, tw_29, tw_30, tw_31, ob_0, ob_1, ob_2, ob_3, ob_4, ob_5, ob_6, ob_7, ob_8, ob_9, ob_10, ob_11, ob_12, ob_13, ob_14, ob_15, ob_16, ob_17, ob_18, ob_19, ob_20, ob_21, ob_22, ob_23, ob_24, ob_25, ob_26, ob_27, ob_28, ob_29, ob_30, ob_31, ob_32, ob_33, ob_34, ob_35, ob_36, ob_37, ob_38, ob_39, ob_40, ob_41, ob_42, ob_43, ob_44, ob_45, ob_46, ob_47, ob_48, ob_49, ob_50, ob_51, ob_52, ob_53, ob_54, ob_55, ob_56, ob_57, ob_58, ob_59, ob_60, ob_61, ob_62, ob_63, ob_64, ob_65, jf7, aGi, aGb, aGz, aGj, leT, leF, ltT, ltF, eqT, eqF, bd1, isK, beq_tt, beq_tf, beq_ft, beq_ff, Bool.true_and, Bool.false_and, Bool.and_true, Bool.and_false, Bool.true_or, Bool.false_or, Bool.or_true, Bool.or_false, Bool.true_eq_false, Bool.false_eq_true, Bool.not_true, Bool.not_false, bZ_t, bZ_f, zI_b0, zI_b1, zI_bb, okZ_0, okZ_1, okZ_b]
        · rw [if_neg (show ¬ zI (nmv g z q) < zI 60 by rw [zI_lt (by omega) (by omega) (by omega) (by omega)]; exact c60)]
          by_cases c62 : nmv g z q ≤ 62
          · have ef : (decide (kd g z l q = 3) && isInZ (nmv g z q) 60 62) = true := by
              unfold isInZ; rw [decide_eq_true (p := 60 ≤ nmv g z q ∧ nmv g z q ≤ 62) (by omega), decide_eq_true k3]; rfl
            rw [if_neg (show ¬ (decide (kd g z l q = 3) && isInZ (nmv g z q) 60 62) = false by rw [ef]; decide), if_pos (show zI (nmv g z q) ≤ zI 62 by rw [zI_le (by omega) (by omega) (by omega) (by omega)]; exact c62)]
            obtain ⟨T1, n1, n2, n3, n4⟩ := rd_next (d := d + 2) (m := m) (h := h) R
            have hk := n4.k12
            have kr := kd_rg (g := g) (z := z) (l := l) (nxt g z l q)
            unfold numP
            by_cases k2 : kd g z l (nxt g z l q) = 2
            · have hv := n4.n15 (Or.inl k2)
              obtain ⟨u0, u1⟩ := nmv_rg2 k2
              rw [if_neg (show ¬ kd g z l (nxt g z l q) ≠ 2 from fun x => x k2)]
              by_cases c99 : nmv g z (nxt g z l q) ≤ 99
              · have eg : isInZ (nmv g z (nxt g z l q)) 0 99 = true := by unfold isInZ; exact decide_eq_true ⟨u0, c99⟩
                rw [if_neg (show ¬ isInZ (nmv g z (nxt g z l q)) 0 99 = false by rw [eg]; decide), eb_ok]
                have e57 : T1 0 57 = n57 := (n2.2 57 (by omega)).trans h57
                have cw := tm_code (d := d + 3) (m := m) (h := h) (T := T1) (a := lf) (b := nmv g z q) (c := nmv g z (nxt g z l q)) (by omega) (by omega)
                obtain ⟨T2, o1, o2, o3, o4⟩ := rd_next (d := d + 2) (m := m) (h := h) (n4.cd (a := lf) (b := nmv g z q) (c := nmv g z (nxt g z l q)))
                refine ⟨T2, ?_, T1, _, n2, rfl, o2, fun i i0 i1 => o2.2 i (by omega), o4⟩
                simp (disch := omega) only [jc_ref, rI_int, rR_ref, rR_null, rJ_long, ckR_ref, ckR_null, ckr_ref, ckr_null, ckW_int, ckW_ref, ckW_null, cI_ok, cR_ok, cR_null, cV_ok, cJ_ok, qH_eq, qD_in, aG_ref, aS_ref, aL_ref, pF_ref, cK_ref, cK_null, zI_lit, zJ_lit, zI_add, zI_sub, zI_mul, zI_neg, zI_eq, zI_lt, zI_le, Int.reduceLT, Int.reduceLE, Int.reduceAdd, Int.reduceSub, Int.reduceMul, Int.reduceNeg, Int.reduceEq, Int.reduceNe, reduceIte, tw_0, tw_1, tw_2, tw_3, tw_4, tw_5, tw_6, tw_7, tw_8, tw_9, tw_10, tw_11, tw_12, tw_13, tw_14, tw_15, tw_16, tw_17, tw_18, tw_19, tw_20, tw_21, tw_22, tw_23, tw_24, tw_25, tw_26, tw_27, tw_28, tw_29, tw_30, tw_31, ob_0, ob_1, ob_2, ob_3, ob_4, ob_5, ob_6, ob_7, ob_8, ob_9, ob_10, ob_11, ob_12, ob_13, ob_14, ob_15, ob_16, ob_17, ob_18, ob_19, ob_20, ob_21, ob_22, ob_23, ob_24, ob_25, ob_26, ob_27, ob_28, ob_29, ob_30, ob_31, ob_32, ob_33, ob_34, ob_35, ob_36, ob_37, ob_38, ob_39, ob_40, ob_41, ob_42, ob_43, ob_44, ob_45, ob_46, ob_47, ob_48, ob_49, ob_50, ob_51, ob_52, ob_53, ob_54, ob_55, ob_56, ob_57, ob_58, ob_59, ob_60, ob_61, ob_62, ob_63, ob_64, ob_65, jf7, aGi, aGb, aGz, aGj, leT, leF, ltT, ltF, eqT, eqF, n1, hk, k2, hv, c99, cw, o1, isK, beq_tt, beq_tf, beq_ft, beq_ff, Bool.true_and, Bool.false_and, Bool.and_true, Bool.and_false, Bool.true_or, Bool.false_or, Bool.or_true, Bool.or_false, Bool.true_eq_false, Bool.false_eq_true, Bool.not_true, Bool.not_false, bZ_t, bZ_f, zI_b0, zI_b1, zI_bb, okZ_0, okZ_1]
              · have eg : isInZ (nmv g z (nxt g z l q)) 0 99 = false := by unfold isInZ; exact decide_eq_false (by omega)
                rw [if_pos eg, eb_er]
                have bd2 := tm_bad (d := d + 3) (m := m) (h := h) (T := T1) (k := 2)
                refine ⟨bdT T1 2, ?_, rd_fl n4 fun x => by omega, n2.tr bd_pf⟩
                simp (disch := omega) only [jc_ref, rI_int, rR_ref, rR_null, rJ_long, ckR_ref, ckR_null, ckr_ref, ckr_null, ckW_int, ckW_ref, ckW_null, cI_ok, cR_ok, cR_null, cV_ok, cJ_ok, qH_eq, qD_in, aG_ref, aS_ref, aL_ref, pF_ref, cK_ref, cK_null, zI_lit, zJ_lit, zI_add, zI_sub, zI_mul, zI_neg, zI_eq, zI_lt, zI_le, Int.reduceLT, Int.reduceLE, Int.reduceAdd, Int.reduceSub, Int.reduceMul, Int.reduceNeg, Int.reduceEq, Int.reduceNe, reduceIte, tw_0, tw_1, tw_2, tw_3, tw_4, tw_5, tw_6, tw_7, tw_8, tw_9, tw_10, tw_11, tw_12, tw_13, tw_14, tw_15, tw_16, tw_17, tw_18, tw_19, tw_20, tw_21, tw_22, tw_23, tw_24, tw_25, tw_26, tw_27, tw_28, tw_29, tw_30, tw_31, ob_0, ob_1, ob_2, ob_3, ob_4, ob_5, ob_6, ob_7, ob_8, ob_9, ob_10, ob_11, ob_12, ob_13, ob_14, ob_15, ob_16, ob_17, ob_18, ob_19, ob_20, ob_21, ob_22, ob_23, ob_24, ob_25, ob_26, ob_27, ob_28, ob_29, ob_30, ob_31, ob_32, ob_33, ob_34, ob_35, ob_36, ob_37, ob_38, ob_39, ob_40, ob_41, ob_42, ob_43, ob_44, ob_45, ob_46, ob_47, ob_48, ob_49, ob_50, ob_51, ob_52, ob_53, ob_54, ob_55, ob_56, ob_57, ob_58, ob_59, ob_60, ob_61, ob_62, ob_63, ob_64, ob_65, jf7, aGi, aGb, aGz, aGj, leT, leF, ltT, ltF, eqT, eqF, n1, hk, k2, hv, c99, bd2, isK, beq_tt, beq_tf, beq_ft, beq_ff, Bool.true_and, Bool.false_and, Bool.and_true, Bool.and_false, Bool.true_or, Bool.false_or, Bool.or_true, Bool.or_false, Bool.true_eq_false, Bool.false_eq_true, Bool.not_true, Bool.not_false, bZ_t, bZ_f, zI_b0, zI_b1, zI_bb, okZ_0, okZ_1, okZ_b]
            · rw [if_pos (show kd g z l (nxt g z l q) ≠ 2 from k2), eb_er]
              have bd2 := tm_bad (d := d + 3) (m := m) (h := h) (T := T1) (k := 1)
              refine ⟨bdT T1 1, ?_, rd_fl n4 fun _ => rfl, n2.tr bd_pf⟩
              simp (disch := omega) only [jc_ref, rI_int, rR_ref, rR_null, rJ_long, ckR_ref, ckR_null, ckr_ref, ckr_null, ckW_int, ckW_ref, ckW_null, cI_ok, cR_ok, cR_null, cV_ok, cJ_ok, qH_eq, qD_in, aG_ref, aS_ref, aL_ref, pF_ref, cK_ref, cK_null, zI_lit, zJ_lit, zI_add, zI_sub, zI_mul, zI_neg, zI_eq, zI_lt, zI_le, Int.reduceLT, Int.reduceLE, Int.reduceAdd, Int.reduceSub, Int.reduceMul, Int.reduceNeg, Int.reduceEq, Int.reduceNe, reduceIte, tw_0, tw_1, tw_2, tw_3, tw_4, tw_5, tw_6, tw_7, tw_8, tw_9, tw_10, tw_11, tw_12, tw_13, tw_14, tw_15, tw_16, tw_17, tw_18, tw_19, tw_20, tw_21, tw_22, tw_23, tw_24, tw_25, tw_26, tw_27, tw_28, tw_29, tw_30, tw_31, ob_0, ob_1, ob_2, ob_3, ob_4, ob_5, ob_6, ob_7, ob_8, ob_9, ob_10, ob_11, ob_12, ob_13, ob_14, ob_15, ob_16, ob_17, ob_18, ob_19, ob_20, ob_21, ob_22, ob_23, ob_24, ob_25, ob_26, ob_27, ob_28, ob_29, ob_30, ob_31, ob_32, ob_33, ob_34, ob_35, ob_36, ob_37, ob_38, ob_39, ob_40, ob_41, ob_42, ob_43, ob_44, ob_45, ob_46, ob_47, ob_48, ob_49, ob_50, ob_51, ob_52, ob_53, ob_54, ob_55, ob_56, ob_57, ob_58, ob_59, ob_60, ob_61, ob_62, ob_63, ob_64, ob_65, jf7, aGi, aGb, aGz, aGj, leT, leF, ltT, ltF, eqT, eqF, n1, hk, k2, bd2, isK, beq_tt, beq_tf, beq_ft, beq_ff, Bool.true_and, Bool.false_and, Bool.and_true, Bool.and_false, Bool.true_or, Bool.false_or, Bool.or_true, Bool.or_false, Bool.true_eq_false, Bool.false_eq_true, Bool.not_true, Bool.not_false, bZ_t, bZ_f, zI_b0, zI_b1, zI_bb, okZ_0, okZ_1, okZ_b]
          · have ef : (decide (kd g z l q = 3) && isInZ (nmv g z q) 60 62) = false := by
              unfold isInZ; rw [decide_eq_false (p := 60 ≤ nmv g z q ∧ nmv g z q ≤ 62) (by omega), Bool.and_false]
            rw [if_pos ef, if_neg (show ¬ zI (nmv g z q) ≤ zI 62 by rw [zI_le (by omega) (by omega) (by omega) (by omega)]; exact c62)]
            refine ⟨bdT T 1, ?_, rd_fl R fun _ => rfl, bd_pf⟩
            simp (disch := omega) only [jc_ref, rI_int, rR_ref, rR_null, rJ_long, ckR_ref, ckR_null, ckr_ref, ckr_null, ckW_int, ckW_ref, ckW_null, cI_ok, cR_ok, cR_null, cV_ok, cJ_ok, qH_eq, qD_in, aG_ref, aS_ref, aL_ref, pF_ref, cK_ref, cK_null, zI_lit, zJ_lit, zI_add, zI_sub, zI_mul, zI_neg, zI_eq, zI_lt, zI_le, Int.reduceLT, Int.reduceLE, Int.reduceAdd, Int.reduceSub, Int.reduceMul, Int.reduceNeg, Int.reduceEq, Int.reduceNe, reduceIte, tw_0, tw_1, tw_2, tw_3, tw_4, tw_5, tw_6, tw_7, tw_8, tw_9, tw_10, tw_11, tw_12, tw_13, tw_14, tw_15, tw_16, tw_17, tw_18, tw_19, tw_20, tw_21, tw_22, tw_23, tw_24, tw_25, tw_26, tw_27, tw_28, tw_29, tw_30, tw_31, ob_0, ob_1, ob_2, ob_3, ob_4, ob_5, ob_6, ob_7, ob_8, ob_9, ob_10, ob_11, ob_12, ob_13, ob_14, ob_15, ob_16, ob_17, ob_18, ob_19, ob_20, ob_21, ob_22, ob_23, ob_24, ob_25, ob_26, ob_27, ob_28, ob_29, ob_30, ob_31, ob_32, ob_33, ob_34, ob_35, ob_36, ob_37, ob_38, ob_39, ob_40, ob_41, ob_42, ob_43, ob_44, ob_45, ob_46, ob_47, ob_48, ob_49, ob_50, ob_51, ob_52, ob_53, ob_54, ob_55, ob_56, ob_57, ob_58, ob_59, ob_60, ob_61, ob_62, ob_63, ob_64, ob_65, jf7, aGi, aGb, aGz, aGj, leT, leF, ltT, ltF, eqT, eqF, bd1, isK, beq_tt, beq_tf, beq_ft, beq_ff, Bool.true_and, Bool.false_and, Bool.and_true, Bool.and_false, Bool.true_or, Bool.false_or, Bool.or_true, Bool.or_false, Bool.true_eq_false, Bool.false_eq_true, Bool.not_true, Bool.not_false, bZ_t, bZ_f, zI_b0, zI_b1, zI_bb, okZ_0, okZ_1, okZ_b]
      · have ef : (decide (kd g z l q = 3) && isInZ (nmv g z q) 60 62) = false := by rw [decide_eq_false k3, Bool.false_and]
        rw [if_neg k3, if_pos ef]
        refine ⟨bdT T 1, ?_, rd_fl R fun _ => rfl, bd_pf⟩
        simp (disch := omega) only [jc_ref, rI_int, rR_ref, rR_null, rJ_long, ckR_ref, ckR_null, ckr_ref, ckr_null, ckW_int, ckW_ref, ckW_null, cI_ok, cR_ok, cR_null, cV_ok, cJ_ok, qH_eq, qD_in, aG_ref, aS_ref, aL_ref, pF_ref, cK_ref, cK_null, zI_lit, zJ_lit, zI_add, zI_sub, zI_mul, zI_neg, zI_eq, zI_lt, zI_le, Int.reduceLT, Int.reduceLE, Int.reduceAdd, Int.reduceSub, Int.reduceMul, Int.reduceNeg, Int.reduceEq, Int.reduceNe, reduceIte, tw_0, tw_1, tw_2, tw_3, tw_4, tw_5, tw_6, tw_7, tw_8, tw_9, tw_10, tw_11, tw_12, tw_13, tw_14, tw_15, tw_16, tw_17, tw_18, tw_19, tw_20, tw_21, tw_22, tw_23, tw_24, tw_25, tw_26, tw_27, tw_28, tw_29, tw_30, tw_31, ob_0, ob_1, ob_2, ob_3, ob_4, ob_5, ob_6, ob_7, ob_8, ob_9, ob_10, ob_11, ob_12, ob_13, ob_14, ob_15, ob_16, ob_17, ob_18, ob_19, ob_20, ob_21, ob_22, ob_23, ob_24, ob_25, ob_26, ob_27, ob_28, ob_29, ob_30, ob_31, ob_32, ob_33, ob_34, ob_35, ob_36, ob_37, ob_38, ob_39, ob_40, ob_41, ob_42, ob_43, ob_44, ob_45, ob_46, ob_47, ob_48, ob_49, ob_50, ob_51, ob_52, ob_53, ob_54, ob_55, ob_56, ob_57, ob_58, ob_59, ob_60, ob_61, ob_62, ob_63, ob_64, ob_65, jf7, aGi, aGb, aGz, aGj, leT, leF, ltT, ltF, eqT, eqF, bd1, isK, beq_tt, beq_tf, beq_ft, beq_ff, Bool.true_and, Bool.false_and, Bool.and_true, Bool.and_false, Bool.true_or, Bool.false_or, Bool.or_true, Bool.or_false, Bool.true_eq_false, Bool.false_eq_true, Bool.not_true, Bool.not_false, bZ_t, bZ_f, zI_b0, zI_b1, zI_bb, okZ_0, okZ_1, okZ_b]
/-- from the checks on -/
theorem op_38 {i1 i2 : Bool} {lf : Int} (s : SnS g z l T cds ones st false q) (W : ScW (T 2)) (hlf : lf = leafZ g z l (T 2) (T 6) q) (h1 : i1 = isW g z l q wNOT) (h2 : i2 = isS g z l q 40) (hh : ¬ (isW g z l q wNOT = false ∧ isS g z l q 40 = false ∧ leafZ g z l (T 2) (T 6) q < 0)) :
    ∃ T', G (d + 4) 7075 38 [.ref m, .int (zI (bZ i1)), .int (zI (bZ i2)), .int (zI lf), jno] [] (tw m T h) = some (.inl (some (.int (zI (bZ (isK (opP g z l (T 2) (T 6) (dpC st) ones q)))))), tw m T' h) ∧ SnF T T' ∧ match opP g z l (T 2) (T 6) (dpC st) ones q with
      | .error e => Fl T' e
      | .ok a => SnS g z l T' (cds ++ a.1) (ones + 1) (a.2.1 ++ st) a.2.2.1 a.2.2.2 := by
  obtain ⟨R, ⟨c1, c2⟩, o, ⟨s1, s2, s3⟩, dp, w, r, n⟩ := id s
  have b0 : bZ false = 0 := rfl
  rw [b0] at n
  have lr := leafZ_rg (g := g) (z := z) (l := l) (q := q) (nm := T 6) W
  have dr : ∀ (s : List Int), 0 ≤ dpC s ∧ dpC s ≤ s.length := fun s => by
    induction s with
    | nil => exact ⟨Int.le_refl _, by show (0 : Int) ≤ _; omega⟩
    | cons v s ih => show 0 ≤ (if v = 20 ∨ v = 23 then 1 else 0) + dpC s ∧ (if v = 20 ∨ v = 23 then 1 else 0) + dpC s ≤ ((v :: s).length : Int); simp only [List.length_cons]; split <;> omega
  have dr := dr st
  have kq : kd g z l q = 4 → isW g z l q wNOT = false ∧ isS g z l q 40 = false ∧ leafZ g z l (T 2) (T 6) q < 0 := fun k4 => by
    have w0 : ∀ v, isW g z l q v = false := fun v => by unfold isW; exact decide_eq_false (by omega)
    refine ⟨w0 _, by unfold isS; exact decide_eq_false (by omega), ?_⟩
    unfold leafZ
    rw [w0, w0, w0, w0, w0, show isNm g z l q = false by unfold isNm; rw [decide_eq_false (by omega), Bool.false_and]]
    simp
  have k4n : ∀ k : Int, kd g z l q = 4 → k = 1 := fun k x => absurd (kq x) hh
  subst hlf
  unfold opP
  rw [if_neg hh]
  by_cases e100 : leafZ g z l (T 2) (T 6) q = 100
  · rw [if_pos e100]
    have bd := tm_bad (d := d + 3) (m := m) (h := h) (T := T) (k := 3)
    refine ⟨bdT T 3, ?_, SnF.pf bd_pf, rd_fl R (k4n 3)⟩
    rw [E7075_38]
    simp (disch := omega) only [jc_ref, rI_int, rR_ref, rR_null, rJ_long, ckR_ref, ckR_null, ckr_ref, ckr_null, ckW_int, ckW_ref, ckW_null, cI_ok, cR_ok, cR_null, cV_ok, cJ_ok, qH_eq, qD_in, aG_ref, aS_ref, aL_ref, pF_ref, cK_ref, cK_null, zI_lit, zJ_lit, zI_add, zI_sub, zI_mul, zI_neg, zI_eq, zI_lt, zI_le, Int.reduceLT, Int.reduceLE, Int.reduceAdd, Int.reduceSub, Int.reduceMul, Int.reduceNeg, Int.reduceEq, Int.reduceNe, reduceIte, tw_0, tw_1, tw_2, tw_3, tw_4, tw_5, tw_6, tw_7, tw_8, tw_9, tw_10, tw_11, tw_12, tw_13, tw_14, tw_15, tw_16, tw_17, tw_18, tw_19, tw_20, tw_21, tw_22, tw_23, tw_24, tw_25, tw_26, tw_27, tw_28, tw_29, tw_30, tw_31, ob_0, ob_1, ob_2, ob_3, ob_4, ob_5, ob_6, ob_7, ob_8, ob_9, ob_10, ob_11, ob_12, ob_13, ob_14, ob_15, ob_16, ob_17, ob_18, ob_19, ob_20, ob_21, ob_22, ob_23, ob_24, ob_25, ob_26, ob_27, ob_28, ob_29, ob_30, ob_31, ob_32, ob_33, ob_34, ob_35, ob_36, ob_37, ob_38, ob_39, ob_40, ob_41, ob_42, ob_43, ob_44, ob_45, ob_46, ob_47, ob_48, ob_49, ob_50, ob_51, ob_52, ob_53, ob_54, ob_55, ob_56, ob_57, ob_58, ob_59, ob_60, ob_61, ob_62, ob_63, ob_64, ob_65, jf7, aGi, aGb, aGz, aGj, leT, leF, ltT, ltF, eqT, eqF, e100, bd, isK, beq_tt, beq_tf, beq_ft, beq_ff, Bool.true_and, Bool.false_and, Bool.and_true, Bool.and_false, Bool.true_or, Bool.false_or, Bool.or_true, Bool.or_false, Bool.true_eq_false, Bool.false_eq_true, Bool.not_true, Bool.not_false, bZ_t, bZ_f, zI_b0, zI_b1, zI_bb, okZ_0, okZ_1, okZ_b]
  · rw [if_neg e100]
    by_cases e20 : ones = 20 ∨ 8 ≤ dpC st
    · rw [if_pos e20]
      have bd := tm_bad (d := d + 3) (m := m) (h := h) (T := T) (k := 4)
      refine ⟨bdT T 4, ?_, SnF.pf bd_pf, rd_fl R (k4n 4)⟩
      rw [E7075_38]
      by_cases c20 : ones = 20
      · simp (disch := omega) only [jc_ref, rI_int, rR_ref, rR_null, rJ_long, ckR_ref, ckR_null, ckr_ref, ckr_null, ckW_int, ckW_ref, ckW_null, cI_ok, cR_ok, cR_null, cV_ok, cJ_ok, qH_eq, qD_in, aG_ref, aS_ref, aL_ref, pF_ref, cK_ref, cK_null, zI_lit, zJ_lit, zI_add, zI_sub, zI_mul, zI_neg, zI_eq, zI_lt, zI_le, Int.reduceLT, Int.reduceLE, Int.reduceAdd, Int.reduceSub, Int.reduceMul, Int.reduceNeg, Int.reduceEq, Int.reduceNe, reduceIte, tw_0, tw_1, tw_2, tw_3, tw_4, tw_5, tw_6, tw_7, tw_8, tw_9, tw_10, tw_11, tw_12, tw_13, tw_14, tw_15, tw_16, tw_17, tw_18, tw_19, tw_20, tw_21, tw_22, tw_23, tw_24, tw_25, tw_26, tw_27, tw_28, tw_29, tw_30, tw_31, ob_0, ob_1, ob_2, ob_3, ob_4, ob_5, ob_6, ob_7, ob_8, ob_9, ob_10, ob_11, ob_12, ob_13, ob_14, ob_15, ob_16, ob_17, ob_18, ob_19, ob_20, ob_21, ob_22, ob_23, ob_24, ob_25, ob_26, ob_27, ob_28, ob_29, ob_30, ob_31, ob_32, ob_33, ob_34, ob_35, ob_36, ob_37, ob_38, ob_39, ob_40, ob_41, ob_42, ob_43, ob_44, ob_45, ob_46, ob_47, ob_48, ob_49, ob_50, ob_51, ob_52, ob_53, ob_54, ob_55, ob_56, ob_57, ob_58, ob_59, ob_60, ob_61, ob_62, ob_63, ob_64, ob_65, jf7, aGi, aGb, aGz, aGj, leT, leF, ltT, ltF, eqT, eqF, e100, o, c20, bd, isK, beq_tt, beq_tf, beq_ft, beq_ff, Bool.true_and, Bool.false_and, Bool.and_true, Bool.and_false, Bool.true_or, Bool.false_or, Bool.or_true, Bool.or_false, Bool.true_eq_false, Bool.false_eq_true, Bool.not_true, Bool.not_false, bZ_t, bZ_f, zI_b0, zI_b1, zI_bb, okZ_0, okZ_1, okZ_b]
      · have : ¬ T 0 60 ≤ 8 := by omega
        simp (disch := omega) only [jc_ref, rI_int, rR_ref, rR_null, rJ_long, ckR_ref, ckR_null, ckr_ref, ckr_null, ckW_int, ckW_ref, ckW_null, cI_ok, cR_ok, cR_null, cV_ok, cJ_ok, qH_eq, qD_in, aG_ref, aS_ref, aL_ref, pF_ref, cK_ref, cK_null, zI_lit, zJ_lit, zI_add, zI_sub, zI_mul, zI_neg, zI_eq, zI_lt, zI_le, Int.reduceLT, Int.reduceLE, Int.reduceAdd, Int.reduceSub, Int.reduceMul, Int.reduceNeg, Int.reduceEq, Int.reduceNe, reduceIte, tw_0, tw_1, tw_2, tw_3, tw_4, tw_5, tw_6, tw_7, tw_8, tw_9, tw_10, tw_11, tw_12, tw_13, tw_14, tw_15, tw_16, tw_17, tw_18, tw_19, tw_20, tw_21, tw_22, tw_23, tw_24, tw_25, tw_26, tw_27, tw_28, tw_29, tw_30, tw_31, ob_0, ob_1, ob_2, ob_3, ob_4, ob_5, ob_6, ob_7, ob_8, ob_9, ob_10, ob_11, ob_12, ob_13, ob_14, ob_15, ob_16, ob_17, ob_18, ob_19, ob_20, ob_21, ob_22, ob_23, ob_24, ob_25, ob_26, ob_27, ob_28, ob_29, ob_30, ob_31, ob_32, ob_33, ob_34, ob_35, ob_36, ob_37, ob_38, ob_39, ob_40, ob_41, ob_42, ob_43, ob_44, ob_45, ob_46, ob_47, ob_48, ob_49, ob_50, ob_51, ob_52, ob_53, ob_54, ob_55, ob_56, ob_57, ob_58, ob_59, ob_60, ob_61, ob_62, ob_63, ob_64, ob_65, jf7, aGi, aGb, aGz, aGj, leT, leF, ltT, ltF, eqT, eqF, e100, o, c20, this, bd, isK, beq_tt, beq_tf, beq_ft, beq_ff, Bool.true_and, Bool.false_and, Bool.and_true, Bool.and_false, Bool.true_or, Bool.false_or, Bool.or_true, Bool.or_false, Bool.true_eq_false, Bool.false_eq_true, Bool.not_true, Bool.not_false, bZ_t, bZ_f, zI_b0, zI_b1, zI_bb, okZ_0, okZ_1, okZ_b]
    · rw [if_neg e20]
      have c20 : ¬ ones = 20 := fun x => e20 (Or.inl x)
      have c60 : T 0 60 ≤ 8 := by omega
      obtain ⟨T1, n1, n2, n3, n4⟩ := rd_next (d := d + 2) (m := m) (h := h) (R.st (i := 58) (v := ones + 1) (by omega))
      have f57 : T1 0 57 = cds.length := by rw [n2.2 57 (by omega), ts_eq, fset_ne (by decide), c1]
      have f58 : T1 0 58 = ones + 1 := by rw [n2.2 58 (by omega), ts_eq, fset_eq]
      have f59 : T1 0 59 = st.length := by rw [n2.2 59 (by omega), ts_eq, fset_ne (by decide), s1]
      have f60 : T1 0 60 = 1 + dpC st := by rw [n2.2 60 (by omega), ts_eq, fset_ne (by decide), dp]
      have f61 : T1 0 61 = bZ false := by rw [n2.2 61 (by omega), ts_eq, fset_ne (by decide), w]
      have f4 : T1 4 = T 4 := by rw [n2.1 4 (by decide), ts_ne (by decide)]
      have f27 : T1 27 = T 27 := by rw [n2.1 27 (by decide), ts_ne (by decide)]
      have f2 : T1 2 = T 2 := by rw [n2.1 2 (by decide), ts_ne (by decide)]
      have f6 : T1 6 = T 6 := by rw [n2.1 6 (by decide), ts_ne (by decide)]
      have F1 : SnF T T1 := (SnF.f (by omega)).tr (SnF.pf n2)
      have S1 : SnS g z l T1 cds (ones + 1) st false (nxt g z l q) := ⟨n4, ⟨f57, by rw [f4]; exact c2⟩, f58, ⟨f59, by rw [f27]; exact s2, s3⟩, f60, f61, by omega, by rw [b0]; omega⟩
      have S0 : SnS g z l T1 cds ones st false (nxt g z l q) → True := fun _ => trivial
      have pu : ∀ v, (v = 20 ∨ v = 23) → SnS g z l (ts (ts (ts T1 27 st.length v) 0 59 (st.length + 1)) 0 60 (1 + (1 + dpC st))) cds (ones + 1) (v :: st) false (nxt g z l q) := fun v hv => by
        obtain ⟨-, c, -, ⟨s1, s2, s3⟩, dp, w, r, n⟩ := S1
        refine ⟨((n4.tg (k := 27) (by decide) (by decide) (by decide) (by decide)).st (by omega)).st (by omega), ⟨?_, c.2⟩, ?_, ⟨?_, ⟨?_, ?_⟩, ?_⟩, ?_, ?_, by omega, ?_⟩
        · simp (disch := omega) only [ts, tg_eq, tg_ne, fset_ne]; exact c.1
        · simp (disch := omega) only [ts, tg_eq, tg_ne, fset_ne]; exact f58
        · simp (disch := omega) only [ts, tg_eq, tg_ne, fset_ne, fset_eq]; simp
        · show fset (T1 27) st.length v st.length = v
          rw [fset_eq]
        · exact s2.up (Int.le_refl _)
        · intro u hu
          rcases List.mem_cons.mp hu with rfl | hu
          · omega
          · exact s3 u hu
        · simp (disch := omega) only [ts, tg_eq, tg_ne, fset_ne, fset_eq]
          show _ = 1 + ((if v = 20 ∨ v = 23 then 1 else 0) + dpC st)
          rw [if_pos hv]
        · simp (disch := omega) only [ts, tg_eq, tg_ne, fset_ne]; exact w
        · simp only [List.length_cons]; rw [b0] at n ⊢; omega
      have F2 : ∀ v, SnF T (ts (ts (ts T1 27 st.length v) 0 59 (st.length + 1)) 0 60 (1 + (1 + dpC st))) := fun v => F1.tr (((SnF.a (Or.inr rfl)).tr (SnF.f (by omega))).tr (SnF.f (by omega)))
      subst h1; subst h2
      cases e1 : isW g z l q wNOT with
      | true =>
        rw [if_pos rfl]
        refine ⟨_, ?_, F2 20, by show SnS g z l _ (cds ++ []) (ones + 1) ([20] ++ st) false (nxt g z l q); rw [List.append_nil]; exact pu 20 (Or.inl rfl)⟩
        have rl : leafZ g z l (T 2) (T 6) q < 100000 := by omega
        rw [E7075_38]
        have hx : 0 ≤ (st.length : Int) ∧ (st.length : Int) < 45 := by omega
        generalize (st.length : Int) = x at f59 s1 n hx ⊢
        simp (disch := omega) only [jc_ref, rI_int, rR_ref, rR_null, rJ_long, ckR_ref, ckR_null, ckr_ref, ckr_null, ckW_int, ckW_ref, ckW_null, cI_ok, cR_ok, cR_null, cV_ok, cJ_ok, qH_eq, qD_in, aG_ref, aS_ref, aL_ref, pF_ref, cK_ref, cK_null, zI_lit, zJ_lit, zI_add, zI_sub, zI_mul, zI_neg, zI_eq, zI_lt, zI_le, Int.reduceLT, Int.reduceLE, Int.reduceAdd, Int.reduceSub, Int.reduceMul, Int.reduceNeg, Int.reduceEq, Int.reduceNe, reduceIte, tw_0, tw_1, tw_2, tw_3, tw_4, tw_5, tw_6, tw_7, tw_8, tw_9, tw_10, tw_11, tw_12, tw_13, tw_14, tw_15, tw_16, tw_17, tw_18, tw_19, tw_20, tw_21, tw_22, tw_23, tw_24, tw_25, tw_26, tw_27, tw_28, tw_29, tw_30, tw_31, ob_0, ob_1, ob_2, ob_3, ob_4, ob_5, ob_6, ob_7, ob_8, ob_9, ob_10, ob_11, ob_12, ob_13, ob_14, ob_15, ob_16, ob_17, ob_18, ob_19, ob_20, ob_21, ob_22, ob_23, ob_24, ob_25, ob_26, ob_27, ob_28, ob_29, ob_30, ob_31, ob_32, ob_33, ob_34, ob_35, ob_36, ob_37, ob_38, ob_39, ob_40, ob_41, ob_42, ob_43, ob_44, ob_45, ob_46, ob_47, ob_48, ob_49, ob_50, ob_51, ob_52, ob_53, ob_54, ob_55, ob_56, ob_57, ob_58, ob_59, ob_60, ob_61, ob_62, ob_63, ob_64, ob_65, jf7, aGi, aGb, aGz, aGj, leT, leF, ltT, ltF, eqT, eqF, tws_0, tws_1, tws_2, tws_3, tws_4, tws_5, tws_6, tws_7, tws_8, tws_9, tws_10, tws_11, tws_12, tws_13, tws_14, tws_15, tws_16, tws_17, tws_18, tws_19, tws_20, tws_21, tws_22, tws_23, tws_24, tws_25, tws_26, tws_27, tws_28, tws_29, tws_30, tws_31, obs_0, obs_2, obs_3, obs_4, obs_5, obs_12, obs_13, obs_14, obs_15, obs_16, obs_17, obs_18, obs_19, obs_20, obs_21, obs_22, obs_26, obs_31, obs_32, obs_33, obs_34, obs_35, obs_41, obs_42, obs_44, obs_48, obs_50, obs_51, obs_52, obs_55, obs_57, obs_58, obs_59, obs_60, obs_61, pF7i, pF7z, pF7j, aSi, aSj, aSb1, aSb24, aSb28, aSb31, ts, tg_eq, tg_ne, tg_tg, fset_eq, fset_ne] at n1 ⊢
        simp (disch := omega) only [jc_ref, rI_int, rR_ref, rR_null, rJ_long, ckR_ref, ckR_null, ckr_ref, ckr_null, ckW_int, ckW_ref, ckW_null, cI_ok, cR_ok, cR_null, cV_ok, cJ_ok, qH_eq, qD_in, aG_ref, aS_ref, aL_ref, pF_ref, cK_ref, cK_null, zI_lit, zJ_lit, zI_add, zI_sub, zI_mul, zI_neg, zI_eq, zI_lt, zI_le, Int.reduceLT, Int.reduceLE, Int.reduceAdd, Int.reduceSub, Int.reduceMul, Int.reduceNeg, Int.reduceEq, Int.reduceNe, reduceIte, tw_0, tw_1, tw_2, tw_3, tw_4, tw_5, tw_6, tw_7, tw_8, tw_9, tw_10, tw_11, tw_12, tw_13, tw_14, tw_15, tw_16, tw_17, tw_18, tw_19, tw_20, tw_21, tw_22, tw_23, tw_24, tw_25, tw_26, tw_27, tw_28, tw_29, tw_30, tw_31, ob_0, ob_1, ob_2, ob_3, ob_4, ob_5, ob_6, ob_7, ob_8, ob_9, ob_10, ob_11, ob_12, ob_13, ob_14, ob_15, ob_16, ob_17, ob_18, ob_19, ob_20, ob_21, ob_22, ob_23, ob_24, ob_25, ob_26, ob_27, ob_28, ob_29, ob_30, ob_31, ob_32, ob_33, ob_34, ob_35, ob_36, ob_37, ob_38, ob_39, ob_40, ob_41, ob_42, ob_43, ob_44, ob_45, ob_46, ob_47, ob_48, ob_49, ob_50, ob_51, ob_52, ob_53, ob_54, ob_55, ob_56, ob_57, ob_58, ob_59, ob_60, ob_61, ob_62, ob_63, ob_64, ob_65, jf7, aGi, aGb, aGz, aGj, leT, leF, ltT, ltF, eqT, eqF, tws_0, tws_1, tws_2, tws_3, tws_4, tws_5, tws_6, tws_7, tws_8, tws_9, tws_10, tws_11, tws_12, tws_13, tws_14, tws_15, tws_16, tws_17, tws_18, tws_19, tws_20, tws_21, tws_22, tws_23, tws_24, tws_25, tws_26, tws_27, tws_28, tws_29, tws_30, tws_31, obs_0, obs_2, obs_3, obs_4, obs_5, obs_12, obs_13, obs_14, obs_15, obs_16, obs_17, obs_18, obs_19, obs_20, obs_21, obs_22, obs_26, obs_31, obs_32, obs_33, obs_34, obs_35, obs_41, obs_42, obs_44, obs_48, obs_50, obs_51, obs_52, obs_55, obs_57, obs_58, obs_59, obs_60, obs_61, pF7i, pF7z, pF7j, aSi, aSj, aSb1, aSb24, aSb28, aSb31, ts, tg_eq, tg_ne, tg_tg, fset_eq, fset_ne, e100, o, c20, c60, n1, beq_tt, beq_tf, beq_ft, beq_ff, Bool.true_and, Bool.false_and, Bool.and_true, Bool.and_false, Bool.true_or, Bool.false_or, Bool.or_true, Bool.or_false, Bool.true_eq_false, Bool.false_eq_true, Bool.not_true, Bool.not_false, bZ_t, bZ_f, zI_b0, zI_b1, zI_bb, okZ_0, okZ_1, E7075_115, f59, f60, isK, show (1 + dpC st + 1) = 1 + (1 + dpC st) by omega]
      | false =>
        rw [if_neg (by decide)]
        cases e2 : isS g z l q 40 with
        | true =>
          rw [if_pos rfl]
          refine ⟨_, ?_, F2 23, by show SnS g z l _ (cds ++ []) (ones + 1) ([23] ++ st) false (nxt g z l q); rw [List.append_nil]; exact pu 23 (Or.inr rfl)⟩
          rw [E7075_38]
          have hx : 0 ≤ (st.length : Int) ∧ (st.length : Int) < 45 := by omega
          generalize (st.length : Int) = x at f59 s1 n hx ⊢
          simp (disch := omega) only [jc_ref, rI_int, rR_ref, rR_null, rJ_long, ckR_ref, ckR_null, ckr_ref, ckr_null, ckW_int, ckW_ref, ckW_null, cI_ok, cR_ok, cR_null, cV_ok, cJ_ok, qH_eq, qD_in, aG_ref, aS_ref, aL_ref, pF_ref, cK_ref, cK_null, zI_lit, zJ_lit, zI_add, zI_sub, zI_mul, zI_neg, zI_eq, zI_lt, zI_le, Int.reduceLT, Int.reduceLE, Int.reduceAdd, Int.reduceSub, Int.reduceMul, Int.reduceNeg, Int.reduceEq, Int.reduceNe, reduceIte, tw_0, tw_1, tw_2, tw_3, tw_4, tw_5, tw_6, tw_7, tw_8, tw_9, tw_10, tw_11, tw_12, tw_13, tw_14, tw_15, tw_16, tw_17, tw_18, tw_19, tw_20, tw_21, tw_22, tw_23, tw_24, tw_25, tw_26, tw_27, tw_28, tw_29, tw_30, tw_31, ob_0, ob_1, ob_2, ob_3, ob_4, ob_5, ob_6, ob_7, ob_8, ob_9, ob_10, ob_11, ob_12, ob_13, ob_14, ob_15, ob_16, ob_17, ob_18, ob_19, ob_20, ob_21, ob_22, ob_23, ob_24, ob_25, ob_26, ob_27, ob_28, ob_29, ob_30, ob_31, ob_32, ob_33, ob_34, ob_35, ob_36, ob_37, ob_38, ob_39, ob_40, ob_41, ob_42, ob_43, ob_44, ob_45, ob_46, ob_47, ob_48, ob_49, ob_50, ob_51, ob_52, ob_53, ob_54, ob_55, ob_56, ob_57, ob_58, ob_59, ob_60, ob_61, ob_62, ob_63, ob_64, ob_65, jf7, aGi, aGb, aGz, aGj, leT, leF, ltT, ltF, eqT, eqF, tws_0, tws_1, tws_2, tws_3, tws_4, tws_5, tws_6, tws_7, tws_8, tws_9, tws_10, tws_11, tws_12, tws_13, tws_14, tws_15, tws_16, tws_17, tws_18, tws_19, tws_20, tws_21, tws_22, tws_23, tws_24, tws_25, tws_26, tws_27, tws_28, tws_29, tws_30, tws_31, obs_0, obs_2, obs_3, obs_4, obs_5, obs_12, obs_13, obs_14, obs_15, obs_16, obs_17, obs_18, obs_19, obs_20, obs_21, obs_22, obs_26, obs_31, obs_32, obs_33, obs_34, obs_35, obs_41, obs_42, obs_44, obs_48, obs_50, obs_51, obs_52, obs_55, obs_57, obs_58, obs_59, obs_60, obs_61, pF7i, pF7z, pF7j, aSi, aSj, aSb1, aSb24, aSb28, aSb31, ts, tg_eq, tg_ne, tg_tg, fset_eq, fset_ne] at n1 ⊢
          simp (disch := omega) only [jc_ref, rI_int, rR_ref, rR_null, rJ_long, ckR_ref, ckR_null, ckr_ref, ckr_null, ckW_int, ckW_ref, ckW_null, cI_ok, cR_ok, cR_null, cV_ok, cJ_ok, qH_eq, qD_in, aG_ref, aS_ref, aL_ref, pF_ref, cK_ref, cK_null, zI_lit, zJ_lit, zI_add, zI_sub, zI_mul, zI_neg, zI_eq, zI_lt, zI_le, Int.reduceLT, Int.reduceLE, Int.reduceAdd, Int.reduceSub, Int.reduceMul, Int.reduceNeg, Int.reduceEq, Int.reduceNe, reduceIte, tw_0, tw_1, tw_2, tw_3, tw_4, tw_5, tw_6, tw_7, tw_8, tw_9, tw_10, tw_11, tw_12, tw_13, tw_14, tw_15, tw_16, tw_17, tw_18, tw_19, tw_20, tw_21, tw_22, tw_23, tw_24, tw_25, tw_26, tw_27, tw_28, tw_29, tw_30, tw_31, ob_0, ob_1, ob_2, ob_3, ob_4, ob_5, ob_6, ob_7, ob_8, ob_9, ob_10, ob_11, ob_12, ob_13, ob_14, ob_15, ob_16, ob_17, ob_18, ob_19, ob_20, ob_21, ob_22, ob_23, ob_24, ob_25, ob_26, ob_27, ob_28, ob_29, ob_30, ob_31, ob_32, ob_33, ob_34, ob_35, ob_36, ob_37, ob_38, ob_39, ob_40, ob_41, ob_42, ob_43, ob_44, ob_45, ob_46, ob_47, ob_48, ob_49, ob_50, ob_51, ob_52, ob_53, ob_54, ob_55, ob_56, ob_57, ob_58, ob_59, ob_60, ob_61, ob_62, ob_63, ob_64, ob_65, jf7, aGi, aGb, aGz, aGj, leT, leF, ltT, ltF, eqT, eqF, tws_0, tws_1, tws_2, tws_3, tws_4, tws_5, tws_6, tws_7, tws_8, tws_9, tws_10, tws_11, tws_12, tws_13, tws_14, tws_15, tws_16, tws_17, tws_18, tws_19, tws_20, tws_21, tws_22, tws_23, tws_24, tws_25, tws_26, tws_27, tws_28, tws_29, tws_30, tws_31, obs_0, obs_2, obs_3, obs_4, obs_5, obs_12, obs_13, obs_14, obs_15, obs_16, obs_17, obs_18, obs_19, obs_20, obs_21, obs_22, obs_26, obs_31, obs_32, obs_33, obs_34, obs_35, obs_41, obs_42, obs_44, obs_48, obs_50, obs_51, obs_52, obs_55, obs_57, obs_58, obs_59, obs_60, obs_61, pF7i, pF7z, pF7j, aSi, aSj, aSb1, aSb24, aSb28, aSb31, ts, tg_eq, tg_ne, tg_tg, fset_eq, fset_ne, e100, o, c20, c60, n1, beq_tt, beq_tf, beq_ft, beq_ff, Bool.true_and, Bool.false_and, Bool.and_true, Bool.and_false, Bool.true_or, Bool.false_or, Bool.or_true, Bool.or_false, Bool.true_eq_false, Bool.false_eq_true, Bool.not_true, Bool.not_false, bZ_t, bZ_f, zI_b0, zI_b1, zI_bb, okZ_0, okZ_1, E7075_115, f59, f60, isK, show (1 + dpC st + 1) = 1 + (1 + dpC st) by omega]
        | false =>
          rw [if_neg (by decide)]
          have l0 : 0 ≤ leafZ g z l (T 2) (T 6) q := Int.not_lt.mp fun x => hh ⟨e1, e2, x⟩
          have R2 : Rd g z l (ts T1 0 61 1) (nxt g z l q) := n4.st (by omega)
          obtain ⟨T', t1, t2⟩ := op_leaf (d := d) (m := m) (h := h) (T := ts T1 0 61 1) (lf := leafZ g z l (T 2) (T 6) q) (n57 := cds.length) R2 (by rw [ts_ne (by decide), f2]; exact W) (by rw [ts_eq, fset_ne (by decide)]; exact f57) (by omega) (by omega) ⟨l0, lr.2⟩ e100
          have g2 : ts T1 0 61 1 2 = T 2 := by rw [ts_ne (by decide), f2]
          have g6 : ts T1 0 61 1 6 = T 6 := by rw [ts_ne (by decide), f6]
          rw [g2, g6] at t1 t2
          have hk := R2.k12
          have hv := fun k3 => R2.n15 (Or.inr k3)
          have st' : G (d + 4) 7075 38 [.ref m, .int (zI (bZ false)), .int (zI (bZ false)), .int (zI (leafZ g z l (T 2) (T 6) q)), jno] [] (tw m T h) = some (.inl (some (.int (zI (bZ (isK (lfP g z l (T 2) (T 6) (leafZ g z l (T 2) (T 6) q) (nxt g z l q))))))), tw m T' h) := by
            rw [← t1]
            have hk' : (ts T1 0 61 1) 0 12 = kd g z l (nxt g z l q) := hk
            rw [ts_eq, fset_ne (by decide)] at hk'
            have kr := kd_rg (g := g) (z := z) (l := l) (nxt g z l q)
            rw [E7075_38]
            simp (disch := omega) only [jc_ref, rI_int, rR_ref, rR_null, rJ_long, ckR_ref, ckR_null, ckr_ref, ckr_null, ckW_int, ckW_ref, ckW_null, cI_ok, cR_ok, cR_null, cV_ok, cJ_ok, qH_eq, qD_in, aG_ref, aS_ref, aL_ref, pF_ref, cK_ref, cK_null, zI_lit, zJ_lit, zI_add, zI_sub, zI_mul, zI_neg, zI_eq, zI_lt, zI_le, Int.reduceLT, Int.reduceLE, Int.reduceAdd, Int.reduceSub, Int.reduceMul, Int.reduceNeg, Int.reduceEq, Int.reduceNe, reduceIte, tw_0, tw_1, tw_2, tw_3, tw_4, tw_5, tw_6, tw_7, tw_8, tw_9, tw_10, tw_11, tw_12, tw_13, tw_14, tw_15, tw_16, tw_17, tw_18, tw_19, tw_20, tw_21, tw_22, tw_23, tw_24, tw_25, tw_26, tw_27, tw_28, tw_29, tw_30, tw_31, ob_0, ob_1, ob_2, ob_3, ob_4, ob_5, ob_6, ob_7, ob_8, ob_9, ob_10, ob_11, ob_12, ob_13, ob_14, ob_15, ob_16, ob_17, ob_18, ob_19, ob_20, ob_21, ob_22, ob_23, ob_24, ob_25, ob_26, ob_27, ob_28, ob_29, ob_30, ob_31, ob_32, ob_33, ob_34, ob_35, ob_36, ob_37, ob_38, ob_39, ob_40, ob_41, ob_42, ob_43, ob_44, ob_45, ob_46, ob_47, ob_48, ob_49, ob_50, ob_51, ob_52, ob_53, ob_54, ob_55, ob_56, ob_57, ob_58, ob_59, ob_60, ob_61, ob_62, ob_63, ob_64, ob_65, jf7, aGi, aGb, aGz, aGj, leT, leF, ltT, ltF, eqT, eqF, tws_0, tws_1, tws_2, tws_3, tws_4, tws_5, tws_6, tws_7, tws_8, tws_9, tws_10, tws_11, tws_12, tws_13, tws_14, tws_15, tws_16, tws_17, tws_18, tws_19, tws_20, tws_21, tws_22, tws_23, tws_24, tws_25, tws_26, tws_27, tws_28, tws_29, tws_30, tws_31, obs_0, obs_2, obs_3, obs_4, obs_5, obs_12, obs_13, obs_14, obs_15, obs_16, obs_17, obs_18, obs_19, obs_20, obs_21, obs_22, obs_26, obs_31, obs_32, obs_33, obs_34, obs_35, obs_41, obs_42, obs_44, obs_48, obs_50, obs_51, obs_52, obs_55, obs_57, obs_58, obs_59, obs_60, obs_61, pF7i, pF7z, pF7j, aSi, aSj, aSb1, aSb24, aSb28, aSb31, ts, tg_eq, tg_ne, tg_tg, fset_eq, fset_ne] at n1 ⊢
            by_cases k3 : kd g z l (nxt g z l q) = 3
            · have hv' := hv k3
              rw [ts_eq, fset_ne (by decide)] at hv'
              obtain ⟨v0, v1⟩ := nmv_rg3 k3
              simp (disch := omega) only [jc_ref, rI_int, rR_ref, rR_null, rJ_long, ckR_ref, ckR_null, ckr_ref, ckr_null, ckW_int, ckW_ref, ckW_null, cI_ok, cR_ok, cR_null, cV_ok, cJ_ok, qH_eq, qD_in, aG_ref, aS_ref, aL_ref, pF_ref, cK_ref, cK_null, zI_lit, zJ_lit, zI_add, zI_sub, zI_mul, zI_neg, zI_eq, zI_lt, zI_le, Int.reduceLT, Int.reduceLE, Int.reduceAdd, Int.reduceSub, Int.reduceMul, Int.reduceNeg, Int.reduceEq, Int.reduceNe, reduceIte, tw_0, tw_1, tw_2, tw_3, tw_4, tw_5, tw_6, tw_7, tw_8, tw_9, tw_10, tw_11, tw_12, tw_13, tw_14, tw_15, tw_16, tw_17, tw_18, tw_19, tw_20, tw_21, tw_22, tw_23, tw_24, tw_25, tw_26, tw_27, tw_28, tw_29, tw_30, tw_31, ob_0, ob_1, ob_2, ob_3, ob_4, ob_5, ob_6, ob_7, ob_8, ob_9, ob_10, ob_11, ob_12, ob_13, ob_14, ob_15, ob_16, ob_17, ob_18, ob_19, ob_20, ob_21, ob_22, ob_23, ob_24, ob_25, ob_26, ob_27, ob_28, ob_29, ob_30, ob_31, ob_32, ob_33, ob_34, ob_35, ob_36, ob_37, ob_38, ob_39, ob_40, ob_41, ob_42, ob_43, ob_44, ob_45, ob_46, ob_47, ob_48, ob_49, ob_50, ob_51, ob_52, ob_53, ob_54, ob_55, ob_56, ob_57, ob_58, ob_59, ob_60, ob_61, ob_62, ob_63, ob_64, ob_65, jf7, aGi, aGb, aGz, aGj, leT, leF, ltT, ltF, eqT, eqF, tws_0, tws_1, tws_2, tws_3, tws_4, tws_5, tws_6, tws_7, tws_8, tws_9, tws_10, tws_11, tws_12, tws_13, tws_14, tws_15, tws_16, tws_17, tws_18, tws_19, tws_20, tws_21, tws_22, tws_23, tws_24, tws_25, tws_26, tws_27, tws_28, tws_29, tws_30, tws_31, obs_0, obs_2, obs_3, obs_4, obs_5, obs_12, obs_13, obs_14, obs_15, obs_16, obs_17, obs_18, obs_19, obs_20, obs_21, obs_22, obs_26, obs_31, obs_32, obs_33, obs_34, obs_35, obs_41, obs_42, obs_44, obs_48, obs_50, obs_51, obs_52, obs_55, obs_57, obs_58, obs_59, obs_60, obs_61, pF7i, pF7z, pF7j, aSi, aSj, aSb1, aSb24, aSb28, aSb31, ts, tg_eq, tg_ne, tg_tg, fset_eq, fset_ne, e100, o, c20, c60, n1, beq_tt, beq_tf, beq_ft, beq_ff, Bool.true_and, Bool.false_and, Bool.and_true, Bool.and_false, Bool.true_or, Bool.false_or, Bool.or_true, Bool.or_false, Bool.true_eq_false, Bool.false_eq_true, Bool.not_true, Bool.not_false, bZ_t, bZ_f, zI_b0, zI_b1, zI_bb, okZ_0, okZ_1, f2, hk', k3, hv']
              rfl
            · simp (disch := omega) only [jc_ref, rI_int, rR_ref, rR_null, rJ_long, ckR_ref, ckR_null, ckr_ref, ckr_null, ckW_int, ckW_ref, ckW_null, cI_ok, cR_ok, cR_null, cV_ok, cJ_ok, qH_eq, qD_in, aG_ref, aS_ref, aL_ref, pF_ref, cK_ref, cK_null, zI_lit, zJ_lit, zI_add, zI_sub, zI_mul, zI_neg, zI_eq, zI_lt, zI_le, Int.reduceLT, Int.reduceLE, Int.reduceAdd, Int.reduceSub, Int.reduceMul, Int.reduceNeg, Int.reduceEq, Int.reduceNe, reduceIte, tw_0, tw_1, tw_2, tw_3, tw_4, tw_5, tw_6, tw_7, tw_8, tw_9, tw_10, tw_11, tw_12, tw_13, tw_14, tw_15, tw_16, tw_17, tw_18, tw_19, tw_20, tw_21, tw_22, tw_23, tw_24, tw_25, tw_26, tw_27, tw_28, tw_29, tw_30, tw_31, ob_0, ob_1, ob_2, ob_3, ob_4, ob_5, ob_6, ob_7, ob_8, ob_9, ob_10, ob_11, ob_12, ob_13, ob_14, ob_15, ob_16, ob_17, ob_18, ob_19, ob_20, ob_21, ob_22, ob_23, ob_24, ob_25, ob_26, ob_27, ob_28, ob_29, ob_30, ob_31, ob_32, ob_33, ob_34, ob_35, ob_36, ob_37, ob_38, ob_39, ob_40, ob_41, ob_42, ob_43, ob_44, ob_45, ob_46, ob_47, ob_48, ob_49, ob_50, ob_51, ob_52, ob_53, ob_54, ob_55, ob_56, ob_57, ob_58, ob_59, ob_60, ob_61, ob_62, ob_63, ob_64, ob_65, jf7, aGi, aGb, aGz, aGj, leT, leF, ltT, ltF, eqT, eqF, tws_0, tws_1, tws_2, tws_3, tws_4, tws_5, tws_6, tws_7, tws_8, tws_9, tws_10, tws_11, tws_12, tws_13, tws_14, tws_15, tws_16, tws_17, tws_18, tws_19, tws_20, tws_21, tws_22, tws_23, tws_24, tws_25, tws_26, tws_27, tws_28, tws_29, tws_30, tws_31, obs_0, obs_2, obs_3, obs_4, obs_5, obs_12, obs_13, obs_14, obs_15, obs_16, obs_17, obs_18, obs_19, obs_20, obs_21, obs_22, obs_26, obs_31, obs_32, obs_33, obs_34, obs_35, obs_41, obs_42, obs_44, obs_48, obs_50, obs_51, obs_52, obs_55, obs_57, obs_58, obs_59, obs_60, obs_61, pF7i, pF7z, pF7j, aSi, aSj, aSb1, aSb24, aSb28, aSb31, ts, tg_eq, tg_ne, tg_tg, fset_eq, fset_ne, e100, o, c20, c60, n1, beq_tt, beq_tf, beq_ft, beq_ff, Bool.true_and, Bool.false_and, Bool.and_true, Bool.and_false, Bool.true_or, Bool.false_or, Bool.or_true, Bool.or_false, Bool.true_eq_false, Bool.false_eq_true, Bool.not_true, Bool.not_false, bZ_t, bZ_f, zI_b0, zI_b1, zI_bb, okZ_0, okZ_1, f2, hk', k3]
              rfl
          cases hr : lfP g z l (T 2) (T 6) (leafZ g z l (T 2) (T 6) q) (nxt g z l q) with
          | error e =>
            rw [hr] at t2 st'
            refine ⟨T', st', F1.tr ((SnF.f (by omega)).tr (SnF.pf t2.2)), t2.1⟩
          | ok c =>
            rw [hr] at t2 st'
            obtain ⟨A, C, p1, p2, p3, p4, p5⟩ := t2
            have a57 : A 0 57 = cds.length := by rw [p1.2 57 (by omega), ts_eq, fset_ne (by decide), f57]
            subst p2
            refine ⟨T', st', F1.tr ((SnF.f (by omega)).tr ((SnF.pf p1).tr (cdT_F.tr (SnF.pf p3)))), ?_⟩
            show SnS g z l T' (cds ++ [c.1]) (ones + 1) ([] ++ st) true c.2
            rw [List.nil_append]
            have c0 : ∀ i, 57 ≤ i → i ≤ 61 → T' 0 i = fset (A 0) 57 (A 0 57 + 1) i := fun i i0 i1 => by rw [p4 i i0 i1, cdT_0]
            have aA : ∀ i, 57 ≤ i → i ≤ 61 → A 0 i = fset (T1 0) 61 1 i := fun i i0 i1 => by rw [p1.2 i (by omega), ts_eq]
            refine ⟨p5, ⟨?_, ?_⟩, ?_, ⟨?_, ?_, s3⟩, ?_, ?_, by omega, ?_⟩
            · rw [c0 57 (by omega) (by omega), fset_eq, a57, List.length_append]; simp
            · rw [p3.1 4 (by decide), cdT_4, a57, p1.1 4 (by decide), ts_ne (by decide), f4]
              exact c2.add
            · rw [c0 58 (by omega) (by omega), fset_ne (by decide), aA 58 (by omega) (by omega), fset_ne (by decide), f58]
            · rw [c0 59 (by omega) (by omega), fset_ne (by decide), aA 59 (by omega) (by omega), fset_ne (by decide), f59]
            · rw [p3.1 27 (by decide), cdT_k (by decide) (by decide), p1.1 27 (by decide), ts_ne (by decide), f27]; exact s2
            · rw [c0 60 (by omega) (by omega), fset_ne (by decide), aA 60 (by omega) (by omega), fset_ne (by decide), f60]
            · rw [c0 61 (by omega) (by omega), fset_ne (by decide), aA 61 (by omega) (by omega), fset_eq]; rfl
            · rw [List.length_append]
              have b1 : bZ true = 1 := rfl
              simp; omega
theorem tm_operand (s : SnS g z l T cds ones st false q) (W : ScW (T 2)) :
    ∃ T', M (d + 5) 7075 [.ref m] (tw m T h) = some (.inl (some (.int (zI (bZ (isK (opP g z l (T 2) (T 6) (dpC st) ones q)))))), tw m T' h) ∧ SnF T T' ∧ match opP g z l (T 2) (T 6) (dpC st) ones q with
      | .error e => Fl T' e
      | .ok a => SnS g z l T' (cds ++ a.1) (ones + 1) (a.2.1 ++ st) a.2.2.1 a.2.2.2 := by
  have R := s.1
  have w1 := rd_isW (d := d + 3) (m := m) (h := h) R (w := 7237492) (by omega) (by omega)
  have w2 := rd_isS (d := d + 3) (m := m) (h := h) R (c := 40) (by omega) (by omega)
  have w3 := rd_leaf (d := d + 1) (m := m) (h := h) R W
  have lr := leafZ_rg (g := g) (z := z) (l := l) (q := q) (nm := T 6) W
  rw [X7075 _ (tw_recv rfl), E7075_0]
  by_cases hh : isW g z l q wNOT = false ∧ isS g z l q 40 = false ∧ leafZ g z l (T 2) (T 6) q < 0
  · have e : opP g z l (T 2) (T 6) (dpC st) ones q = .error (erx g z l q 1) := by unfold opP; rw [if_pos hh]
    rw [e]
    obtain ⟨e1, e2, e3⟩ := hh
    have e1' : isW g z l q 7237492 = false := e1
    have bd := tm_bad (d := d + 3) (m := m) (h := h) (T := T) (k := 1)
    refine ⟨bdT T 1, ?_, SnF.pf bd_pf, rd_fl R fun _ => rfl⟩
    have e3' : ¬ 0 ≤ leafZ g z l (T 2) (T 6) q := by omega
    simp (disch := omega) only [jc_ref, rI_int, rR_ref, rR_null, rJ_long, ckR_ref, ckR_null, ckr_ref, ckr_null, ckW_int, ckW_ref, ckW_null, cI_ok, cR_ok, cR_null, cV_ok, cJ_ok, qH_eq, qD_in, aG_ref, aS_ref, aL_ref, pF_ref, cK_ref, cK_null, zI_lit, zJ_lit, zI_add, zI_sub, zI_mul, zI_neg, zI_eq, zI_lt, zI_le, Int.reduceLT, Int.reduceLE, Int.reduceAdd, Int.reduceSub, Int.reduceMul, Int.reduceNeg, Int.reduceEq, Int.reduceNe, reduceIte, tw_0, tw_1, tw_2, tw_3, tw_4, tw_5, tw_6, tw_7, tw_8, tw_9, tw_10, tw_11, tw_12, tw_13, tw_14, tw_15, tw_16, tw_17, tw_18, tw_19, tw_20, tw_21, tw_22, tw_23, tw_24, tw_25, tw_26, tw_27, tw_28, tw_29, tw_30, tw_31, ob_0, ob_1, ob_2, ob_3, ob_4, ob_5, ob_6, ob_7, ob_8, ob_9, ob_10, ob_11, ob_12, ob_13, ob_14, ob_15, ob_16, ob_17, ob_18, ob_19, ob_20, ob_21, ob_22, ob_23, ob_24, ob_25, ob_26, ob_27, ob_28, ob_29, ob_30, ob_31, ob_32, ob_33, ob_34, ob_35, ob_36, ob_37, ob_38, ob_39, ob_40, ob_41, ob_42, ob_43, ob_44, ob_45, ob_46, ob_47, ob_48, ob_49, ob_50, ob_51, ob_52, ob_53, ob_54, ob_55, ob_56, ob_57, ob_58, ob_59, ob_60, ob_61, ob_62, ob_63, ob_64, ob_65, jf7, aGi, aGb, aGz, aGj, leT, leF, ltT, ltF, eqT, eqF, w1, e1', w2, e2, w3, e3', bd, isK, beq_tt, beq_tf, beq_ft, beq_ff, Bool.true_and, Bool.false_and, Bool.and_true, Bool.and_false, Bool.true_or, Bool.false_or, Bool.or_true, Bool.or_false, Bool.true_eq_false, Bool.false_eq_true, Bool.not_true, Bool.not_false, bZ_t, bZ_f, zI_b0, zI_b1, zI_bb, okZ_0, okZ_1, okZ_b]
  · obtain ⟨T', t1, t2⟩ := op_38 (d := d) (m := m) (h := h) s W rfl rfl rfl hh
    refine ⟨T', ?_, t2⟩
    rw [← t1]
    cases e1 : isW g z l q wNOT with
    | true =>
      have e1' : isW g z l q 7237492 = true := e1
      simp (disch := omega) only [jc_ref, rI_int, rR_ref, rR_null, rJ_long, ckR_ref, ckR_null, ckr_ref, ckr_null, ckW_int, ckW_ref, ckW_null, cI_ok, cR_ok, cR_null, cV_ok, cJ_ok, qH_eq, qD_in, aG_ref, aS_ref, aL_ref, pF_ref, cK_ref, cK_null, zI_lit, zJ_lit, zI_add, zI_sub, zI_mul, zI_neg, zI_eq, zI_lt, zI_le, Int.reduceLT, Int.reduceLE, Int.reduceAdd, Int.reduceSub, Int.reduceMul, Int.reduceNeg, Int.reduceEq, Int.reduceNe, reduceIte, tw_0, tw_1, tw_2, tw_3, tw_4, tw_5, tw_6, tw_7, tw_8, tw_9, tw_10, tw_11, tw_12, tw_13, tw_14, tw_15, tw_16, tw_17, tw_18, tw_19, tw_20, tw_21, tw_22, tw_23, tw_24, tw_25, tw_26, tw_27, tw_28, tw_29, tw_30, tw_31, ob_0, ob_1, ob_2, ob_3, ob_4, ob_5, ob_6, ob_7, ob_8, ob_9, ob_10, ob_11, ob_12, ob_13, ob_14, ob_15, ob_16, ob_17, ob_18, ob_19, ob_20, ob_21, ob_22, ob_23, ob_24, ob_25, ob_26, ob_27, ob_28, ob_29, ob_30, ob_31, ob_32, ob_33, ob_34, ob_35, ob_36, ob_37, ob_38, ob_39, ob_40, ob_41, ob_42, ob_43, ob_44, ob_45, ob_46, ob_47, ob_48, ob_49, ob_50, ob_51, ob_52, ob_53, ob_54, ob_55, ob_56, ob_57, ob_58, ob_59, ob_60, ob_61, ob_62, ob_63, ob_64, ob_65, jf7, aGi, aGb, aGz, aGj, leT, leF, ltT, ltF, eqT, eqF, w1, e1', w2, w3, beq_tt, beq_tf, beq_ft, beq_ff, Bool.true_and, Bool.false_and, Bool.and_true, Bool.and_false, Bool.true_or, Bool.false_or, Bool.or_true, Bool.or_false, Bool.true_eq_false, Bool.false_eq_true, Bool.not_true, Bool.not_false, bZ_t, bZ_f, zI_b0, zI_b1, zI_bb, okZ_0, okZ_1]
    | false =>
      have e1' : isW g z l q 7237492 = false := e1
      cases e2 : isS g z l q 40 with
      | true => simp (disch := omega) only [jc_ref, rI_int, rR_ref, rR_null, rJ_long, ckR_ref, ckR_null, ckr_ref, ckr_null, ckW_int, ckW_ref, ckW_null, cI_ok, cR_ok, cR_null, cV_ok, cJ_ok, qH_eq, qD_in, aG_ref, aS_ref, aL_ref, pF_ref, cK_ref, cK_null, zI_lit, zJ_lit, zI_add, zI_sub, zI_mul, zI_neg, zI_eq, zI_lt, zI_le, Int.reduceLT, Int.reduceLE, Int.reduceAdd, Int.reduceSub, Int.reduceMul, Int.reduceNeg, Int.reduceEq, Int.reduceNe, reduceIte, tw_0, tw_1, tw_2, tw_3, tw_4, tw_5, tw_6, tw_7, tw_8, tw_9, tw_10, tw_11, tw_12, tw_13, tw_14, tw_15, tw_16, tw_17, tw_18, tw_19, tw_20, tw_21, tw_22, tw_23, tw_24, tw_25, tw_26, tw_27, tw_28, tw_29, tw_30, tw_31, ob_0, ob_1, ob_2, ob_3, ob_4, ob_5, ob_6, ob_7, ob_8, ob_9, ob_10, ob_11, ob_12, ob_13, ob_14, ob_15, ob_16, ob_17, ob_18, ob_19, ob_20, ob_21, ob_22, ob_23, ob_24, ob_25, ob_26, ob_27, ob_28, ob_29, ob_30, ob_31, ob_32, ob_33, ob_34, ob_35, ob_36, ob_37, ob_38, ob_39, ob_40, ob_41, ob_42, ob_43, ob_44, ob_45, ob_46, ob_47, ob_48, ob_49, ob_50, ob_51, ob_52, ob_53, ob_54, ob_55, ob_56, ob_57, ob_58, ob_59, ob_60, ob_61, ob_62, ob_63, ob_64, ob_65, jf7, aGi, aGb, aGz, aGj, leT, leF, ltT, ltF, eqT, eqF, w1, e1', w2, e2, w3, beq_tt, beq_tf, beq_ft, beq_ff, Bool.true_and, Bool.false_and, Bool.and_true, Bool.and_false, Bool.true_or, Bool.false_or, Bool.or_true, Bool.or_false, Bool.true_eq_false, Bool.false_eq_true, Bool.not_true, Bool.not_false, bZ_t, bZ_f, zI_b0, zI_b1, zI_bb, okZ_0, okZ_1]
      | false =>
        have e3 : 0 ≤ leafZ g z l (T 2) (T 6) q := Int.not_lt.mp fun x => hh ⟨e1, e2, x⟩
        simp (disch := omega) only [jc_ref, rI_int, rR_ref, rR_null, rJ_long, ckR_ref, ckR_null, ckr_ref, ckr_null, ckW_int, ckW_ref, ckW_null, cI_ok, cR_ok, cR_null, cV_ok, cJ_ok, qH_eq, qD_in, aG_ref, aS_ref, aL_ref, pF_ref, cK_ref, cK_null, zI_lit, zJ_lit, zI_add, zI_sub, zI_mul, zI_neg, zI_eq, zI_lt, zI_le, Int.reduceLT, Int.reduceLE, Int.reduceAdd, Int.reduceSub, Int.reduceMul, Int.reduceNeg, Int.reduceEq, Int.reduceNe, reduceIte, tw_0, tw_1, tw_2, tw_3, tw_4, tw_5, tw_6, tw_7, tw_8, tw_9, tw_10, tw_11, tw_12, tw_13, tw_14, tw_15, tw_16, tw_17, tw_18, tw_19, tw_20, tw_21, tw_22, tw_23, tw_24, tw_25, tw_26, tw_27, tw_28, tw_29, tw_30, tw_31, ob_0, ob_1, ob_2, ob_3, ob_4, ob_5, ob_6, ob_7, ob_8, ob_9, ob_10, ob_11, ob_12, ob_13, ob_14, ob_15, ob_16, ob_17, ob_18, ob_19, ob_20, ob_21, ob_22, ob_23, ob_24, ob_25, ob_26, ob_27, ob_28, ob_29, ob_30, ob_31, ob_32, ob_33, ob_34, ob_35, ob_36, ob_37, ob_38, ob_39, ob_40, ob_41, ob_42, ob_43, ob_44, ob_45, ob_46, ob_47, ob_48, ob_49, ob_50, ob_51, ob_52, ob_53, ob_54, ob_55, ob_56, ob_57, ob_58, ob_59, ob_60, ob_61, ob_62, ob_63, ob_64, ob_65, jf7, aGi, aGb, aGz, aGj, leT, leF, ltT, ltF, eqT, eqF, w1, e1', w2, e2, w3, e3, beq_tt, beq_tf, beq_ft, beq_ff, Bool.true_and, Bool.false_and, Bool.and_true, Bool.and_false, Bool.true_or, Bool.false_or, Bool.or_true, Bool.or_false, Bool.true_eq_false, Bool.false_eq_true, Bool.not_true, Bool.not_false, bZ_t, bZ_f, zI_b0, zI_b1, zI_bb, okZ_0, okZ_1]
end
