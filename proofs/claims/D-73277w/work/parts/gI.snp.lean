/-! sentences, as both sides read them: codes, operands ahead of what joins them -/
abbrev wNOTx : Int := 7237492
def p8 (t : Int) : Int := if t = 0 then 1 else if t = 1 then 8 else if t = 2 then 64 else 512
/-- in which column a word is -/
def skZ (S nm : Int → Int) (w t : Int) : Int := fnd (fun k => decide (nm (4 + 4 * t + k) = w)) (S (4 + t)).toNat 0
def pkR (S nm : Int → Int) (w : Int) : Nat → Int → Int
  | 0, _ => 0
  | j + 1, t => (skZ S nm w t + 1) * p8 t + pkR S nm w j (t + 1)
/-- of a word: in which column of each table it is -/
def pkZ (S nm : Int → Int) (w : Int) : Int := pkR S nm w (S 0).toNat 0
theorem or8_1 : ∀ a : Fin 1, ∀ b : Fin 8, (zI (a.val : Int) ||| (zI (b.val : Int) <<< (zI 0 &&& zI 31))) = zI (a.val + b.val * 1) := by decide +kernel
theorem or8_2 : ∀ a : Fin 8, ∀ b : Fin 8, (zI (a.val : Int) ||| (zI (b.val : Int) <<< (zI 3 &&& zI 31))) = zI (a.val + b.val * 8) := by decide +kernel
theorem or8_3 : ∀ a : Fin 64, ∀ b : Fin 8, (zI (a.val : Int) ||| (zI (b.val : Int) <<< (zI 6 &&& zI 31))) = zI (a.val + b.val * 64) := by decide +kernel
theorem or8_4 : ∀ a : Fin 512, ∀ b : Fin 8, (zI (a.val : Int) ||| (zI (b.val : Int) <<< (zI 9 &&& zI 31))) = zI (a.val + b.val * 512) := by decide +kernel
theorem or8 {t a b : Int} (t0 : 0 ≤ t) (t1 : t < 4) (a0 : 0 ≤ a) (a1 : a < p8 t) (b0 : 0 ≤ b) (b1 : b < 8) : (zI a ||| (zI b <<< (zI (3 * t) &&& zI 31))) = zI (a + b * p8 t) := by
  have ea : (a.toNat : Int) = a := by omega
  have eb' : (b.toNat : Int) = b := by omega
  rcases (show t = 0 ∨ t = 1 ∨ t = 2 ∨ t = 3 by omega) with e | e | e | e
  · rw [e] at a1 ⊢
    have a1 : a < 1 := a1
    have k := or8_1 ⟨a.toNat, by omega⟩ ⟨b.toNat, by omega⟩
    simp only [ea, eb'] at k
    exact k
  · rw [e] at a1 ⊢
    have a1 : a < 8 := a1
    have k := or8_2 ⟨a.toNat, by omega⟩ ⟨b.toNat, by omega⟩
    simp only [ea, eb'] at k
    exact k
  · rw [e] at a1 ⊢
    have a1 : a < 64 := a1
    have k := or8_3 ⟨a.toNat, by omega⟩ ⟨b.toNat, by omega⟩
    simp only [ea, eb'] at k
    exact k
  · rw [e] at a1 ⊢
    have a1 : a < 512 := a1
    have k := or8_4 ⟨a.toNat, by omega⟩ ⟨b.toNat, by omega⟩
    simp only [ea, eb'] at k
    exact k
section
variable {S nm : Int → Int} {w t : Int}
theorem skZ_rg (h : S (4 + t) ≤ 4) : -1 ≤ skZ S nm w t ∧ skZ S nm w t ≤ 3 := by
  unfold skZ
  rcases fnd_rg (f := fun k => decide (nm (4 + 4 * t + k) = w)) (S (4 + t)).toNat 0 with e | ⟨e1, e2, -⟩
  · omega
  · omega
theorem p8_up (t0 : 0 ≤ t) (t1 : t < 3) : p8 (t + 1) = 8 * p8 t := by
  unfold p8
  rcases (show t = 0 ∨ t = 1 ∨ t = 2 by omega) with e | e | e <;> subst e <;> rfl
theorem p8_pos : 1 ≤ p8 t ∧ p8 t ≤ 512 := by unfold p8; split; omega; split; omega; split <;> omega
end
/-! the grammar -/
abbrev Cd : Type := Int × Int × Int
abbrev SR : Type := List Cd × Int × Int
section
variable (g : Int → Int) (z l : Int) (S nm : Int → Int)
def leafZ (q : Int) : Int := if isW g z l q wBARE = true then 0 else if isW g z l q wKNOWN = true then 1 else if isW g z l q wBROKEN = true then 2 else if isW g z l q wIN = true then 3 else if isW g z l q wROW = true then 4 else if isNm g z l q = true then 100 + pkZ S nm (wdv g z q) else -1
/-- what is behind a leaf's first word -/
def lfP (lf q : Int) : Except Er (Cd × Int) :=
  if lf < 3 then .ok ((lf, 0, 0), q) else
  if lf = 3 then eb (lookP g z l (fun k => nm (0 + k)) (S 0).toNat q) fun a => .ok ((3, 0, a), nxt g z l q) else
  if isThan g z l q = false then .error (erx g z l q 1) else
  eb (numP g z l 0 99 (nxt g z l q)) fun a => .ok ((lf, nmv g z q, a), nxt g z l (nxt g z l q))
/-- operands joined by and; n: how many more there may be -/
def anL (sa : Int → Int → Except Er SR) : Nat → SR → Except Er SR
  | 0, a => .error (erx g z l a.2.2 4)
  | n + 1, a => if isW g z l a.2.2 wAND = true then eb (sa a.2.1 (nxt g z l a.2.2)) fun b => anL sa n (a.1 ++ b.1 ++ [(21, 0, 0)], b.2) else .ok a
def anP (sa : Int → Int → Except Er SR) (ones q : Int) : Except Er SR := eb (sa ones q) fun a => anL g z l sa 21 a
def orL (sa : Int → Int → Except Er SR) : Nat → SR → Except Er SR
  | 0, a => .error (erx g z l a.2.2 4)
  | n + 1, a => if isW g z l a.2.2 wOR = true then eb (anP g z l sa a.2.1 (nxt g z l a.2.2)) fun b => orL sa n (a.1 ++ b.1 ++ [(22, 0, 0)], b.2) else .ok a
def orP (sa : Int → Int → Except Er SR) (ones q : Int) : Except Er SR := eb (anP g z l sa ones q) fun a => orL g z l sa 21 a
/-- an operand: n: how many more it may be within -/
def saP : Nat → Int → Int → Except Er SR
  | 0, _, q =>
    if isW g z l q wNOT = false ∧ isS g z l q 40 = false ∧ leafZ g z l S nm q < 0 then .error (erx g z l q 1) else
    if leafZ g z l S nm q = 100 then .error (erx g z l q 3) else .error (erx g z l q 4)
  | n + 1, ones, q =>
    if isW g z l q wNOT = false ∧ isS g z l q 40 = false ∧ leafZ g z l S nm q < 0 then .error (erx g z l q 1) else
    if leafZ g z l S nm q = 100 then .error (erx g z l q 3) else
    if ones = 20 then .error (erx g z l q 4) else
    if isS g z l q 40 = true then eb (orP g z l (saP n) (ones + 1) (nxt g z l q)) fun a => if isS g z l a.2.2 41 = true then .ok (a.1, a.2.1, nxt g z l a.2.2) else .error (erx g z l a.2.2 1) else
    if isW g z l q wNOT = true then eb (saP n (ones + 1) (nxt g z l q)) fun a => .ok (a.1 ++ [(20, 0, 0)], a.2) else
    eb (lfP g z l S nm (leafZ g z l S nm q) (nxt g z l q)) fun c => .ok ([c.1], ones + 1, c.2)
/-- a sentence: its codes, how many operands -/
def senP : Except Er (List Cd × Int) := eb (orP g z l (saP g z l S nm 8) 0 0) fun a => if kd g z l a.2.2 = 0 then .ok (a.1, a.2.1) else .error (erx g z l a.2.2 1)
end
section
variable {g : Int → Int} {z l : Int} {d m : Nat} {T : Nat → Int → Int} {h : AH} {q : Int}
theorem rd_pack (R : Rd g z l T q) (hk : kd g z l q = 1) (W : ScW (T 2)) : M (d + 2) 7078 [.ref m] (tw m T h) = some (.inl (some (.int (zI (pkZ (T 2) (T 6) (wdv g z q))))), tw m T h) := by
  have W0 := W.1
  have key : ∀ (j : Nat) (t a : Int), 0 ≤ t → t + j = T 2 0 → 0 ≤ a → (t < 4 → a < p8 t) → a < 4096 → G (d + 1) 7078 4 [.ref m, .int (zI a), .int (zI t)] [] (tw m T h) = some (.inl (some (.int (zI (a + pkR (T 2) (T 6) (wdv g z q) j t)))), tw m T h) := by
    intro j
    induction j with
    | zero =>
      intro t a t0 ht a0 a1 a2
      rw [E7078_4]
      simp (disch := omega) only [jc_ref, rI_int, rR_ref, rR_null, rJ_long, ckR_ref, ckR_null, ckr_ref, ckr_null, ckW_int, ckW_ref, ckW_null, cI_ok, cR_ok, cR_null, cV_ok, cJ_ok, qH_eq, qD_in, aG_ref, aS_ref, aL_ref, pF_ref, cK_ref, cK_null, zI_lit, zJ_lit, zI_add, zI_sub, zI_mul, zI_neg, zI_eq, zI_lt, zI_le, Int.reduceLT, Int.reduceLE, Int.reduceAdd, Int.reduceSub, Int.reduceMul, Int.reduceNeg, Int.reduceEq, Int.reduceNe, reduceIte, tw_0, tw_1, tw_2, tw_3, tw_4, tw_5, tw_6, tw_7, tw_8, tw_9, tw_10, tw_11, tw_12, tw_13, tw_14, tw_15, tw_16, tw_17, tw_18, tw_19, tw_20, tw_21, tw_22, tw_23, tw_24, tw_25, tw_26, tw_27, tw_28, tw_29, tw_30, tw_31, ob_0, ob_1, ob_2, ob_3, ob_4, ob_5, ob_6, ob_7, ob_8, ob_9, ob_10, ob_11, ob_12, ob_13, ob_14, ob_15, ob_16, ob_17, ob_18, ob_19, ob_20, ob_21, ob_22, ob_23, ob_24, ob_25, ob_26, ob_27, ob_28, ob_29, ob_30, ob_31, ob_32, ob_33, ob_34, ob_35, ob_36, ob_37, ob_38, ob_39, ob_40, ob_41, ob_42, ob_43, ob_44, ob_45, ob_46, ob_47, ob_48, ob_49, ob_50, ob_51, ob_52, ob_53, ob_54, ob_55, ob_56, ob_57, ob_58, ob_59, ob_60, ob_61, ob_62, ob_63, ob_64, ob_65, jf7, aGi, aGb, aGz, aGj, leT, leF, ltT, ltF, eqT, eqF, pkR, Int.add_zero]
    | succ j ih =>
      intro t a t0 ht a0 a1 a2
      have co := W.2 t t0 (by omega)
      have sk := skZ_rg (S := T 2) (nm := T 6) (w := wdv g z q) (t := t) co.2
      have se := rd_seek (d := d) (m := m) (h := h) R hk (fr := 4 + 4 * t) (n := T 2 (4 + t)) (by omega) (by omega) co.1
      have se' : M (d + 1) 7100 [.ref m, .int (zI (4 + 4 * t)), .int (zI (T 2 (4 + t)))] (tw m T h) = some (.inl (some (.int (zI (skZ (T 2) (T 6) (wdv g z q) t)))), tw m T h) := se
      have a1' := a1 (by omega)
      have ob := or8 (t := t) (a := a) (b := skZ (T 2) (T 6) (wdv g z q) t + 1) t0 (by omega) a0 a1' (by omega) (by omega)
      have p0 := p8_pos (t := t)
      have bd : 0 ≤ (skZ (T 2) (T 6) (wdv g z q) t + 1) * p8 t ∧ (skZ (T 2) (T 6) (wdv g z q) t + 1) * p8 t ≤ 4 * p8 t := ⟨Int.mul_nonneg (by omega) (by omega), Int.mul_le_mul_of_nonneg_right (by omega) (by omega)⟩
      have u : a + pkR (T 2) (T 6) (wdv g z q) (j + 1) t = a + (skZ (T 2) (T 6) (wdv g z q) t + 1) * p8 t + pkR (T 2) (T 6) (wdv g z q) j (t + 1) := by
        show a + ((skZ (T 2) (T 6) (wdv g z q) t + 1) * p8 t + pkR (T 2) (T 6) (wdv g z q) j (t + 1)) = _
        omega
      have ih' := ih (t + 1) (a + (skZ (T 2) (T 6) (wdv g z q) t + 1) * p8 t) (by omega) (by omega) (by omega) (fun h4 => by rw [p8_up t0 (by omega)]; omega) (by omega)
      rw [u, ← ih']
      generalize skZ (T 2) (T 6) (wdv g z q) t = v at se' ob ⊢
      conv => lhs; rw [E7078_4]
      simp (disch := omega) only [jc_ref, rI_int, rR_ref, rR_null, rJ_long, ckR_ref, ckR_null, ckr_ref, ckr_null, ckW_int, ckW_ref, ckW_null, cI_ok, cR_ok, cR_null, cV_ok, cJ_ok, qH_eq, qD_in, aG_ref, aS_ref, aL_ref, pF_ref, cK_ref, cK_null, zI_lit, zJ_lit, zI_add, zI_sub, zI_mul, zI_neg, zI_eq, zI_lt, zI_le, Int.reduceLT, Int.reduceLE, Int.reduceAdd, Int.reduceSub, Int.reduceMul, Int.reduceNeg, Int.reduceEq, Int.reduceNe, reduceIte, tw_0, tw_1, tw_2, tw_3, tw_4, tw_5, tw_6, tw_7, tw_8, tw_9, tw_10, tw_11, tw_12, tw_13, tw_14, tw_15, tw_16, tw_17, tw_18, tw_19, tw_20, tw_21, tw_22, tw_23, tw_24, tw_25, tw_26, tw_27, tw_28, tw_29, tw_30, tw_31, ob_0, ob_1, ob_2, ob_3, ob_4, ob_5, ob_6, ob_7, ob_8, ob_9, ob_10, ob_11, ob_12, ob_13, ob_14, ob_15, ob_16, ob_17, ob_18, ob_19, ob_20, ob_21, ob_22, ob_23, ob_24, ob_25, ob_26, ob_27, ob_28, ob_29, ob_30, ob_31, ob_32, ob_33, ob_34, ob_35, ob_36, ob_37, ob_38, ob_39, ob_40, ob_41, ob_42, ob_43, ob_44, ob_45, ob_46, ob_47, ob_48, ob_49, ob_50, ob_51, ob_52, ob_53, ob_54, ob_55, ob_56, ob_57, ob_58, ob_59, ob_60, ob_61, ob_62, ob_63, ob_64, ob_65, jf7, aGi, aGb, aGz, aGj, leT, leF, ltT, ltF, eqT, eqF, se', ob]
  have k0 := key (T 2 0).toNat 0 0 (by omega) (by omega) (by omega) (fun _ => by decide) (by omega)
  rw [Int.zero_add] at k0
  rw [X7078 _ (tw_recv rfl), E7078_0]
  exact k0
theorem rd_leaf (R : Rd g z l T q) (W : ScW (T 2)) : M (d + 3) 7067 [.ref m] (tw m T h) = some (.inl (some (.int (zI (leafZ g z l (T 2) (T 6) q)))), tw m T h) := by
  have w1 := rd_isW (d := d + 1) (m := m) (h := h) R (w := 1650553445) (by omega) (by omega)
  have w2 := rd_isW (d := d + 1) (m := m) (h := h) R (w := 461414299502) (by omega) (by omega)
  have w3 := rd_isW (d := d + 1) (m := m) (h := h) R (w := 108243635103086) (by omega) (by omega)
  have w4 := rd_isW (d := d + 1) (m := m) (h := h) R (w := 26990) (by omega) (by omega)
  have w5 := rd_isW (d := d + 1) (m := m) (h := h) R (w := 7499639) (by omega) (by omega)
  have w6 := rd_isNm (d := d + 1) (m := m) (h := h) R
  rw [X7067 _ (tw_recv rfl), E7067_0]
  unfold leafZ
  show _ = (some (.inl (some (.int (zI (if isW g z l q 1650553445 = true then 0 else if isW g z l q 461414299502 = true then 1 else if isW g z l q 108243635103086 = true then 2 else if isW g z l q 26990 = true then 3 else if isW g z l q 7499639 = true then 4 else if isNm g z l q = true then 100 + pkZ (T 2) (T 6) (wdv g z q) else -1)))), tw m T h) : Rz)
  cases e1 : isW g z l q 1650553445 with
  | true =>
    rw [if_pos rfl]
    simp (disch := omega) only [jc_ref, rI_int, rR_ref, rR_null, rJ_long, ckR_ref, ckR_null, ckr_ref, ckr_null, ckW_int, ckW_ref, ckW_null, cI_ok, cR_ok, cR_null, cV_ok, cJ_ok, qH_eq, qD_in, aG_ref, aS_ref, aL_ref, pF_ref, cK_ref, cK_null, zI_lit, zJ_lit, zI_add, zI_sub, zI_mul, zI_neg, zI_eq, zI_lt, zI_le, Int.reduceLT, Int.reduceLE, Int.reduceAdd, Int.reduceSub, Int.reduceMul, Int.reduceNeg, Int.reduceEq, Int.reduceNe, reduceIte, tw_0, tw_1, tw_2, tw_3, tw_4, tw_5, tw_6, tw_7, tw_8, tw_9, tw_10, tw_11, tw_12, tw_13, tw_14, tw_15, tw_16, tw_17, tw_18, tw_19, tw_20, tw_21, tw_22, tw_23, tw_24, tw_25, tw_26, tw_27, tw_28, tw_29, tw_30, tw_31, ob_0, ob_1, ob_2, ob_3, ob_4, ob_5, ob_6, ob_7, ob_8, ob_9, ob_10, ob_11, ob_12, ob_13, ob_14, ob_15, ob_16, ob_17, ob_18, ob_19, ob_20, ob_21, ob_22, ob_23, ob_24, ob_25, ob_26, ob_27, ob_28, ob_29, ob_30, ob_31, ob_32, ob_33, ob_34, ob_35, ob_36, ob_37, ob_38, ob_39, ob_40, ob_41, ob_42, ob_43, ob_44, ob_45, ob_46, ob_47, ob_48, ob_49, ob_50, ob_51, ob_52, ob_53, ob_54, ob_55, ob_56, ob_57, ob_58, ob_59, ob_60, ob_61, ob_62, ob_63, ob_64, ob_65, jf7, aGi, aGb, aGz, aGj, leT, leF, ltT, ltF, eqT, eqF, w1, e1, beq_tt, beq_tf, beq_ft, beq_ff, Bool.true_and, Bool.false_and, Bool.and_true, Bool.and_false, Bool.true_or, Bool.false_or, Bool.or_true, Bool.or_false, Bool.true_eq_false, Bool.false_eq_true, Bool.not_true, Bool.not_false, bZ_t, bZ_f, zI_b0, zI_b1, zI_bb, okZ_0, okZ_1]
  | false =>
    rw [if_neg (by decide)]
    cases e2 : isW g z l q 461414299502 with
    | true =>
      rw [if_pos rfl]
      simp (disch := omega) only [jc_ref, rI_int, rR_ref, rR_null, rJ_long, ckR_ref, ckR_null, ckr_ref, ckr_null, ckW_int, ckW_ref, ckW_null, cI_ok, cR_ok, cR_null, cV_ok, cJ_ok, qH_eq, qD_in, aG_ref, aS_ref, aL_ref, pF_ref, cK_ref, cK_null, zI_lit, zJ_lit, zI_add, zI_sub, zI_mul, zI_neg, zI_eq, zI_lt, zI_le, Int.reduceLT, Int.reduceLE, Int.reduceAdd, Int.reduceSub, Int.reduceMul, Int.reduceNeg, Int.reduceEq, Int.reduceNe, reduceIte, tw_0, tw_1, tw_2, tw_3, tw_4, tw_5, tw_6, tw_7, tw_8, tw_9, tw_10, tw_11, tw_12, tw_13, tw_14, tw_15, tw_16, tw_17, tw_18, tw_19, tw_20, tw_21, tw_22, tw_23, tw_24, tw_25, tw_26, tw_27, tw_28, tw_29, tw_30, tw_31, ob_0, ob_1, ob_2, ob_3, ob_4, ob_5, ob_6, ob_7, ob_8, ob_9, ob_10, ob_11, ob_12, ob_13, ob_14, ob_15, ob_16, ob_17, ob_18, ob_19, ob_20, ob_21, ob_22, ob_23, ob_24, ob_25, ob_26, ob_27, ob_28, ob_29, ob_30, ob_31, ob_32, ob_33, ob_34, ob_35, ob_36, ob_37, ob_38, ob_39, ob_40, ob_41, ob_42, ob_43, ob_44, ob_45, ob_46, ob_47, ob_48, ob_49, ob_50, ob_51, ob_52, ob_53, ob_54, ob_55, ob_56, ob_57, ob_58, ob_59, ob_60, ob_61, ob_62, ob_63, ob_64, ob_65, jf7, aGi, aGb, aGz, aGj, leT, leF, ltT, ltF, eqT, eqF, w1, e1, w2, e2, beq_tt, beq_tf, beq_ft, beq_ff, Bool.true_and, Bool.false_and, Bool.and_true, Bool.and_false, Bool.true_or, Bool.false_or, Bool.or_true, Bool.or_false, Bool.true_eq_false, Bool.false_eq_true, Bool.not_true, Bool.not_false, bZ_t, bZ_f, zI_b0, zI_b1, zI_bb, okZ_0, okZ_1]
    | false =>
      rw [if_neg (by decide)]
      cases e3 : isW g z l q 108243635103086 with
      | true =>
        rw [if_pos rfl]
        simp (disch := omega) only [jc_ref, rI_int, rR_ref, rR_null, rJ_long, ckR_ref, ckR_null, ckr_ref, ckr_null, ckW_int, ckW_ref, ckW_null, cI_ok, cR_ok, cR_null, cV_ok, cJ_ok, qH_eq, qD_in, aG_ref, aS_ref, aL_ref, pF_ref, cK_ref, cK_null, zI_lit, zJ_lit, zI_add, zI_sub, zI_mul, zI_neg, zI_eq, zI_lt, zI_le, Int.reduceLT, Int.reduceLE, Int.reduceAdd, Int.reduceSub, Int.reduceMul, Int.reduceNeg, Int.reduceEq, Int.reduceNe, reduceIte, tw_0, tw_1, tw_2, tw_3, tw_4, tw_5, tw_6, tw_7, tw_8, tw_9, tw_10, tw_11, tw_12, tw_13, tw_14, tw_15, tw_16, tw_17, tw_18, tw_19, tw_20, tw_21, tw_22, tw_23, tw_24, tw_25, tw_26, tw_27, tw_28, tw_29, tw_30, tw_31, ob_0, ob_1, ob_2, ob_3, ob_4, ob_5, ob_6, ob_7, ob_8, ob_9, ob_10, ob_11, ob_12, ob_13, ob_14, ob_15, ob_16, ob_17, ob_18, ob_19, ob_20, ob_21, ob_22, ob_23, ob_24, ob_25, ob_26, ob_27, ob_28, ob_29, ob_30, ob_31, ob_32, ob_33, ob_34, ob_35, ob_36, ob_37, ob_38, ob_39, ob_40, ob_41, ob_42, ob_43, ob_44, ob_45, ob_46, ob_47, ob_48, ob_49, ob_50, ob_51, ob_52, ob_53, ob_54, ob_55, ob_56, ob_57, ob_58, ob_59, ob_60, ob_61, ob_62, ob_63, ob_64, ob_65, jf7, aGi, aGb, aGz, aGj, leT, leF, ltT, ltF, eqT, eqF, w1, e1, w2, e2, w3, e3, beq_tt, beq_tf, beq_ft, beq_ff, Bool.true_and, Bool.false_and, Bool.and_true, Bool.and_false, Bool.true_or, Bool.false_or, Bool.or_true, Bool.or_false, Bool.true_eq_false, Bool.false_eq_true, Bool.not_true, Bool.not_false, bZ_t, bZ_f, zI_b0, zI_b1, zI_bb, okZ_0, okZ_1]
      | false =>
        rw [if_neg (by decide)]
        cases e4 : isW g z l q 26990 with
        | true =>
          rw [if_pos rfl]
          simp (disch := omega) only [jc_ref, rI_int, rR_ref, rR_null, rJ_long, ckR_ref, ckR_null, ckr_ref, ckr_null, ckW_int, ckW_ref, ckW_null, cI_ok, cR_ok, cR_null, cV_ok, cJ_ok, qH_eq, qD_in, aG_ref, aS_ref, aL_ref, pF_ref, cK_ref, cK_null, zI_lit, zJ_lit, zI_add, zI_sub, zI_mul, zI_neg, zI_eq, zI_lt, zI_le, Int.reduceLT, Int.reduceLE, Int.reduceAdd, Int.reduceSub, Int.reduceMul, Int.reduceNeg, Int.reduceEq, Int.reduceNe, reduceIte, tw_0, tw_1, tw_2, tw_3, tw_4, tw_5, tw_6, tw_7, tw_8, tw_9, tw_10, tw_11, tw_12, tw_13, tw_14, tw_15, tw_16, tw_17, tw_18, tw_19, tw_20, tw_21, tw_22, tw_23, tw_24, tw_25, tw_26, tw_27, tw_28, tw_29, tw_30, tw_31, ob_0, ob_1, ob_2, ob_3, ob_4, ob_5, ob_6, ob_7, ob_8, ob_9, ob_10, ob_11, ob_12, ob_13, ob_14, ob_15, ob_16, ob_17, ob_18, ob_19, ob_20, ob_21, ob_22, ob_23, ob_24, ob_25, ob_26, ob_27, ob_28, ob_29, ob_30, ob_31, ob_32, ob_33, ob_34, ob_35, ob_36, ob_37, ob_38, ob_39, ob_40, ob_41, ob_42, ob_43, ob_44, ob_45, ob_46, ob_47, ob_48, ob_49, ob_50, ob_51, ob_52, ob_53, ob_54, ob_55, ob_56, ob_57, ob_58, ob_59, ob_60, ob_61, ob_62, ob_63, ob_64, ob_65, jf7, aGi, aGb, aGz, aGj, leT, leF, ltT, ltF, eqT, eqF, w1, e1, w2, e2, w3, e3, w4, e4, beq_tt, beq_tf, beq_ft, beq_ff, Bool.true_and, Bool.false_and, Bool.and_true, Bool.and_false, Bool.true_or, Bool.false_or, Bool.or_true, Bool.or_false, Bool.true_eq_false, Bool.false_eq_true, Bool.not_true, Bool.not_false, bZ_t, bZ_f, zI_b0, zI_b1, zI_bb, okZ_0, okZ_1]
        | false =>
          rw [if_neg (by decide)]
          cases e5 : isW g z l q 7499639 with
          | true =>
            rw [if_pos rfl]
            simp (disch := omega) only [jc_ref, rI_int, rR_ref, rR_null, rJ_long, ckR_ref, ckR_null, ckr_ref, ckr_null, ckW_int, ckW_ref, ckW_null, cI_ok, cR_ok, cR_null, cV_ok, cJ_ok, qH_eq, qD_in, aG_ref, aS_ref, aL_ref, pF_ref, cK_ref, cK_null, zI_lit, zJ_lit, zI_add, zI_sub, zI_mul, zI_neg, zI_eq, zI_lt, zI_le, Int.reduceLT, Int.reduceLE, Int.reduceAdd, Int.reduceSub, Int.reduceMul, Int.reduceNeg, Int.reduceEq, Int.reduceNe, reduceIte, tw_0, tw_1, tw_2, tw_3, tw_4, tw_5, tw_6, tw_7, tw_8, tw_9, tw_10, tw_11, tw_12, tw_13, tw_14, tw_15, tw_16, tw_17, tw_18, tw_19, tw_20, tw_21, tw_22, tw_23, tw_24, tw_25, tw_26, tw_27, tw_28, tw_29, tw_30, tw_31, ob_0, ob_1, ob_2, ob_3, ob_4, ob_5, ob_6, ob_7, ob_8, ob_9, ob_10, ob_11, ob_12, ob_13, ob_14, ob_15, ob_16, ob_17, ob_18, ob_19, ob_20, ob_21, ob_22, ob_23, ob_24, ob_25, ob_26, ob_27, ob_28, ob_29, ob_30, ob_31, ob_32, ob_33, ob_34, ob_35, ob_36, ob_37, ob_38, ob_39, ob_40, ob_41, ob_42, ob_43, ob_44, ob_45, ob_46, ob_47, ob_48, ob_49, ob_50, ob_51, ob_52, ob_53, ob_54, ob_55, ob_56, ob_57, ob_58, ob_59, ob_60, ob_61, ob_62, ob_63, ob_64, ob_65, jf7, aGi, aGb, aGz, aGj, leT, leF, ltT, ltF, eqT, eqF, w1, e1, w2, e2, w3, e3, w4, e4, w5, e5, beq_tt, beq_tf, beq_ft, beq_ff, Bool.true_and, Bool.false_and, Bool.and_true, Bool.and_false, Bool.true_or, Bool.false_or, Bool.or_true, Bool.or_false, Bool.true_eq_false, Bool.false_eq_true, Bool.not_true, Bool.not_false, bZ_t, bZ_f, zI_b0, zI_b1, zI_bb, okZ_0, okZ_1]
          | false =>
            rw [if_neg (by decide)]
            cases e6 : isNm g z l q with
            | false =>
              rw [if_neg (by decide)]
              simp (disch := omega) only [jc_ref, rI_int, rR_ref, rR_null, rJ_long, ckR_ref, ckR_null, ckr_ref, ckr_null, ckW_int, ckW_ref, ckW_null, cI_ok, cR_ok, cR_null, cV_ok, cJ_ok, qH_eq, qD_in, aG_ref, aS_ref, aL_ref, pF_ref, cK_ref, cK_null, zI_lit, zJ_lit, zI_add, zI_sub, zI_mul, zI_neg, zI_eq, zI_lt, zI_le, Int.reduceLT, Int.reduceLE, Int.reduceAdd, Int.reduceSub, Int.reduceMul, Int.reduceNeg, Int.reduceEq, Int.reduceNe, reduceIte, tw_0, tw_1, tw_2, tw_3, tw_4, tw_5, tw_6, tw_7, tw_8, tw_9, tw_10, tw_11, tw_12, tw_13, tw_14, tw_15, tw_16, tw_17, tw_18, tw_19, tw_20, tw_21, tw_22, tw_23, tw_24, tw_25, tw_26, tw_27, tw_28, tw_29, tw_30, tw_31, ob_0, ob_1, ob_2, ob_3, ob_4, ob_5, ob_6, ob_7, ob_8, ob_9, ob_10, ob_11, ob_12, ob_13, ob_14, ob_15, ob_16, ob_17, ob_18, ob_19, ob_20, ob_21, ob_22, ob_23, ob_24, ob_25, ob_26, ob_27, ob_28, ob_29, ob_30, ob_31, ob_32, ob_33, ob_34, ob_35, ob_36, ob_37, ob_38, ob_39, ob_40, ob_41, ob_42, ob_43, ob_44, ob_45, ob_46, ob_47, ob_48, ob_49, ob_50, ob_51, ob_52, ob_53, ob_54, ob_55, ob_56, ob_57, ob_58, ob_59, ob_60, ob_61, ob_62, ob_63, ob_64, ob_65, jf7, aGi, aGb, aGz, aGj, leT, leF, ltT, ltF, eqT, eqF, w1, e1, w2, e2, w3, e3, w4, e4, w5, e5, w6, e6, beq_tt, beq_tf, beq_ft, beq_ff, Bool.true_and, Bool.false_and, Bool.and_true, Bool.and_false, Bool.true_or, Bool.false_or, Bool.or_true, Bool.or_false, Bool.true_eq_false, Bool.false_eq_true, Bool.not_true, Bool.not_false, bZ_t, bZ_f, zI_b0, zI_b1, zI_bb, okZ_0, okZ_1]
            | true =>
              have hk : kd g z l q = 1 := by
                unfold isNm at e6
                simp only [Bool.and_eq_true, decide_eq_true_eq] at e6
                exact e6.1
              have pa := rd_pack (d := d) (m := m) (h := h) R hk W
              rw [if_pos rfl]
              simp (disch := omega) only [jc_ref, rI_int, rR_ref, rR_null, rJ_long, ckR_ref, ckR_null, ckr_ref, ckr_null, ckW_int, ckW_ref, ckW_null, cI_ok, cR_ok, cR_null, cV_ok, cJ_ok, qH_eq, qD_in, aG_ref, aS_ref, aL_ref, pF_ref, cK_ref, cK_null, zI_lit, zJ_lit, zI_add, zI_sub, zI_mul, zI_neg, zI_eq, zI_lt, zI_le, Int.reduceLT, Int.reduceLE, Int.reduceAdd, Int.reduceSub, Int.reduceMul, Int.reduceNeg, Int.reduceEq, Int.reduceNe, reduceIte, tw_0, tw_1, tw_2, tw_3, tw_4, tw_5, tw_6, tw_7, tw_8, tw_9, tw_10, tw_11, tw_12, tw_13, tw_14, tw_15, tw_16, tw_17, tw_18, tw_19, tw_20, tw_21, tw_22, tw_23, tw_24, tw_25, tw_26, tw_27, tw_28, tw_29, tw_30, tw_31, ob_0, ob_1, ob_2, ob_3, ob_4, ob_5, ob_6, ob_7, ob_8, ob_9, ob_10, ob_11, ob_12, ob_13, ob_14, ob_15, ob_16, ob_17, ob_18, ob_19, ob_20, ob_21, ob_22, ob_23, ob_24, ob_25, ob_26, ob_27, ob_28, ob_29, ob_30, ob_31, ob_32, ob_33, ob_34, ob_35, ob_36, ob_37, ob_38, ob_39, ob_40, ob_41, ob_42, ob_43, ob_44, ob_45, ob_46, ob_47, ob_48, ob_49, ob_50, ob_51, ob_52, ob_53, ob_54, ob_55, ob_56, ob_57, ob_58, ob_59, ob_60, ob_61, ob_62, ob_63, ob_64, ob_65, jf7, aGi, aGb, aGz, aGj, leT, leF, ltT, ltF, eqT, eqF, w1, e1, w2, e2, w3, e3, w4, e4, w5, e5, w6, e6, beq_tt, beq_tf, beq_ft, beq_ff, Bool.true_and, Bool.false_and, Bool.and_true, Bool.and_false, Bool.true_or, Bool.false_or, Bool.or_true, Bool.or_false, Bool.true_eq_false, Bool.false_eq_true, Bool.not_true, Bool.not_false, bZ_t, bZ_f, zI_b0, zI_b1, zI_bb, okZ_0, okZ_1, pa]
end
