/-! sort: the stack of runs is brought in order -/
-- jc_ref, rI_int, rR_ref, rR_null, rJ_long, ckR_ref, ckR_null, ckr_ref, ckr_null, ckW_int, ckW_ref, ckW_null, cI_ok, cR_ok, cR_null, cV_ok, cJ_ok, qH_eq, qD_in, aG_ref, aS_ref, aL_ref, pF_ref, cK_ref, cK_null, zI_lit, zJ_lit, zI_add, zI_sub, zI_mul, zI_neg, zI_eq, zI_lt, zI_le, Int.reduceLT, Int.reduceLE, Int.reduceAdd, Int.reduceSub, Int.reduceMul, Int.reduceNeg, Int.reduceEq, Int.reduceNe, reduceIte, jf_in, pFc_in, aGi, aGb, aSi, aLc_in, cKc_in, nA_in, jm_s1, jm_s2, jm_p1, jm_p2, jm_b, jn_b, jn_s, jn_p, jset_jset, jset_jpush2, ckR_is, ckr_is, rR_is, ckW_is, cR_is, obi2, ckW_int, eq_self, if_true, ref_null, if_false, ne_eq, not_true_eq_false, not_false_eq_true, decide_true, decide_false, decide_not, Bool.true_and, Bool.false_and, Bool.and_true, Bool.and_false, Bool.true_or, Bool.false_or, Bool.or_true, Bool.or_false, Bool.not_true, Bool.not_false, Bool.false_eq_true, bI_t, bI_f, Int.natCast_one, Int.cast_ofNat_Int, Int.natCast_zero, Int.toNat_natCast, o72_0, o72_1, o72_2, o72_3, o72_4, o72_5, o72_6, o72_7, n72, o72s_0, o72s_1, o72s_2, o72s_3, o72s_4, o72s_5, o72s_6, o72s_7 = jc_ref, rI_int, rR_ref, rR_null, rJ_long, ckR_ref, ckR_null, ckr_ref, ckr_null, ckW_int, ckW_ref, ckW_null, cI_ok, cR_ok, cR_null, cV_ok, cJ_ok, qH_eq, qD_in, aG_ref, aS_ref, aL_ref, pF_ref, cK_ref, cK_null, zI_lit, zJ_lit, zI_add, zI_sub, zI_mul, zI_neg, zI_eq, zI_lt, zI_le, Int.reduceLT, Int.reduceLE, Int.reduceAdd, Int.reduceSub, Int.reduceMul, Int.reduceNeg, Int.reduceEq, Int.reduceNe, reduceIte, jf_in, pFc_in, aGi, aGb, aSi, aLc_in, cKc_in, nA_in, jm_s1, jm_s2, jm_p1, jm_p2, jm_b, jn_b, jn_s, jn_p, jset_jset, jset_jpush2, ckR_is, ckr_is, rR_is, ckW_is, cR_is, obi2, ckW_int, eq_self, if_true, ref_null, if_false, ne_eq, not_true_eq_false, not_false_eq_true, decide_true, decide_false, decide_not, Bool.true_and, Bool.false_and, Bool.and_true, Bool.and_false, Bool.true_or, Bool.false_or, Bool.or_true, Bool.or_false, Bool.not_true, Bool.not_false, Bool.false_eq_true, bI_t, bI_f, Int.natCast_one, Int.cast_ofNat_Int, Int.natCast_zero, Int.toNat_natCast, o72_0, o72_1, o72_2, o72_3, o72_4, o72_5, o72_6, o72_7, n72, o72s_0, o72s_1, o72s_2, o72s_3, o72s_4, o72s_5, o72s_6, o72s_7
def FulL (k : Nat) (ls : Nat → Nat) : Prop := (∀ i, i + 2 < k → ls (i + 1) + ls (i + 2) < ls i) ∧ ∀ i, i + 1 < k → ls (i + 1) < ls i
section
variable {G : Nat → Option Cl} {rk : Value → Int} {d : Nat} {e ts N rb rl SL En : Nat} {f0 : Nat → Value} {V : Int}
theorem FulL.of {k : Nat} {ls : Nat → Nat} (h : ∀ i, i + 4 < k + 1 → ls (i + 1) + ls (i + 2) < ls i) (t1 : 2 ≤ k → ls (k - 1) + ls k < ls (k - 2)) (t2 : 3 ≤ k → ls (k - 2) + ls (k - 1) < ls (k - 3)) (p : 1 ≤ k → ls k < ls (k - 1)) : FulL (k + 1) ls := by
  have tr : ∀ i, i + 2 < k + 1 → ls (i + 1) + ls (i + 2) < ls i := fun i hi => by
    by_cases c1 : i + 2 = k
    · have := t1 (by omega)
      rw [show i = k - 2 by omega, show k - 2 + 1 = k - 1 by omega, show k - 2 + 2 = k by omega]; exact this
    · by_cases c2 : i + 3 = k
      · have := t2 (by omega)
        rw [show i = k - 3 by omega, show k - 3 + 1 = k - 2 by omega, show k - 3 + 2 = k - 1 by omega]; exact this
      · exact h i (by omega)
  refine ⟨tr, fun i hi => ?_⟩
  by_cases c1 : i + 1 = k
  · have := p (by omega)
    rw [show i = k - 1 by omega, show k - 1 + 1 = k by omega]; exact this
  · have := tr i (by omega)
    omega
theorem c_col {x : Nat} : ∀ (k : Nat) (H : AH) (f : Nat → Value) (mg : Int) (e2 N2 : Nat) (bs ls : Nat → Nat) (v : Value), 1 ≤ k → StS G rk H ts e e2 rb rl N N2 SL k En f0 f mg V bs ls → (∀ i, i + 4 < k → ls (i + 1) + ls (i + 2) < ls i) → (∀ i, i < k → x ≤ ls i) →
    ∃ (H2 : AH) (f' : Nat → Value) (mg' : Int) (e3 N3 k' : Nat) (bs' ls' : Nat → Nat), G2 (d + 7) 72006 0 [.ref ts, v] [] H = some (.inl none, H2) ∧ StS G rk H2 ts e e3 rb rl N N3 SL k' En f0 f' mg' V bs' ls' ∧ (1 ≤ k' ∧ k' ≤ k) ∧ FulL k' ls' ∧ (∀ i, i < k' → x ≤ ls' i) ∧ Fr H H2 (SrtP e ts e2 rb rl) ∧ GroT H H2 N N2 N3 e2 e3 := by
  intro k
  induction k with
  | zero => intro H f mg e2 N2 bs ls v h; omega
  | succ k ih =>
    intro H f mg e2 N2 bs ls v hk h hI hx
    have h0 := h
    obtain ⟨hT, ⟨⟨p, q, a1, a2, a3⟩, b1, b2, -⟩, -⟩ := h
    obtain ⟨-, -, -, -, -, -, -, ms, -⟩ := hT
    by_cases k1 : k = 0
    · refine ⟨H, f, mg, e2, N2, k + 1, bs, ls, ?_, h0, ⟨hk, Nat.le_refl _⟩, FulL.of hI (fun _ => by omega) (fun _ => by omega) (fun _ => by omega), hx, Fr.rf, Or.inl ⟨rfl, rfl, rfl, rfl⟩⟩
      rw [F72006_0v]
      simp (disch := first | assumption | omega | decide | exact okF_i | exact okF_r | exact okF_n | exact okF_j | rfl) only [jc_ref, rI_int, rR_ref, rR_null, rJ_long, ckR_ref, ckR_null, ckr_ref, ckr_null, ckW_int, ckW_ref, ckW_null, cI_ok, cR_ok, cR_null, cV_ok, cJ_ok, qH_eq, qD_in, aG_ref, aS_ref, aL_ref, pF_ref, cK_ref, cK_null, zI_lit, zJ_lit, zI_add, zI_sub, zI_mul, zI_neg, zI_eq, zI_lt, zI_le, Int.reduceLT, Int.reduceLE, Int.reduceAdd, Int.reduceSub, Int.reduceMul, Int.reduceNeg, Int.reduceEq, Int.reduceNe, reduceIte, jf_in, pFc_in, aGi, aGb, aSi, aLc_in, cKc_in, nA_in, jm_s1, jm_s2, jm_p1, jm_p2, jm_b, jn_b, jn_s, jn_p, jset_jset, jset_jpush2, ckR_is, ckr_is, rR_is, ckW_is, cR_is, obi2, ckW_int, eq_self, if_true, ref_null, if_false, ne_eq, not_true_eq_false, not_false_eq_true, decide_true, decide_false, decide_not, Bool.true_and, Bool.false_and, Bool.and_true, Bool.and_false, Bool.true_or, Bool.false_or, Bool.or_true, Bool.or_false, Bool.not_true, Bool.not_false, Bool.false_eq_true, bI_t, bI_f, Int.natCast_one, Int.cast_ofNat_Int, Int.natCast_zero, Int.toNat_natCast, o72_0, o72_1, o72_2, o72_3, o72_4, o72_5, o72_6, o72_7, n72, o72s_0, o72s_1, o72s_2, o72s_3, o72s_4, o72s_5, o72s_6, o72s_7, ms]
      rw [if_pos (by omega)]
    · have step : ∀ i, i + 2 = k + 1 ∨ i + 3 = k + 1 → ∀ v, ∃ (H3 : AH) (f' : Nat → Value) (mg' : Int) (e3 N3 k' : Nat) (bs' ls' : Nat → Nat), zcV (M2 (d + 7) 72005 [.ref ts, .int (zI i)] H) (fun h8 => G2 (d + 7) 72006 0 [.ref ts, v] [] h8) () = some (.inl none, H3) ∧ StS G rk H3 ts e e3 rb rl N N3 SL k' En f0 f' mg' V bs' ls' ∧ (1 ≤ k' ∧ k' ≤ k + 1) ∧ FulL k' ls' ∧ (∀ i, i < k' → x ≤ ls' i) ∧ Fr H H3 (SrtP e ts e2 rb rl) ∧ GroT H H3 N N2 N3 e2 e3 := fun i hi v => by
        obtain ⟨H2, f', mg', e3, N3, y1, y2, y3, y4⟩ := c_stp (d := d) h0 hi
        obtain ⟨H3, f2, mg2, e4, N4, k', bs', ls', z1, z2, z3, z4, zx, z5, z6⟩ := ih H2 f' mg' e3 N3 _ _ v (by omega) y2 (fun j hj => by
          unfold dlL
          rw [if_pos (show j + 1 < i by omega), if_pos (show j + 2 < i by omega), if_pos (show j < i by omega)]
          exact hI j (by omega)) (fun j hj => by
          unfold dlL
          by_cases c1 : j < i
          · rw [if_pos c1]; exact hx j (by omega)
          · rw [if_neg c1]
            by_cases c2 : j = i
            · rw [if_pos c2]; have := hx i (by omega); omega
            · rw [if_neg c2]; exact hx (j + 1) (by omega))
        exact ⟨H3, f2, mg2, e4, N4, k', bs', ls', by rw [y1, cV_ok]; exact z1, z2, ⟨z3.1, by omega⟩, z4, zx, SrtP.tr y3 z5 y4, y4.tr z6⟩
      have lb : ∀ i, i < k + 1 → ls i ≤ 1000 := fun i hi => by
        have o := (h0.2.2.1).ord (k - i) i (by omega)
        have hE := h0.2.2.2.1
        have hN := h0.1.2.2.2.1
        rw [show i + (k - i) = k by omega] at o
        rw [show k + 1 - 1 = k by omega] at hE
        by_cases hh : k - i = 0
        · rw [show i = k by omega]; omega
        · rw [if_neg hh] at o; omega
      obtain ⟨n, hn⟩ : ∃ n : Int, n = ((k + 1 : Nat) : Int) - 2 := ⟨_, rfl⟩
      have qa : q n = ls (k - 1) := by
        have := (a3 (k - 1) (by omega)).2
        rw [show ((k - 1 : Nat) : Int) = n by omega] at this; exact this
      have qb : q (n + 1) = ls k := by
        have := (a3 k (by omega)).2
        rw [show ((k : Nat) : Int) = n + 1 by omega] at this; exact this
      have qc : 2 ≤ k → q (n - 1) = ls (k - 2) := fun hk2 => by
        have := (a3 (k - 2) (by omega)).2
        rw [show ((k - 2 : Nat) : Int) = n - 1 by omega] at this; exact this
      have qd : 3 ≤ k → q (n - 2) = ls (k - 3) := fun hk2 => by
        have := (a3 (k - 3) (by omega)).2
        rw [show ((k - 3 : Nat) : Int) = n - 2 by omega] at this; exact this
      have l0 := lb k (by omega)
      have l1 := lb (k - 1) (by omega)
      have l2 := lb (k - 2) (by omega)
      have l3 := lb (k - 3) (by omega)
      have c2 : n = ((k - 1 : Nat) : Int) := by omega
      have m101 : (2 ≤ k → ls (k - 1) + ls k < ls (k - 2)) → (3 ≤ k → ls (k - 2) + ls (k - 1) < ls (k - 3)) → ∃ (H3 : AH) (f' : Nat → Value) (mg' : Int) (e3 N3 k' : Nat) (bs' ls' : Nat → Nat), G2 (d + 7) 72006 101 [.ref ts, .int (zI n)] [] H = some (.inl none, H3) ∧ StS G rk H3 ts e e3 rb rl N N3 SL k' En f0 f' mg' V bs' ls' ∧ (1 ≤ k' ∧ k' ≤ k + 1) ∧ FulL k' ls' ∧ (∀ i, i < k' → x ≤ ls' i) ∧ Fr H H3 (SrtP e ts e2 rb rl) ∧ GroT H H3 N N2 N3 e2 e3 := fun t1 t2 => by
        rw [F72006_101]
        simp (disch := first | assumption | omega | decide | exact okF_i | exact okF_r | exact okF_n | exact okF_j | rfl) only [jc_ref, rI_int, rR_ref, rR_null, rJ_long, ckR_ref, ckR_null, ckr_ref, ckr_null, ckW_int, ckW_ref, ckW_null, cI_ok, cR_ok, cR_null, cV_ok, cJ_ok, qH_eq, qD_in, aG_ref, aS_ref, aL_ref, pF_ref, cK_ref, cK_null, zI_lit, zJ_lit, zI_add, zI_sub, zI_mul, zI_neg, zI_eq, zI_lt, zI_le, Int.reduceLT, Int.reduceLE, Int.reduceAdd, Int.reduceSub, Int.reduceMul, Int.reduceNeg, Int.reduceEq, Int.reduceNe, reduceIte, jf_in, pFc_in, aGi, aGb, aSi, aLc_in, cKc_in, nA_in, jm_s1, jm_s2, jm_p1, jm_p2, jm_b, jn_b, jn_s, jn_p, jset_jset, jset_jpush2, ckR_is, ckr_is, rR_is, ckW_is, cR_is, obi2, ckW_int, eq_self, if_true, ref_null, if_false, ne_eq, not_true_eq_false, not_false_eq_true, decide_true, decide_false, decide_not, Bool.true_and, Bool.false_and, Bool.and_true, Bool.and_false, Bool.true_or, Bool.false_or, Bool.or_true, Bool.or_false, Bool.not_true, Bool.not_false, Bool.false_eq_true, bI_t, bI_f, Int.natCast_one, Int.cast_ofNat_Int, Int.natCast_zero, Int.toNat_natCast, o72_0, o72_1, o72_2, o72_3, o72_4, o72_5, o72_6, o72_7, n72, o72s_0, o72s_1, o72s_2, o72s_3, o72s_4, o72s_5, o72s_6, o72s_7, ms, a2, qa, qb]
        rw [if_neg (by omega)]
        by_cases hc : ls (k - 1) ≤ ls k
        · rw [if_pos (show (ls (k - 1) : Int) ≤ ls k by omega), c2]
          exact step (k - 1) (by omega) _
        · rw [if_neg (show ¬ (ls (k - 1) : Int) ≤ ls k by omega)]
          exact ⟨H, f, mg, e2, N2, k + 1, bs, ls, rfl, h0, ⟨hk, Nat.le_refl _⟩, FulL.of hI t1 t2 (fun _ => by omega), hx, Fr.rf, Or.inl ⟨rfl, rfl, rfl, rfl⟩⟩
      have m76 : 2 ≤ k → ∃ (H3 : AH) (f' : Nat → Value) (mg' : Int) (e3 N3 k' : Nat) (bs' ls' : Nat → Nat), G2 (d + 7) 72006 76 [.ref ts, .int (zI n)] [] H = some (.inl none, H3) ∧ StS G rk H3 ts e e3 rb rl N N3 SL k' En f0 f' mg' V bs' ls' ∧ (1 ≤ k' ∧ k' ≤ k + 1) ∧ FulL k' ls' ∧ (∀ i, i < k' → x ≤ ls' i) ∧ Fr H H3 (SrtP e ts e2 rb rl) ∧ GroT H H3 N N2 N3 e2 e3 := fun hk2 => by
        have qc' := qc hk2
        have c3 : n + -1 = ((k - 2 : Nat) : Int) := by omega
        rw [F72006_76]
        simp (disch := first | assumption | omega | decide | exact okF_i | exact okF_r | exact okF_n | exact okF_j | rfl) only [jc_ref, rI_int, rR_ref, rR_null, rJ_long, ckR_ref, ckR_null, ckr_ref, ckr_null, ckW_int, ckW_ref, ckW_null, cI_ok, cR_ok, cR_null, cV_ok, cJ_ok, qH_eq, qD_in, aG_ref, aS_ref, aL_ref, pF_ref, cK_ref, cK_null, zI_lit, zJ_lit, zI_add, zI_sub, zI_mul, zI_neg, zI_eq, zI_lt, zI_le, Int.reduceLT, Int.reduceLE, Int.reduceAdd, Int.reduceSub, Int.reduceMul, Int.reduceNeg, Int.reduceEq, Int.reduceNe, reduceIte, jf_in, pFc_in, aGi, aGb, aSi, aLc_in, cKc_in, nA_in, jm_s1, jm_s2, jm_p1, jm_p2, jm_b, jn_b, jn_s, jn_p, jset_jset, jset_jpush2, ckR_is, ckr_is, rR_is, ckW_is, cR_is, obi2, ckW_int, eq_self, if_true, ref_null, if_false, ne_eq, not_true_eq_false, not_false_eq_true, decide_true, decide_false, decide_not, Bool.true_and, Bool.false_and, Bool.and_true, Bool.and_false, Bool.true_or, Bool.false_or, Bool.or_true, Bool.or_false, Bool.not_true, Bool.not_false, Bool.false_eq_true, bI_t, bI_f, Int.natCast_one, Int.cast_ofNat_Int, Int.natCast_zero, Int.toNat_natCast, o72_0, o72_1, o72_2, o72_3, o72_4, o72_5, o72_6, o72_7, n72, o72s_0, o72s_1, o72s_2, o72s_3, o72s_4, o72s_5, o72s_6, o72s_7, ms, a2, qc', qb]
        by_cases hc : ls k ≤ ls (k - 2)
        · rw [if_pos (show (ls k : Int) ≤ ls (k - 2) by omega), c2]
          exact step (k - 1) (by omega) _
        · rw [if_neg (show ¬ (ls k : Int) ≤ ls (k - 2) by omega), c3]
          exact step (k - 2) (by omega) _
      have m45 : (2 ≤ k → ls (k - 1) + ls k < ls (k - 2)) → ∃ (H3 : AH) (f' : Nat → Value) (mg' : Int) (e3 N3 k' : Nat) (bs' ls' : Nat → Nat), G2 (d + 7) 72006 45 [.ref ts, .int (zI n)] [] H = some (.inl none, H3) ∧ StS G rk H3 ts e e3 rb rl N N3 SL k' En f0 f' mg' V bs' ls' ∧ (1 ≤ k' ∧ k' ≤ k + 1) ∧ FulL k' ls' ∧ (∀ i, i < k' → x ≤ ls' i) ∧ Fr H H3 (SrtP e ts e2 rb rl) ∧ GroT H H3 N N2 N3 e2 e3 := fun t1 => by
        rw [F72006_45]
        simp (disch := first | assumption | omega | decide | exact okF_i | exact okF_r | exact okF_n | exact okF_j | rfl) only [jc_ref, rI_int, rR_ref, rR_null, rJ_long, ckR_ref, ckR_null, ckr_ref, ckr_null, ckW_int, ckW_ref, ckW_null, cI_ok, cR_ok, cR_null, cV_ok, cJ_ok, qH_eq, qD_in, aG_ref, aS_ref, aL_ref, pF_ref, cK_ref, cK_null, zI_lit, zJ_lit, zI_add, zI_sub, zI_mul, zI_neg, zI_eq, zI_lt, zI_le, Int.reduceLT, Int.reduceLE, Int.reduceAdd, Int.reduceSub, Int.reduceMul, Int.reduceNeg, Int.reduceEq, Int.reduceNe, reduceIte, jf_in, pFc_in, aGi, aGb, aSi, aLc_in, cKc_in, nA_in, jm_s1, jm_s2, jm_p1, jm_p2, jm_b, jn_b, jn_s, jn_p, jset_jset, jset_jpush2, ckR_is, ckr_is, rR_is, ckW_is, cR_is, obi2, ckW_int, eq_self, if_true, ref_null, if_false, ne_eq, not_true_eq_false, not_false_eq_true, decide_true, decide_false, decide_not, Bool.true_and, Bool.false_and, Bool.and_true, Bool.and_false, Bool.true_or, Bool.false_or, Bool.or_true, Bool.or_false, Bool.not_true, Bool.not_false, Bool.false_eq_true, bI_t, bI_f, Int.natCast_one, Int.cast_ofNat_Int, Int.natCast_zero, Int.toNat_natCast, o72_0, o72_1, o72_2, o72_3, o72_4, o72_5, o72_6, o72_7, n72, o72s_0, o72s_1, o72s_2, o72s_3, o72s_4, o72s_5, o72s_6, o72s_7, ms]
        by_cases h3 : 3 ≤ k
        · have qc' := qc (by omega)
          have qd' := qd h3
          rw [if_neg (by omega)]
          simp (disch := first | assumption | omega | decide | exact okF_i | exact okF_r | exact okF_n | exact okF_j | rfl) only [jc_ref, rI_int, rR_ref, rR_null, rJ_long, ckR_ref, ckR_null, ckr_ref, ckr_null, ckW_int, ckW_ref, ckW_null, cI_ok, cR_ok, cR_null, cV_ok, cJ_ok, qH_eq, qD_in, aG_ref, aS_ref, aL_ref, pF_ref, cK_ref, cK_null, zI_lit, zJ_lit, zI_add, zI_sub, zI_mul, zI_neg, zI_eq, zI_lt, zI_le, Int.reduceLT, Int.reduceLE, Int.reduceAdd, Int.reduceSub, Int.reduceMul, Int.reduceNeg, Int.reduceEq, Int.reduceNe, reduceIte, jf_in, pFc_in, aGi, aGb, aSi, aLc_in, cKc_in, nA_in, jm_s1, jm_s2, jm_p1, jm_p2, jm_b, jn_b, jn_s, jn_p, jset_jset, jset_jpush2, ckR_is, ckr_is, rR_is, ckW_is, cR_is, obi2, ckW_int, eq_self, if_true, ref_null, if_false, ne_eq, not_true_eq_false, not_false_eq_true, decide_true, decide_false, decide_not, Bool.true_and, Bool.false_and, Bool.and_true, Bool.and_false, Bool.true_or, Bool.false_or, Bool.or_true, Bool.or_false, Bool.not_true, Bool.not_false, Bool.false_eq_true, bI_t, bI_f, Int.natCast_one, Int.cast_ofNat_Int, Int.natCast_zero, Int.toNat_natCast, o72_0, o72_1, o72_2, o72_3, o72_4, o72_5, o72_6, o72_7, n72, o72s_0, o72s_1, o72s_2, o72s_3, o72s_4, o72s_5, o72s_6, o72s_7, ms, a2, qa, qc', qd']
          by_cases hc : ls (k - 1) + ls (k - 2) < ls (k - 3)
          · rw [if_pos (show (ls (k - 1) : Int) + ls (k - 2) < ls (k - 3) by omega)]
            exact m101 t1 (fun _ => by omega)
          · rw [if_neg (show ¬ (ls (k - 1) : Int) + ls (k - 2) < ls (k - 3) by omega)]
            exact m76 (by omega)
        · rw [if_pos (by omega)]
          exact m101 t1 (fun z => absurd z h3)
      rw [F72006_0v]
      simp (disch := first | assumption | omega | decide | exact okF_i | exact okF_r | exact okF_n | exact okF_j | rfl) only [jc_ref, rI_int, rR_ref, rR_null, rJ_long, ckR_ref, ckR_null, ckr_ref, ckr_null, ckW_int, ckW_ref, ckW_null, cI_ok, cR_ok, cR_null, cV_ok, cJ_ok, qH_eq, qD_in, aG_ref, aS_ref, aL_ref, pF_ref, cK_ref, cK_null, zI_lit, zJ_lit, zI_add, zI_sub, zI_mul, zI_neg, zI_eq, zI_lt, zI_le, Int.reduceLT, Int.reduceLE, Int.reduceAdd, Int.reduceSub, Int.reduceMul, Int.reduceNeg, Int.reduceEq, Int.reduceNe, reduceIte, jf_in, pFc_in, aGi, aGb, aSi, aLc_in, cKc_in, nA_in, jm_s1, jm_s2, jm_p1, jm_p2, jm_b, jn_b, jn_s, jn_p, jset_jset, jset_jpush2, ckR_is, ckr_is, rR_is, ckW_is, cR_is, obi2, ckW_int, eq_self, if_true, ref_null, if_false, ne_eq, not_true_eq_false, not_false_eq_true, decide_true, decide_false, decide_not, Bool.true_and, Bool.false_and, Bool.and_true, Bool.and_false, Bool.true_or, Bool.false_or, Bool.or_true, Bool.or_false, Bool.not_true, Bool.not_false, Bool.false_eq_true, bI_t, bI_f, Int.natCast_one, Int.cast_ofNat_Int, Int.natCast_zero, Int.toNat_natCast, o72_0, o72_1, o72_2, o72_3, o72_4, o72_5, o72_6, o72_7, n72, o72s_0, o72s_1, o72s_2, o72s_3, o72s_4, o72s_5, o72s_6, o72s_7, ms, ← hn]
      rw [if_neg (by omega)]
      by_cases h2 : 2 ≤ k
      · have qc' := qc h2
        rw [if_neg (by omega)]
        simp (disch := first | assumption | omega | decide | exact okF_i | exact okF_r | exact okF_n | exact okF_j | rfl) only [jc_ref, rI_int, rR_ref, rR_null, rJ_long, ckR_ref, ckR_null, ckr_ref, ckr_null, ckW_int, ckW_ref, ckW_null, cI_ok, cR_ok, cR_null, cV_ok, cJ_ok, qH_eq, qD_in, aG_ref, aS_ref, aL_ref, pF_ref, cK_ref, cK_null, zI_lit, zJ_lit, zI_add, zI_sub, zI_mul, zI_neg, zI_eq, zI_lt, zI_le, Int.reduceLT, Int.reduceLE, Int.reduceAdd, Int.reduceSub, Int.reduceMul, Int.reduceNeg, Int.reduceEq, Int.reduceNe, reduceIte, jf_in, pFc_in, aGi, aGb, aSi, aLc_in, cKc_in, nA_in, jm_s1, jm_s2, jm_p1, jm_p2, jm_b, jn_b, jn_s, jn_p, jset_jset, jset_jpush2, ckR_is, ckr_is, rR_is, ckW_is, cR_is, obi2, ckW_int, eq_self, if_true, ref_null, if_false, ne_eq, not_true_eq_false, not_false_eq_true, decide_true, decide_false, decide_not, Bool.true_and, Bool.false_and, Bool.and_true, Bool.and_false, Bool.true_or, Bool.false_or, Bool.or_true, Bool.or_false, Bool.not_true, Bool.not_false, Bool.false_eq_true, bI_t, bI_f, Int.natCast_one, Int.cast_ofNat_Int, Int.natCast_zero, Int.toNat_natCast, o72_0, o72_1, o72_2, o72_3, o72_4, o72_5, o72_6, o72_7, n72, o72s_0, o72s_1, o72s_2, o72s_3, o72s_4, o72s_5, o72s_6, o72s_7, ms, a2, ← hn, qa, qb, qc']
        by_cases hc : ls (k - 2) ≤ ls (k - 1) + ls k
        · rw [if_pos (show (ls (k - 2) : Int) ≤ ls (k - 1) + ls k by omega)]
          exact m76 h2
        · rw [if_neg (show ¬ (ls (k - 2) : Int) ≤ ls (k - 1) + ls k by omega)]
          exact m45 (fun _ => by omega)
      · rw [if_pos (by omega)]
        exact m45 (fun z => absurd z h2)
end
