/-! sort: mergeLo -/
-- jc_ref, rI_int, rR_ref, rR_null, rJ_long, ckR_ref, ckR_null, ckr_ref, ckr_null, ckW_int, ckW_ref, ckW_null, cI_ok, cR_ok, cR_null, cV_ok, cJ_ok, qH_eq, qD_in, aG_ref, aS_ref, aL_ref, pF_ref, cK_ref, cK_null, zI_lit, zJ_lit, zI_add, zI_sub, zI_mul, zI_neg, zI_eq, zI_lt, zI_le, Int.reduceLT, Int.reduceLE, Int.reduceAdd, Int.reduceSub, Int.reduceMul, Int.reduceNeg, Int.reduceEq, Int.reduceNe, reduceIte, jf_in, pFc_in, aGi, aGb, aSi, aLc_in, cKc_in, nA_in, jm_s1, jm_s2, jm_p1, jm_p2, jm_b, jn_b, jn_s, jn_p, jset_jset, jset_jpush2, ckR_is, ckr_is, rR_is, ckW_is, cR_is, obi2, ckW_int, eq_self, if_true, ref_null, if_false, ne_eq, not_true_eq_false, not_false_eq_true, decide_true, decide_false, decide_not, Bool.true_and, Bool.false_and, Bool.and_true, Bool.and_false, Bool.true_or, Bool.false_or, Bool.or_true, Bool.or_false, Bool.not_true, Bool.not_false, Bool.false_eq_true, bI_t, bI_f, Int.natCast_one, Int.cast_ofNat_Int, Int.natCast_zero, aGc_V, Int.toNat_natCast, or0, or0', or00, or10, or01, or11, o72_0, o72_1, o72_2, o72_3, o72_4, o72_5, o72_6, o72_7, n72, o72s_0, o72s_1, o72s_2, o72s_3, o72s_4, o72s_5, o72s_6, o72s_7 = jc_ref, rI_int, rR_ref, rR_null, rJ_long, ckR_ref, ckR_null, ckr_ref, ckr_null, ckW_int, ckW_ref, ckW_null, cI_ok, cR_ok, cR_null, cV_ok, cJ_ok, qH_eq, qD_in, aG_ref, aS_ref, aL_ref, pF_ref, cK_ref, cK_null, zI_lit, zJ_lit, zI_add, zI_sub, zI_mul, zI_neg, zI_eq, zI_lt, zI_le, Int.reduceLT, Int.reduceLE, Int.reduceAdd, Int.reduceSub, Int.reduceMul, Int.reduceNeg, Int.reduceEq, Int.reduceNe, reduceIte, jf_in, pFc_in, aGi, aGb, aSi, aLc_in, cKc_in, nA_in, jm_s1, jm_s2, jm_p1, jm_p2, jm_b, jn_b, jn_s, jn_p, jset_jset, jset_jpush2, ckR_is, ckr_is, rR_is, ckW_is, cR_is, obi2, ckW_int, eq_self, if_true, ref_null, if_false, ne_eq, not_true_eq_false, not_false_eq_true, decide_true, decide_false, decide_not, Bool.true_and, Bool.false_and, Bool.and_true, Bool.and_false, Bool.true_or, Bool.false_or, Bool.or_true, Bool.or_false, Bool.not_true, Bool.not_false, Bool.false_eq_true, bI_t, bI_f, Int.natCast_one, Int.cast_ofNat_Int, Int.natCast_zero, aGc_V, Int.toNat_natCast, or0, or0', or00, or10, or01, or11, o72_0, o72_1, o72_2, o72_3, o72_4, o72_5, o72_6, o72_7, n72, o72s_0, o72s_1, o72s_2, o72s_3, o72s_4, o72s_5, o72s_6, o72s_7
theorem or0 {x : Int32} : (x ||| zI 0) = x := Int32.or_zero
theorem or0' {x : Int32} : (zI 0 ||| x) = x := Int32.zero_or
theorem or00 : (zI 0 ||| zI 0) = zI 0 := by decide
theorem or10 : (zI 1 ||| zI 0) = zI 1 := by decide
theorem or01 : (zI 0 ||| zI 1) = zI 1 := by decide
theorem or11 : (zI 1 ||| zI 1) = zI 1 := by decide
/-- after a merge -/
def MPost (H H2 : AH) (e N : Nat) (f : Nat → Value) (ts : Nat) (o : Nat → Value) : Prop := jm H2 e = some (1040, N, f) ∧ jm H2 ts = some (72, 8, o) ∧ Fr H H2 (fun q => q = e ∨ q = ts) ∧ H2.1 = H.1 ∧ H2.2.1 = H.2.1
section
variable {G : Nat → Option Cl} {rk : Value → Int} {d : Nat} {H : AH} {e e2 ts N N2 B E j c1 n1 c2 n2 : Nat} {f0 f t : Nat → Value} {x1 tl ss : Int} {rb rl : Value} {mg U : Int}
/-- what the walk stands on -/
def MCtx (G : Nat → Option Cl) (H : AH) (e e2 ts N N2 E : Nat) (t : Nat → Value) (x1 tl ss : Int) (rb rl : Value) : Prop := Fzn G H ∧ G e = none ∧ G ts = none ∧ N < 100000 ∧ N2 < 100000 ∧ (∃ f, jm H e = some (1040, N, f)) ∧ jm H e2 = some (1040, N2, t) ∧ jm H ts = some (72, 8, o72 (.ref e) x1 (.ref e2) 0 tl ss rb rl) ∧ e2 ≠ e ∧ ts ≠ e ∧ ts ≠ e2 ∧ E ≤ N
def MRes (G : Nat → Option Cl) (rk : Value → Int) (H : AH) (e ts N B E : Nat) (f0 : Nat → Value) (e2 : Nat) (tl ss : Int) (rb rl : Value) (U : Int) (r : Rz) : Prop := ∃ (H2 : AH) (f : Nat → Value) (mg : Int), r = some (.inl none, H2) ∧ MPost H H2 e N f ts (o72 (.ref e) mg (.ref e2) 0 tl ss rb rl) ∧ (1 ≤ mg ∧ mg ≤ U) ∧ SrtA rk f B (E - B) ∧ PmR f0 f B (E - B)
theorem MI.ok1 (h : MI G rk f0 B E f t j c1 n1 c2 n2) : ∀ x, c1 ≤ x → x < c1 + n1 → Cmp G (t x) (rk (t x)) := h.2.2.2.2.2.2.2.2.2.1
theorem MI.ok2 (h : MI G rk f0 B E f t j c1 n1 c2 n2) : ∀ x, c2 ≤ x → x < c2 + n2 → Cmp G (f x) (rk (f x)) := h.2.2.2.2.2.2.2.2.2.2
theorem ml_exit (hC : MCtx G H e e2 ts N N2 E t x1 tl ss rb rl) (h : MI G rk f0 B E f t j c1 n1 c2 n2) (hx : n1 = 1 ∨ n2 = 0) (hL : c1 + n1 ≤ N2) (hm : 1 ≤ mg ∧ mg ≤ U) {y1 y3 y10 y11 y12 : Int} :
    MRes G rk H e ts N B E f0 e2 tl ss rb rl U (G2 (d + 4) 72009 535 [.ref ts, .int (zI y1), .int (zI n1), .int (zI y3), .int (zI n2), .ref e, .ref e2, .int (zI c1), .int (zI c2), .int (zI j), .int (zI y10), .int (zI y11), .int (zI y12)] [.int (zI mg), .ref ts] (jset H e (1040, N, f))) := by
  obtain ⟨hG, hGe, hGt, hN, hN2, -, m_t, m_s, ne1, ne2, ne3, hE⟩ := hC
  obtain ⟨b1, b2, b3, b4⟩ := h.1
  have ne1' := Ne.symm ne1
  have ne2' := Ne.symm ne2
  have ne3' := Ne.symm ne3
  have mA : ∀ c, jm (jset (jset H e (1040, N, f)) ts c) e = some (1040, N, f) := fun c => (jm_s2 ne2').trans jm_s1
  have mT : ∀ c, jm (jset (jset H e (1040, N, f)) ts c) e2 = some (1040, N2, t) := fun c => (jm_s2 ne3').trans ((jm_s2 ne1).trans m_t)
  have post : ∀ f' : Nat → Value, MPost H (jset (jset (jset H e (1040, N, f)) ts (72, 8, o72 (.ref e) mg (.ref e2) 0 tl ss rb rl)) e (1040, N, f')) e N f' ts (o72 (.ref e) mg (.ref e2) 0 tl ss rb rl) := fun f' => ⟨jm_s1, (jm_s2 ne2).trans jm_s1, (Fr.set (Or.inl rfl)).tr ((Fr.set (Or.inr rfl)).tr (Fr.set (Or.inl rfl))), rfl, rfl⟩
  by_cases h1 : n1 = 1
  · subst h1
    have cpy := acp2 (d := d + 3) (sp := c2) (dp := j) (k := n2) (mA (72, 8, o72 (.ref e) mg (.ref e2) 0 tl ss rb rl)) (mA _) rfl (by omega) (by omega) (by omega) (by omega)
    have a1 := h.ok1 c1 (Nat.le_refl _) (by omega)
    have r1 := a1.R
    have hG2 : Fzn G (jset (jset (jset H e (1040, N, f)) ts (72, 8, o72 (.ref e) mg (.ref e2) 0 tl ss rb rl)) e (1040, N, jcpy f f c2 j n2)) := by
      have k1 := hG.arr hGe (c := (1040, N, f))
      have k2 : Fzn G (jset (jset H e (1040, N, f)) ts (72, 8, o72 (.ref e) mg (.ref e2) 0 tl ss rb rl)) := k1.arr hGt
      exact k2.arr hGe
    have s1 := fun (κ : AH → Rz) (u : Ph κ) => aSr_in (κ := κ) (u := u) (h := jset (jset (jset H e (1040, N, f)) ts (72, 8, o72 (.ref e) mg (.ref e2) 0 tl ss rb rl)) e (1040, N, jcpy f f c2 j n2)) jm_s1 (a1.ok hG2) (i := ((j + n2 : Nat) : Int)) (by omega) (by omega) (by omega)
    have cj : (j : Int) + n2 = ((j + n2 : Nat) : Int) := by omega
    refine ⟨_, ju (jcpy f f c2 j n2) (j + n2) (t c1), mg, ?_, post _, hm, ?_⟩
    · rw [F72009_535]
      simp (disch := first | assumption | omega | decide | exact okF_i | exact okF_r | exact okF_n | exact okF_j | rfl) only [jc_ref, rI_int, rR_ref, rR_null, rJ_long, ckR_ref, ckR_null, ckr_ref, ckr_null, ckW_int, ckW_ref, ckW_null, cI_ok, cR_ok, cR_null, cV_ok, cJ_ok, qH_eq, qD_in, aG_ref, aS_ref, aL_ref, pF_ref, cK_ref, cK_null, zI_lit, zJ_lit, zI_add, zI_sub, zI_mul, zI_neg, zI_eq, zI_lt, zI_le, Int.reduceLT, Int.reduceLE, Int.reduceAdd, Int.reduceSub, Int.reduceMul, Int.reduceNeg, Int.reduceEq, Int.reduceNe, reduceIte, jf_in, pFc_in, aGi, aGb, aSi, aLc_in, cKc_in, nA_in, jm_s1, jm_s2, jm_p1, jm_p2, jm_b, jn_b, jn_s, jn_p, jset_jset, jset_jpush2, ckR_is, ckr_is, rR_is, ckW_is, cR_is, obi2, ckW_int, eq_self, if_true, ref_null, if_false, ne_eq, not_true_eq_false, not_false_eq_true, decide_true, decide_false, decide_not, Bool.true_and, Bool.false_and, Bool.and_true, Bool.and_false, Bool.true_or, Bool.false_or, Bool.or_true, Bool.or_false, Bool.not_true, Bool.not_false, Bool.false_eq_true, bI_t, bI_f, Int.natCast_one, Int.cast_ofNat_Int, Int.natCast_zero, aGc_V, Int.toNat_natCast, or0, or0', or00, or10, or01, or11, o72_0, o72_1, o72_2, o72_3, o72_4, o72_5, o72_6, o72_7, n72, o72s_0, o72s_1, o72s_2, o72s_3, o72s_4, o72s_5, o72s_6, o72s_7, m_s]
      rw [F72009_562]
      simp (disch := first | assumption | omega | decide | exact okF_i | exact okF_r | exact okF_n | exact okF_j | rfl) only [jc_ref, rI_int, rR_ref, rR_null, rJ_long, ckR_ref, ckR_null, ckr_ref, ckr_null, ckW_int, ckW_ref, ckW_null, cI_ok, cR_ok, cR_null, cV_ok, cJ_ok, qH_eq, qD_in, aG_ref, aS_ref, aL_ref, pF_ref, cK_ref, cK_null, zI_lit, zJ_lit, zI_add, zI_sub, zI_mul, zI_neg, zI_eq, zI_lt, zI_le, Int.reduceLT, Int.reduceLE, Int.reduceAdd, Int.reduceSub, Int.reduceMul, Int.reduceNeg, Int.reduceEq, Int.reduceNe, reduceIte, jf_in, pFc_in, aGi, aGb, aSi, aLc_in, cKc_in, nA_in, jm_s1, jm_s2, jm_p1, jm_p2, jm_b, jn_b, jn_s, jn_p, jset_jset, jset_jpush2, ckR_is, ckr_is, rR_is, ckW_is, cR_is, obi2, ckW_int, eq_self, if_true, ref_null, if_false, ne_eq, not_true_eq_false, not_false_eq_true, decide_true, decide_false, decide_not, Bool.true_and, Bool.false_and, Bool.and_true, Bool.and_false, Bool.true_or, Bool.false_or, Bool.or_true, Bool.or_false, Bool.not_true, Bool.not_false, Bool.false_eq_true, bI_t, bI_f, Int.natCast_one, Int.cast_ofNat_Int, Int.natCast_zero, aGc_V, Int.toNat_natCast, or0, or0', or00, or10, or01, or11, o72_0, o72_1, o72_2, o72_3, o72_4, o72_5, o72_6, o72_7, n72, o72s_0, o72s_1, o72s_2, o72s_3, o72s_4, o72s_5, o72s_6, o72s_7, cpy, mT, m_t, s1, cj]
    · have hR := h.mvR (k := n2) (f2 := jcpy f f c2 j n2) (Nat.le_refl _) (fun i a b => by
        have := h.2.2.2.2.2.2.2.2.1 i a (by omega)
        rw [Nat.add_sub_cancel] at this
        omega) (fun i a b => by rw [jcpy, if_pos ⟨a, b⟩]) (fun i a => by rw [jcpy, if_neg (by omega)])
      rw [Nat.sub_self] at hR
      exact hR.fin (fun i a b => by rw [show i = j + n2 by omega, juE, Nat.sub_self]; rfl) (fun i a => juN (by omega))
  · have h2 : n2 = 0 := by omega
    subst h2
    have cpy := acp2 (d := d + 3) (sp := c1) (dp := j) (k := n1) (mT (72, 8, o72 (.ref e) mg (.ref e2) 0 tl ss rb rl)) (mA _) rfl (by omega) (by omega) (by omega) (by omega)
    refine ⟨_, jcpy t f c1 j n1, mg, ?_, post _, hm, ?_⟩
    · rw [F72009_535]
      simp (disch := first | assumption | omega | decide | exact okF_i | exact okF_r | exact okF_n | exact okF_j | rfl) only [jc_ref, rI_int, rR_ref, rR_null, rJ_long, ckR_ref, ckR_null, ckr_ref, ckr_null, ckW_int, ckW_ref, ckW_null, cI_ok, cR_ok, cR_null, cV_ok, cJ_ok, qH_eq, qD_in, aG_ref, aS_ref, aL_ref, pF_ref, cK_ref, cK_null, zI_lit, zJ_lit, zI_add, zI_sub, zI_mul, zI_neg, zI_eq, zI_lt, zI_le, Int.reduceLT, Int.reduceLE, Int.reduceAdd, Int.reduceSub, Int.reduceMul, Int.reduceNeg, Int.reduceEq, Int.reduceNe, reduceIte, jf_in, pFc_in, aGi, aGb, aSi, aLc_in, cKc_in, nA_in, jm_s1, jm_s2, jm_p1, jm_p2, jm_b, jn_b, jn_s, jn_p, jset_jset, jset_jpush2, ckR_is, ckr_is, rR_is, ckW_is, cR_is, obi2, ckW_int, eq_self, if_true, ref_null, if_false, ne_eq, not_true_eq_false, not_false_eq_true, decide_true, decide_false, decide_not, Bool.true_and, Bool.false_and, Bool.and_true, Bool.and_false, Bool.true_or, Bool.false_or, Bool.or_true, Bool.or_false, Bool.not_true, Bool.not_false, Bool.false_eq_true, bI_t, bI_f, Int.natCast_one, Int.cast_ofNat_Int, Int.natCast_zero, aGc_V, Int.toNat_natCast, or0, or0', or00, or10, or01, or11, o72_0, o72_1, o72_2, o72_3, o72_4, o72_5, o72_6, o72_7, n72, o72s_0, o72s_1, o72s_2, o72s_3, o72s_4, o72s_5, o72s_6, o72s_7, m_s]
      rw [if_neg (by omega), if_neg (by omega), F72009_624]
      simp (disch := first | assumption | omega | decide | exact okF_i | exact okF_r | exact okF_n | exact okF_j | rfl) only [jc_ref, rI_int, rR_ref, rR_null, rJ_long, ckR_ref, ckR_null, ckr_ref, ckr_null, ckW_int, ckW_ref, ckW_null, cI_ok, cR_ok, cR_null, cV_ok, cJ_ok, qH_eq, qD_in, aG_ref, aS_ref, aL_ref, pF_ref, cK_ref, cK_null, zI_lit, zJ_lit, zI_add, zI_sub, zI_mul, zI_neg, zI_eq, zI_lt, zI_le, Int.reduceLT, Int.reduceLE, Int.reduceAdd, Int.reduceSub, Int.reduceMul, Int.reduceNeg, Int.reduceEq, Int.reduceNe, reduceIte, jf_in, pFc_in, aGi, aGb, aSi, aLc_in, cKc_in, nA_in, jm_s1, jm_s2, jm_p1, jm_p2, jm_b, jn_b, jn_s, jn_p, jset_jset, jset_jpush2, ckR_is, ckr_is, rR_is, ckW_is, cR_is, obi2, ckW_int, eq_self, if_true, ref_null, if_false, ne_eq, not_true_eq_false, not_false_eq_true, decide_true, decide_false, decide_not, Bool.true_and, Bool.false_and, Bool.and_true, Bool.and_false, Bool.true_or, Bool.false_or, Bool.or_true, Bool.or_false, Bool.not_true, Bool.not_false, Bool.false_eq_true, bI_t, bI_f, Int.natCast_one, Int.cast_ofNat_Int, Int.natCast_zero, aGc_V, Int.toNat_natCast, or0, or0', or00, or10, or01, or11, o72_0, o72_1, o72_2, o72_3, o72_4, o72_5, o72_6, o72_7, n72, o72s_0, o72s_1, o72s_2, o72s_3, o72s_4, o72s_5, o72s_6, o72s_7, cpy]
    · exact h.fin (fun i a b => by rw [jcpy, if_pos ⟨a, b⟩]) (fun i a => by rw [jcpy, if_neg (by omega)])
def MLI (G : Nat → Option Cl) (rk : Value → Int) (d : Nat) (H : AH) (e e2 ts N N2 B E : Nat) (f0 t : Nat → Value) (tl ss : Int) (rb rl : Value) (U y1 y3 : Int) (m : Nat) : Prop := ∀ (f : Nat → Value) (j c1 n1 c2 n2 : Nat) (mg : Int), n1 + n2 ≤ m → MI G rk f0 B E f t j c1 n1 c2 n2 → 2 ≤ n1 → 1 ≤ n2 → c1 + n1 ≤ N2 → (n1 + n2 : Int) - 200000 ≤ mg → mg + 3 * (n1 + n2) ≤ U → 2 + 3 * (n1 + n2) ≤ U → U < 1000000000 →
    (∀ x11 x12 : Int, 0 ≤ x11 → x11 + n1 + n2 ≤ 300000 → 0 ≤ x12 → x12 + n1 + n2 ≤ 300000 → MRes G rk H e ts N B E f0 e2 tl ss rb rl U (G2 (d + 4) 72009 147 [.ref ts, .int (zI y1), .int (zI n1), .int (zI y3), .int (zI n2), .ref e, .ref e2, .int (zI c1), .int (zI c2), .int (zI j), .int (zI mg), .int (zI x11), .int (zI x12)] [] (jset H e (1040, N, f)))) ∧
    (∀ x11 x12 : Int, MRes G rk H e ts N B E f0 e2 tl ss rb rl U (G2 (d + 4) 72009 268 [.ref ts, .int (zI y1), .int (zI n1), .int (zI y3), .int (zI n2), .ref e, .ref e2, .int (zI c1), .int (zI c2), .int (zI j), .int (zI mg), .int (zI x11), .int (zI x12)] [] (jset H e (1040, N, f))))
def ML450 (G : Nat → Option Cl) (rk : Value → Int) (d : Nat) (H : AH) (e e2 ts N N2 B E : Nat) (f0 t : Nat → Value) (tl ss : Int) (rb rl : Value) (U y1 y3 : Int) (m : Nat) : Prop := ∀ (f : Nat → Value) (j c1 n1 c2 n2 : Nat) (mg x11 x12 : Int), n1 + n2 ≤ m + 1 → MI G rk f0 B E f t j c1 n1 c2 n2 → 2 ≤ n1 → 1 ≤ n2 → c1 + n1 ≤ N2 → (n1 + n2 : Int) - 200000 ≤ mg → mg + 3 * (n1 + n2) ≤ U → 2 + 3 * (n1 + n2) ≤ U → 0 ≤ x11 → x11 < 100000 → 0 ≤ x12 → x12 < 100000 → (∀ i, c2 ≤ i → i < E → rk (t c1) ≤ rk (f i)) →
        MRes G rk H e ts N B E f0 e2 tl ss rb rl U (G2 (d + 4) 72009 450 [.ref ts, .int (zI y1), .int (zI n1), .int (zI y3), .int (zI n2), .ref e, .ref e2, .int (zI c1), .int (zI c2), .int (zI j), .int (zI mg), .int (zI x11), .int (zI x12)] [] (jset H e (1040, N, f)))
def ML356 (G : Nat → Option Cl) (rk : Value → Int) (d : Nat) (H : AH) (e e2 ts N N2 B E : Nat) (f0 t : Nat → Value) (tl ss : Int) (rb rl : Value) (U y1 y3 : Int) (m : Nat) : Prop := ∀ (f : Nat → Value) (j c1 n1 c2 n2 : Nat) (mg x11 x12 : Int), n1 + n2 ≤ m + 1 → MI G rk f0 B E f t j c1 n1 c2 n2 → 2 ≤ n1 → 1 ≤ n2 → c1 + n1 ≤ N2 → (n1 + n2 : Int) - 200000 ≤ mg → mg + 3 * (n1 + n2) ≤ U → 2 + 3 * (n1 + n2) ≤ U → 0 ≤ x11 → x11 < 100000 → rk (f c2) ≤ rk (t c1) →
        MRes G rk H e ts N B E f0 e2 tl ss rb rl U (G2 (d + 4) 72009 356 [.ref ts, .int (zI y1), .int (zI n1), .int (zI y3), .int (zI n2), .ref e, .ref e2, .int (zI c1), .int (zI c2), .int (zI j), .int (zI mg), .int (zI x11), .int (zI x12)] [] (jset H e (1040, N, f)))
section
variable {y1 y3 : Int} {m : Nat}
theorem ml_450 (hC : MCtx G H e e2 ts N N2 E t x1 tl ss rb rl) (hU : U < 1000000000) (hU1 : 1 ≤ U) (ih : MLI G rk d H e e2 ts N N2 B E f0 t tl ss rb rl U y1 y3 m) : ML450 G rk d H e e2 ts N N2 B E f0 t tl ss rb rl U y1 y3 m := by
  have hC' := hC
  obtain ⟨hG, hGe, hGt, hN, hN2, -, m_t, m_s, ne1, ne2, ne3, hE⟩ := hC
  have ne1' := Ne.symm ne1
  have hG1 : ∀ g, Fzn G (jset H e (1040, N, g)) := fun g => hG.arr hGe
  have mx : ∀ z : Int, z ≤ U → (z < 1 → 1 ≤ (1 : Int) ∧ (1 : Int) ≤ U) ∧ (1 ≤ z → 1 ≤ z ∧ z ≤ U) := fun z hz => ⟨fun _ => ⟨by omega, by omega⟩, fun h => ⟨h, hz⟩⟩
  intro f j c1 n1 c2 n2 mg x11 x12 hm hI hn1 hn2 hL hmg1 hmg2 hU0 p1 p2 p3 p4 hle
  obtain ⟨b1, b2, b3, b4⟩ := hI.1
  have a1 := hI.ok1 c1 (Nat.le_refl _) (by omega)
  have r1 := a1.R
  have s1 := fun (κ : AH → Rz) (u : Ph κ) => aSr_in (κ := κ) (u := u) (h := jset H e (1040, N, f)) jm_s1 (a1.ok (hG1 f)) (i := j) (by omega) (by omega) (by omega)
  have q1 : (n1 : Int) + -1 = ((n1 - 1 : Nat) : Int) := by omega
  have q3 : (j : Int) + 1 = ((j + 1 : Nat) : Int) := by omega
  have q4 : (c1 : Int) + 1 = ((c1 + 1 : Nat) : Int) := by omega
  have hI2 := hI.mvL (k := 1) (f2 := ju f j (t c1)) (by omega) (Or.inr fun i a b => by
    rw [Nat.add_sub_cancel]
    exact hle i a b) (fun i a b => by rw [show i = j by omega, juE, Nat.sub_self]; rfl) (fun i a => juN (by omega))
  rw [F72009_450]
  simp (disch := first | assumption | omega | decide | exact okF_i | exact okF_r | exact okF_n | exact okF_j | rfl) only [jc_ref, rI_int, rR_ref, rR_null, rJ_long, ckR_ref, ckR_null, ckr_ref, ckr_null, ckW_int, ckW_ref, ckW_null, cI_ok, cR_ok, cR_null, cV_ok, cJ_ok, qH_eq, qD_in, aG_ref, aS_ref, aL_ref, pF_ref, cK_ref, cK_null, zI_lit, zJ_lit, zI_add, zI_sub, zI_mul, zI_neg, zI_eq, zI_lt, zI_le, Int.reduceLT, Int.reduceLE, Int.reduceAdd, Int.reduceSub, Int.reduceMul, Int.reduceNeg, Int.reduceEq, Int.reduceNe, reduceIte, jf_in, pFc_in, aGi, aGb, aSi, aLc_in, cKc_in, nA_in, jm_s1, jm_s2, jm_p1, jm_p2, jm_b, jn_b, jn_s, jn_p, jset_jset, jset_jpush2, ckR_is, ckr_is, rR_is, ckW_is, cR_is, obi2, ckW_int, eq_self, if_true, ref_null, if_false, ne_eq, not_true_eq_false, not_false_eq_true, decide_true, decide_false, decide_not, Bool.true_and, Bool.false_and, Bool.and_true, Bool.and_false, Bool.true_or, Bool.false_or, Bool.or_true, Bool.or_false, Bool.not_true, Bool.not_false, Bool.false_eq_true, bI_t, bI_f, Int.natCast_one, Int.cast_ofNat_Int, Int.natCast_zero, aGc_V, Int.toNat_natCast, or0, or0', or00, or10, or01, or11, o72_0, o72_1, o72_2, o72_3, o72_4, o72_5, o72_6, o72_7, n72, o72s_0, o72s_1, o72s_2, o72s_3, o72s_4, o72s_5, o72s_6, o72s_7, m_t, q1, q3, q4, s1]
  by_cases he1 : n1 - 1 = 1
  · rw [if_pos (by omega)]
    by_cases hz : 1 ≤ mg
    · rw [if_pos hz]
      exact ml_exit hC' hI2 (Or.inl he1) (by omega) ((mx mg (by omega)).2 hz)
    · rw [if_neg hz]
      exact ml_exit hC' hI2 (Or.inl he1) (by omega) ((mx mg (by omega)).1 (by omega))
  · rw [if_neg (by omega)]
    obtain ⟨-, i2⟩ := ih _ _ _ _ _ _ (mg + -1) (by omega) hI2 (by omega) hn2 (by omega) (by omega) (by omega) (by omega) hU
    have back : MRes G rk H e ts N B E f0 e2 tl ss rb rl U (if 0 ≤ mg + -1 then G2 (d + 4) 72009 141 [.ref ts, .int (zI y1), .int (zI ((n1 - 1 : Nat) : Int)), .int (zI y3), .int (zI n2), .ref e, .ref e2, .int (zI ((c1 + 1 : Nat) : Int)), .int (zI c2), .int (zI ((j + 1 : Nat) : Int)), .int (zI (mg + -1 + 2)), .int (zI x11), .int (zI x12)] [] (jset H e (1040, N, ju f j (t c1))) else G2 (d + 4) 72009 141 [.ref ts, .int (zI y1), .int (zI ((n1 - 1 : Nat) : Int)), .int (zI y3), .int (zI n2), .ref e, .ref e2, .int (zI ((c1 + 1 : Nat) : Int)), .int (zI c2), .int (zI ((j + 1 : Nat) : Int)), .int (zI 2), .int (zI x11), .int (zI x12)] [] (jset H e (1040, N, ju f j (t c1)))) := by
      by_cases hz : 0 ≤ mg + -1
      · rw [if_pos hz, F72009_141]
        obtain ⟨i1, -⟩ := ih _ _ _ _ _ _ (mg + -1 + 2) (by omega) hI2 (by omega) hn2 (by omega) (by omega) (by omega) (by omega) hU
        have := i1 0 0 (by omega) (by omega) (by omega) (by omega)
        simp (disch := first | assumption | omega | decide | exact okF_i | exact okF_r | exact okF_n | exact okF_j | rfl) only [jc_ref, rI_int, rR_ref, rR_null, rJ_long, ckR_ref, ckR_null, ckr_ref, ckr_null, ckW_int, ckW_ref, ckW_null, cI_ok, cR_ok, cR_null, cV_ok, cJ_ok, qH_eq, qD_in, aG_ref, aS_ref, aL_ref, pF_ref, cK_ref, cK_null, zI_lit, zJ_lit, zI_add, zI_sub, zI_mul, zI_neg, zI_eq, zI_lt, zI_le, Int.reduceLT, Int.reduceLE, Int.reduceAdd, Int.reduceSub, Int.reduceMul, Int.reduceNeg, Int.reduceEq, Int.reduceNe, reduceIte, jf_in, pFc_in, aGi, aGb, aSi, aLc_in, cKc_in, nA_in, jm_s1, jm_s2, jm_p1, jm_p2, jm_b, jn_b, jn_s, jn_p, jset_jset, jset_jpush2, ckR_is, ckr_is, rR_is, ckW_is, cR_is, obi2, ckW_int, eq_self, if_true, ref_null, if_false, ne_eq, not_true_eq_false, not_false_eq_true, decide_true, decide_false, decide_not, Bool.true_and, Bool.false_and, Bool.and_true, Bool.and_false, Bool.true_or, Bool.false_or, Bool.or_true, Bool.or_false, Bool.not_true, Bool.not_false, Bool.false_eq_true, bI_t, bI_f, Int.natCast_one, Int.cast_ofNat_Int, Int.natCast_zero, aGc_V, Int.toNat_natCast, or0, or0', or00, or10, or01, or11, o72_0, o72_1, o72_2, o72_3, o72_4, o72_5, o72_6, o72_7, n72, o72s_0, o72s_1, o72s_2, o72s_3, o72s_4, o72s_5, o72s_6, o72s_7]
        exact this
      · rw [if_neg hz, F72009_141]
        obtain ⟨i1, -⟩ := ih _ _ _ _ _ _ 2 (by omega) hI2 (by omega) hn2 (by omega) (by omega) (by omega) (by omega) hU
        have := i1 0 0 (by omega) (by omega) (by omega) (by omega)
        simp (disch := first | assumption | omega | decide | exact okF_i | exact okF_r | exact okF_n | exact okF_j | rfl) only [jc_ref, rI_int, rR_ref, rR_null, rJ_long, ckR_ref, ckR_null, ckr_ref, ckr_null, ckW_int, ckW_ref, ckW_null, cI_ok, cR_ok, cR_null, cV_ok, cJ_ok, qH_eq, qD_in, aG_ref, aS_ref, aL_ref, pF_ref, cK_ref, cK_null, zI_lit, zJ_lit, zI_add, zI_sub, zI_mul, zI_neg, zI_eq, zI_lt, zI_le, Int.reduceLT, Int.reduceLE, Int.reduceAdd, Int.reduceSub, Int.reduceMul, Int.reduceNeg, Int.reduceEq, Int.reduceNe, reduceIte, jf_in, pFc_in, aGi, aGb, aSi, aLc_in, cKc_in, nA_in, jm_s1, jm_s2, jm_p1, jm_p2, jm_b, jn_b, jn_s, jn_p, jset_jset, jset_jpush2, ckR_is, ckr_is, rR_is, ckW_is, cR_is, obi2, ckW_int, eq_self, if_true, ref_null, if_false, ne_eq, not_true_eq_false, not_false_eq_true, decide_true, decide_false, decide_not, Bool.true_and, Bool.false_and, Bool.and_true, Bool.and_false, Bool.true_or, Bool.false_or, Bool.or_true, Bool.or_false, Bool.not_true, Bool.not_false, Bool.false_eq_true, bI_t, bI_f, Int.natCast_one, Int.cast_ofNat_Int, Int.natCast_zero, aGc_V, Int.toNat_natCast, or0, or0', or00, or10, or01, or11, o72_0, o72_1, o72_2, o72_3, o72_4, o72_5, o72_6, o72_7, n72, o72s_0, o72s_1, o72s_2, o72s_3, o72s_4, o72s_5, o72s_6, o72s_7]
        exact this
    by_cases h7 : x11 < 7
    · rw [if_pos h7, F72009_492]
      simp (disch := first | assumption | omega | decide | exact okF_i | exact okF_r | exact okF_n | exact okF_j | rfl) only [jc_ref, rI_int, rR_ref, rR_null, rJ_long, ckR_ref, ckR_null, ckr_ref, ckr_null, ckW_int, ckW_ref, ckW_null, cI_ok, cR_ok, cR_null, cV_ok, cJ_ok, qH_eq, qD_in, aG_ref, aS_ref, aL_ref, pF_ref, cK_ref, cK_null, zI_lit, zJ_lit, zI_add, zI_sub, zI_mul, zI_neg, zI_eq, zI_lt, zI_le, Int.reduceLT, Int.reduceLE, Int.reduceAdd, Int.reduceSub, Int.reduceMul, Int.reduceNeg, Int.reduceEq, Int.reduceNe, reduceIte, jf_in, pFc_in, aGi, aGb, aSi, aLc_in, cKc_in, nA_in, jm_s1, jm_s2, jm_p1, jm_p2, jm_b, jn_b, jn_s, jn_p, jset_jset, jset_jpush2, ckR_is, ckr_is, rR_is, ckW_is, cR_is, obi2, ckW_int, eq_self, if_true, ref_null, if_false, ne_eq, not_true_eq_false, not_false_eq_true, decide_true, decide_false, decide_not, Bool.true_and, Bool.false_and, Bool.and_true, Bool.and_false, Bool.true_or, Bool.false_or, Bool.or_true, Bool.or_false, Bool.not_true, Bool.not_false, Bool.false_eq_true, bI_t, bI_f, Int.natCast_one, Int.cast_ofNat_Int, Int.natCast_zero, aGc_V, Int.toNat_natCast, or0, or0', or00, or10, or01, or11, o72_0, o72_1, o72_2, o72_3, o72_4, o72_5, o72_6, o72_7, n72, o72s_0, o72s_1, o72s_2, o72s_3, o72s_4, o72s_5, o72s_6, o72s_7]
      by_cases h8 : x12 < 7
      · rw [if_pos h8]; exact back
      · rw [if_neg h8]; exact i2 x11 x12
    · rw [if_neg h7, F72009_492]
      simp (disch := first | assumption | omega | decide | exact okF_i | exact okF_r | exact okF_n | exact okF_j | rfl) only [jc_ref, rI_int, rR_ref, rR_null, rJ_long, ckR_ref, ckR_null, ckr_ref, ckr_null, ckW_int, ckW_ref, ckW_null, cI_ok, cR_ok, cR_null, cV_ok, cJ_ok, qH_eq, qD_in, aG_ref, aS_ref, aL_ref, pF_ref, cK_ref, cK_null, zI_lit, zJ_lit, zI_add, zI_sub, zI_mul, zI_neg, zI_eq, zI_lt, zI_le, Int.reduceLT, Int.reduceLE, Int.reduceAdd, Int.reduceSub, Int.reduceMul, Int.reduceNeg, Int.reduceEq, Int.reduceNe, reduceIte, jf_in, pFc_in, aGi, aGb, aSi, aLc_in, cKc_in, nA_in, jm_s1, jm_s2, jm_p1, jm_p2, jm_b, jn_b, jn_s, jn_p, jset_jset, jset_jpush2, ckR_is, ckr_is, rR_is, ckW_is, cR_is, obi2, ckW_int, eq_self, if_true, ref_null, if_false, ne_eq, not_true_eq_false, not_false_eq_true, decide_true, decide_false, decide_not, Bool.true_and, Bool.false_and, Bool.and_true, Bool.and_false, Bool.true_or, Bool.false_or, Bool.or_true, Bool.or_false, Bool.not_true, Bool.not_false, Bool.false_eq_true, bI_t, bI_f, Int.natCast_one, Int.cast_ofNat_Int, Int.natCast_zero, aGc_V, Int.toNat_natCast, or0, or0', or00, or10, or01, or11, o72_0, o72_1, o72_2, o72_3, o72_4, o72_5, o72_6, o72_7, n72, o72s_0, o72s_1, o72s_2, o72s_3, o72s_4, o72s_5, o72s_6, o72s_7]
      by_cases h8 : x12 < 7
      · rw [if_pos h8]; exact i2 x11 x12
      · rw [if_neg h8]; exact i2 x11 x12
theorem ml_356 (hC : MCtx G H e e2 ts N N2 E t x1 tl ss rb rl) (hU : U < 1000000000) (hU1 : 1 ≤ U) (P450 : ML450 G rk d H e e2 ts N N2 B E f0 t tl ss rb rl U y1 y3 m) : ML356 G rk d H e e2 ts N N2 B E f0 t tl ss rb rl U y1 y3 m := by
  have hC' := hC
  obtain ⟨hG, hGe, hGt, hN, hN2, -, m_t, m_s, ne1, ne2, ne3, hE⟩ := hC
  have ne1' := Ne.symm ne1
  have hG1 : ∀ g, Fzn G (jset H e (1040, N, g)) := fun g => hG.arr hGe
  have mx : ∀ z : Int, z ≤ U → (z < 1 → 1 ≤ (1 : Int) ∧ (1 : Int) ≤ U) ∧ (1 ≤ z → 1 ≤ z ∧ z ≤ U) := fun z hz => ⟨fun _ => ⟨by omega, by omega⟩, fun h => ⟨h, hz⟩⟩
  intro f j c1 n1 c2 n2 mg x11 x12 hm hI hn1 hn2 hL hmg1 hmg2 hU0 p1 p2 hle
  obtain ⟨b1, b2, b3, b4⟩ := hI.1
  have a1 := hI.ok1 c1 (Nat.le_refl _) (by omega)
  have a2 := hI.ok2 c2 (Nat.le_refl _) (by omega)
  have r1 := a1.R
  have r2 := a2.R
  have s2 := fun (κ : AH → Rz) (u : Ph κ) => aSr_in (κ := κ) (u := u) (h := jset H e (1040, N, f)) jm_s1 (a2.ok (hG1 f)) (i := j) (by omega) (by omega) (by omega)
  have q2 : (n2 : Int) + -1 = ((n2 - 1 : Nat) : Int) := by omega
  have q3 : (j : Int) + 1 = ((j + 1 : Nat) : Int) := by omega
  have q5 : (c2 : Int) + 1 = ((c2 + 1 : Nat) : Int) := by omega
  have hI2 := hI.mvR (k := 1) (f2 := ju f j (f c2)) (by omega) (fun i a b => by
    rw [show i = c2 by omega]
    exact hle) (fun i a b => by rw [show i = j by omega, juE, Nat.sub_self]; rfl) (fun i a => juN (by omega))
  rw [F72009_356]
  simp (disch := first | assumption | omega | decide | exact okF_i | exact okF_r | exact okF_n | exact okF_j | rfl) only [jc_ref, rI_int, rR_ref, rR_null, rJ_long, ckR_ref, ckR_null, ckr_ref, ckr_null, ckW_int, ckW_ref, ckW_null, cI_ok, cR_ok, cR_null, cV_ok, cJ_ok, qH_eq, qD_in, aG_ref, aS_ref, aL_ref, pF_ref, cK_ref, cK_null, zI_lit, zJ_lit, zI_add, zI_sub, zI_mul, zI_neg, zI_eq, zI_lt, zI_le, Int.reduceLT, Int.reduceLE, Int.reduceAdd, Int.reduceSub, Int.reduceMul, Int.reduceNeg, Int.reduceEq, Int.reduceNe, reduceIte, jf_in, pFc_in, aGi, aGb, aSi, aLc_in, cKc_in, nA_in, jm_s1, jm_s2, jm_p1, jm_p2, jm_b, jn_b, jn_s, jn_p, jset_jset, jset_jpush2, ckR_is, ckr_is, rR_is, ckW_is, cR_is, obi2, ckW_int, eq_self, if_true, ref_null, if_false, ne_eq, not_true_eq_false, not_false_eq_true, decide_true, decide_false, decide_not, Bool.true_and, Bool.false_and, Bool.and_true, Bool.and_false, Bool.true_or, Bool.false_or, Bool.or_true, Bool.or_false, Bool.not_true, Bool.not_false, Bool.false_eq_true, bI_t, bI_f, Int.natCast_one, Int.cast_ofNat_Int, Int.natCast_zero, aGc_V, Int.toNat_natCast, or0, or0', or00, or10, or01, or11, o72_0, o72_1, o72_2, o72_3, o72_4, o72_5, o72_6, o72_7, n72, o72s_0, o72s_1, o72s_2, o72s_3, o72s_4, o72s_5, o72s_6, o72s_7, m_t, q2, q3, q5, s2]
  by_cases he1 : n2 - 1 = 0
  · rw [if_pos (by omega)]
    by_cases hz : 1 ≤ mg
    · rw [if_pos hz]
      exact ml_exit hC' hI2 (Or.inr he1) (by omega) ((mx mg (by omega)).2 hz)
    · rw [if_neg hz]
      exact ml_exit hC' hI2 (Or.inr he1) (by omega) ((mx mg (by omega)).1 (by omega))
  · rw [if_neg (by omega)]
    have mE : jm (jset H e (1040, N, ju f j (f c2))) e = some (1040, N, ju f j (f c2)) := jm_s1
    obtain ⟨k, k1, k2, k3, k4⟩ := c_gal72003 (d := d + 1) (hG1 (ju f j (f c2))) hN mE (b := c2 + 1) (n := n2 - 1) (by omega) hI2.2.2.2.2.2.2.2.2.2.2 a1 hI2.2.2.2.2.2.1 (hint := 0) (by omega)
    have k4' : M2 (d + 4) 72003 [t c1, .ref e, .int (zI ((c2 + 1 : Nat) : Int)), .int (zI ((n2 - 1 : Nat) : Int)), .int (zI 0)] (jset H e (1040, N, ju f j (f c2))) = some (.inl (some (.int (zI k))), jset H e (1040, N, ju f j (f c2))) := k4
    have hk := fun (κ : Rz) (u : Ph κ) => cmp_K (hG1 (ju f j (f c2))) a1 (κ := κ) (u := u)
    simp (disch := first | assumption | omega | decide | exact okF_i | exact okF_r | exact okF_n | exact okF_j | rfl) only [jc_ref, rI_int, rR_ref, rR_null, rJ_long, ckR_ref, ckR_null, ckr_ref, ckr_null, ckW_int, ckW_ref, ckW_null, cI_ok, cR_ok, cR_null, cV_ok, cJ_ok, qH_eq, qD_in, aG_ref, aS_ref, aL_ref, pF_ref, cK_ref, cK_null, zI_lit, zJ_lit, zI_add, zI_sub, zI_mul, zI_neg, zI_eq, zI_lt, zI_le, Int.reduceLT, Int.reduceLE, Int.reduceAdd, Int.reduceSub, Int.reduceMul, Int.reduceNeg, Int.reduceEq, Int.reduceNe, reduceIte, jf_in, pFc_in, aGi, aGb, aSi, aLc_in, cKc_in, nA_in, jm_s1, jm_s2, jm_p1, jm_p2, jm_b, jn_b, jn_s, jn_p, jset_jset, jset_jpush2, ckR_is, ckr_is, rR_is, ckW_is, cR_is, obi2, ckW_int, eq_self, if_true, ref_null, if_false, ne_eq, not_true_eq_false, not_false_eq_true, decide_true, decide_false, decide_not, Bool.true_and, Bool.false_and, Bool.and_true, Bool.and_false, Bool.true_or, Bool.false_or, Bool.or_true, Bool.or_false, Bool.not_true, Bool.not_false, Bool.false_eq_true, bI_t, bI_f, Int.natCast_one, Int.cast_ofNat_Int, Int.natCast_zero, aGc_V, Int.toNat_natCast, or0, or0', or00, or10, or01, or11, o72_0, o72_1, o72_2, o72_3, o72_4, o72_5, o72_6, o72_7, n72, o72s_0, o72s_1, o72s_2, o72s_3, o72s_4, o72s_5, o72s_6, o72s_7, m_t, q2, q3, q5, hk, k4']
    by_cases hk0 : k = 0
    · rw [if_pos (by omega)]
      exact P450 _ _ _ _ _ _ mg x11 k (by omega) hI2 hn1 (by omega) hL (by omega) (by omega) (by omega) p1 p2 (by omega) (by omega) (fun i a b => by
        have := k3 (i - (c2 + 1)) (by omega) (by omega)
        rw [show c2 + 1 + (i - (c2 + 1)) = i by omega] at this
        omega)
    · rw [if_neg (by omega)]
      have cpy := acp2 (d := d + 3) (sp := c2 + 1) (dp := j + 1) (k := k) mE mE rfl (by omega) (by omega) (by omega) (by omega)
      obtain ⟨g, hg⟩ : ∃ g, g = jcpy (ju f j (f c2)) (ju f j (f c2)) (c2 + 1) (j + 1) k := ⟨_, rfl⟩
      have hI3 := hI2.mvR (k := k) (f2 := g) k1 (fun i a b => by
        have := k2 (i - (c2 + 1)) (by omega)
        rw [show c2 + 1 + (i - (c2 + 1)) = i by omega] at this
        omega) (fun i a b => by rw [hg, jcpy, if_pos ⟨a, b⟩]) (fun i a => by rw [hg, jcpy, if_neg (by omega)])
      have hle2 : ∀ i, c2 + 1 + k ≤ i → i < E → rk (t c1) ≤ rk (g i) := fun i a b => by
        have := k3 (i - (c2 + 1)) (by omega) (by omega)
        rw [show c2 + 1 + (i - (c2 + 1)) = i by omega] at this
        rw [hg, jcpy, if_neg (by omega)]
        omega
      rw [← hg] at cpy
      clear hg k2 k3 k4 k4' hk s2 hI2 hI
      have z1 : ((n2 - 1 : Nat) : Int) - k = ((n2 - 1 - k : Nat) : Int) := by omega
      have z2 : ((c2 + 1 : Nat) : Int) + k = ((c2 + 1 + k : Nat) : Int) := by omega
      have z3 : ((j + 1 : Nat) : Int) + k = ((j + 1 + k : Nat) : Int) := by omega
      have Z1 : zI n2 + -1 - zI k = zI ((n2 - 1 - k : Nat) : Int) := by rw [show (-1 : Int32) = zI (-1) from rfl, zI_add, q2, zI_sub, z1]
      have Z2 : zI c2 + 1 + zI k = zI ((c2 + 1 + k : Nat) : Int) := by rw [show (1 : Int32) = zI 1 from rfl, zI_add, q5, zI_add, z2]
      have Z3 : zI j + 1 + zI k = zI ((j + 1 + k : Nat) : Int) := by rw [show (1 : Int32) = zI 1 from rfl, zI_add, q3, zI_add, z3]
      rw [cpy, cV_ok, Z1, Z2, Z3, jset_jset]
      clear cpy z1 z2 z3 q2 q3 q5 mE Z1 Z2 Z3
      by_cases he2 : n2 - 1 - k = 0
      · rw [if_pos (show zI ((n2 - 1 - k : Nat) : Int) = 0 by rw [he2]; rfl)]
        by_cases hz : 1 ≤ mg
        · rw [if_pos (show (1 : Int32) ≤ zI mg by rw [show (1 : Int32) = zI 1 from rfl, zI_le (by omega) (by omega) (by omega) (by omega)]; exact hz)]
          exact ml_exit hC' hI3 (Or.inr he2) (by omega) ((mx mg (by omega)).2 hz)
        · rw [if_neg (show ¬ (1 : Int32) ≤ zI mg by rw [show (1 : Int32) = zI 1 from rfl, zI_le (by omega) (by omega) (by omega) (by omega)]; exact hz)]
          exact ml_exit hC' hI3 (Or.inr he2) (by omega) ((mx mg (by omega)).1 (by omega))
      · rw [if_neg (show ¬ zI ((n2 - 1 - k : Nat) : Int) = 0 by rw [show (0 : Int32) = zI 0 from rfl, zI_eq (by omega) (by omega) (by omega) (by omega)]; omega)]
        exact P450 _ _ _ _ _ _ mg x11 k (by omega) hI3 hn1 (by omega) hL (by omega) (by omega) (by omega) p1 p2 (by omega) (by omega) hle2
theorem ml_one (hC : MCtx G H e e2 ts N N2 E t x1 tl ss rb rl) (hU : U < 1000000000) (hU1 : 1 ≤ U) (ih : MLI G rk d H e e2 ts N N2 B E f0 t tl ss rb rl U y1 y3 m) (f : Nat → Value) (j c1 n1 c2 n2 : Nat) (mg : Int) (hm : n1 + n2 ≤ m + 1) (hI : MI G rk f0 B E f t j c1 n1 c2 n2) (hn1 : 2 ≤ n1) (hn2 : 1 ≤ n2) (hL : c1 + n1 ≤ N2) (hmg1 : (n1 + n2 : Int) - 200000 ≤ mg) (hmg2 : mg + 3 * (n1 + n2) ≤ U) (hU0 : 2 + 3 * (n1 + n2) ≤ U) : (∀ x11 x12 : Int, 0 ≤ x11 → x11 + n1 + n2 ≤ 300000 → 0 ≤ x12 → x12 + n1 + n2 ≤ 300000 → MRes G rk H e ts N B E f0 e2 tl ss rb rl U (G2 (d + 4) 72009 147 [.ref ts, .int (zI y1), .int (zI n1), .int (zI y3), .int (zI n2), .ref e, .ref e2, .int (zI c1), .int (zI c2), .int (zI j), .int (zI mg), .int (zI x11), .int (zI x12)] [] (jset H e (1040, N, f)))) := by
  have hC' := hC
  obtain ⟨hG, hGe, hGt, hN, hN2, -, m_t, m_s, ne1, ne2, ne3, hE⟩ := hC
  have ne1' := Ne.symm ne1
  have hG1 : ∀ g, Fzn G (jset H e (1040, N, g)) := fun g => hG.arr hGe
  have mx : ∀ z : Int, z ≤ U → (z < 1 → 1 ≤ (1 : Int) ∧ (1 : Int) ≤ U) ∧ (1 ≤ z → 1 ≤ z ∧ z ≤ U) := fun z hz => ⟨fun _ => ⟨by omega, by omega⟩, fun h => ⟨h, hz⟩⟩
  obtain ⟨b1, b2, b3, b4⟩ := hI.1
  intro x11 x12 p1 p2 p3 p4
  have a1 := hI.ok1 c1 (Nat.le_refl _) (by omega)
  have a2 := hI.ok2 c2 (Nat.le_refl _) (by omega)
  have r1 := a1.R
  have r2 := a2.R
  obtain ⟨c, k1, k2, k3, k4⟩ := c_cmp (d := d + 2) (hG1 f) a2 a1
  have hk := fun (κ : Rz) (u : Ph κ) => cmp_K (hG1 f) a2 (κ := κ) (u := u)
  have s1 := fun (κ : AH → Rz) (u : Ph κ) => aSr_in (κ := κ) (u := u) (h := jset H e (1040, N, f)) jm_s1 (a1.ok (hG1 f)) (i := j) (by omega) (by omega) (by omega)
  have s2 := fun (κ : AH → Rz) (u : Ph κ) => aSr_in (κ := κ) (u := u) (h := jset H e (1040, N, f)) jm_s1 (a2.ok (hG1 f)) (i := j) (by omega) (by omega) (by omega)
  have q1 : (n1 : Int) + -1 = ((n1 - 1 : Nat) : Int) := by omega
  have q2 : (n2 : Int) + -1 = ((n2 - 1 : Nat) : Int) := by omega
  have q3 : (j : Int) + 1 = ((j + 1 : Nat) : Int) := by omega
  have q4 : (c1 : Int) + 1 = ((c1 + 1 : Nat) : Int) := by omega
  have q5 : (c2 : Int) + 1 = ((c2 + 1 : Nat) : Int) := by omega
  rw [F72009_147]
  simp (disch := first | assumption | omega | decide | exact okF_i | exact okF_r | exact okF_n | exact okF_j | rfl) only [jc_ref, rI_int, rR_ref, rR_null, rJ_long, ckR_ref, ckR_null, ckr_ref, ckr_null, ckW_int, ckW_ref, ckW_null, cI_ok, cR_ok, cR_null, cV_ok, cJ_ok, qH_eq, qD_in, aG_ref, aS_ref, aL_ref, pF_ref, cK_ref, cK_null, zI_lit, zJ_lit, zI_add, zI_sub, zI_mul, zI_neg, zI_eq, zI_lt, zI_le, Int.reduceLT, Int.reduceLE, Int.reduceAdd, Int.reduceSub, Int.reduceMul, Int.reduceNeg, Int.reduceEq, Int.reduceNe, reduceIte, jf_in, pFc_in, aGi, aGb, aSi, aLc_in, cKc_in, nA_in, jm_s1, jm_s2, jm_p1, jm_p2, jm_b, jn_b, jn_s, jn_p, jset_jset, jset_jpush2, ckR_is, ckr_is, rR_is, ckW_is, cR_is, obi2, ckW_int, eq_self, if_true, ref_null, if_false, ne_eq, not_true_eq_false, not_false_eq_true, decide_true, decide_false, decide_not, Bool.true_and, Bool.false_and, Bool.and_true, Bool.and_false, Bool.true_or, Bool.false_or, Bool.or_true, Bool.or_false, Bool.not_true, Bool.not_false, Bool.false_eq_true, bI_t, bI_f, Int.natCast_one, Int.cast_ofNat_Int, Int.natCast_zero, aGc_V, Int.toNat_natCast, or0, or0', or00, or10, or01, or11, o72_0, o72_1, o72_2, o72_3, o72_4, o72_5, o72_6, o72_7, n72, o72s_0, o72s_1, o72s_2, o72s_3, o72s_4, o72s_5, o72s_6, o72s_7]
  rw [F72009_171]
  by_cases hc : 0 ≤ c
  · have hI2 := hI.mvL (k := 1) (f2 := ju f j (t c1)) (by omega) (Or.inr fun i a b => by
      have := hI.2.2.2.2.2.1 c2 i (Nat.le_refl _) a (by omega)
      rw [Nat.add_sub_cancel]
      omega) (fun i a b => by rw [show i = j by omega, juE, Nat.sub_self]; rfl) (fun i a => juN (by omega))
    simp (disch := first | assumption | omega | decide | exact okF_i | exact okF_r | exact okF_n | exact okF_j | rfl) only [jc_ref, rI_int, rR_ref, rR_null, rJ_long, ckR_ref, ckR_null, ckr_ref, ckr_null, ckW_int, ckW_ref, ckW_null, cI_ok, cR_ok, cR_null, cV_ok, cJ_ok, qH_eq, qD_in, aG_ref, aS_ref, aL_ref, pF_ref, cK_ref, cK_null, zI_lit, zJ_lit, zI_add, zI_sub, zI_mul, zI_neg, zI_eq, zI_lt, zI_le, Int.reduceLT, Int.reduceLE, Int.reduceAdd, Int.reduceSub, Int.reduceMul, Int.reduceNeg, Int.reduceEq, Int.reduceNe, reduceIte, jf_in, pFc_in, aGi, aGb, aSi, aLc_in, cKc_in, nA_in, jm_s1, jm_s2, jm_p1, jm_p2, jm_b, jn_b, jn_s, jn_p, jset_jset, jset_jpush2, ckR_is, ckr_is, rR_is, ckW_is, cR_is, obi2, ckW_int, eq_self, if_true, ref_null, if_false, ne_eq, not_true_eq_false, not_false_eq_true, decide_true, decide_false, decide_not, Bool.true_and, Bool.false_and, Bool.and_true, Bool.and_false, Bool.true_or, Bool.false_or, Bool.or_true, Bool.or_false, Bool.not_true, Bool.not_false, Bool.false_eq_true, bI_t, bI_f, Int.natCast_one, Int.cast_ofNat_Int, Int.natCast_zero, aGc_V, Int.toNat_natCast, or0, or0', or00, or10, or01, or11, o72_0, o72_1, o72_2, o72_3, o72_4, o72_5, o72_6, o72_7, n72, o72s_0, o72s_1, o72s_2, o72s_3, o72s_4, o72s_5, o72s_6, o72s_7, m_t, hk, k1, s1]
    rw [if_pos hc]
    simp (disch := first | assumption | omega | decide | exact okF_i | exact okF_r | exact okF_n | exact okF_j | rfl) only [jc_ref, rI_int, rR_ref, rR_null, rJ_long, ckR_ref, ckR_null, ckr_ref, ckr_null, ckW_int, ckW_ref, ckW_null, cI_ok, cR_ok, cR_null, cV_ok, cJ_ok, qH_eq, qD_in, aG_ref, aS_ref, aL_ref, pF_ref, cK_ref, cK_null, zI_lit, zJ_lit, zI_add, zI_sub, zI_mul, zI_neg, zI_eq, zI_lt, zI_le, Int.reduceLT, Int.reduceLE, Int.reduceAdd, Int.reduceSub, Int.reduceMul, Int.reduceNeg, Int.reduceEq, Int.reduceNe, reduceIte, jf_in, pFc_in, aGi, aGb, aSi, aLc_in, cKc_in, nA_in, jm_s1, jm_s2, jm_p1, jm_p2, jm_b, jn_b, jn_s, jn_p, jset_jset, jset_jpush2, ckR_is, ckr_is, rR_is, ckW_is, cR_is, obi2, ckW_int, eq_self, if_true, ref_null, if_false, ne_eq, not_true_eq_false, not_false_eq_true, decide_true, decide_false, decide_not, Bool.true_and, Bool.false_and, Bool.and_true, Bool.and_false, Bool.true_or, Bool.false_or, Bool.or_true, Bool.or_false, Bool.not_true, Bool.not_false, Bool.false_eq_true, bI_t, bI_f, Int.natCast_one, Int.cast_ofNat_Int, Int.natCast_zero, aGc_V, Int.toNat_natCast, or0, or0', or00, or10, or01, or11, o72_0, o72_1, o72_2, o72_3, o72_4, o72_5, o72_6, o72_7, n72, o72s_0, o72s_1, o72s_2, o72s_3, o72s_4, o72s_5, o72s_6, o72s_7, m_t, q1, q2, q3, q4, q5, s1]
    by_cases he1 : n1 - 1 = 1
    · rw [if_pos (by omega)]
      by_cases hz : 1 ≤ mg
      · rw [if_pos hz]
        exact ml_exit hC' hI2 (Or.inl he1) (by omega) ((mx mg (by omega)).2 hz)
      · rw [if_neg hz]
        exact ml_exit hC' hI2 (Or.inl he1) (by omega) ((mx mg (by omega)).1 (by omega))
    · rw [if_neg (by omega)]
      obtain ⟨i1, i2⟩ := ih _ _ _ _ _ _ mg (by omega) hI2 (by omega) hn2 (by omega) (by omega) (by omega) (by omega) hU
      by_cases hz : x11 + 1 < mg
      · rw [if_pos hz]
        exact i1 (x11 + 1) 0 (by omega) (by omega) (by omega) (by omega)
      · rw [if_neg hz]
        exact i2 (x11 + 1) 0
  · have hI2 := hI.mvR (k := 1) (f2 := ju f j (f c2)) (by omega) (fun i a b => by
      rw [show i = c2 by omega]
      omega) (fun i a b => by rw [show i = j by omega, juE, Nat.sub_self]; rfl) (fun i a => juN (by omega))
    simp (disch := first | assumption | omega | decide | exact okF_i | exact okF_r | exact okF_n | exact okF_j | rfl) only [jc_ref, rI_int, rR_ref, rR_null, rJ_long, ckR_ref, ckR_null, ckr_ref, ckr_null, ckW_int, ckW_ref, ckW_null, cI_ok, cR_ok, cR_null, cV_ok, cJ_ok, qH_eq, qD_in, aG_ref, aS_ref, aL_ref, pF_ref, cK_ref, cK_null, zI_lit, zJ_lit, zI_add, zI_sub, zI_mul, zI_neg, zI_eq, zI_lt, zI_le, Int.reduceLT, Int.reduceLE, Int.reduceAdd, Int.reduceSub, Int.reduceMul, Int.reduceNeg, Int.reduceEq, Int.reduceNe, reduceIte, jf_in, pFc_in, aGi, aGb, aSi, aLc_in, cKc_in, nA_in, jm_s1, jm_s2, jm_p1, jm_p2, jm_b, jn_b, jn_s, jn_p, jset_jset, jset_jpush2, ckR_is, ckr_is, rR_is, ckW_is, cR_is, obi2, ckW_int, eq_self, if_true, ref_null, if_false, ne_eq, not_true_eq_false, not_false_eq_true, decide_true, decide_false, decide_not, Bool.true_and, Bool.false_and, Bool.and_true, Bool.and_false, Bool.true_or, Bool.false_or, Bool.or_true, Bool.or_false, Bool.not_true, Bool.not_false, Bool.false_eq_true, bI_t, bI_f, Int.natCast_one, Int.cast_ofNat_Int, Int.natCast_zero, aGc_V, Int.toNat_natCast, or0, or0', or00, or10, or01, or11, o72_0, o72_1, o72_2, o72_3, o72_4, o72_5, o72_6, o72_7, n72, o72s_0, o72s_1, o72s_2, o72s_3, o72s_4, o72s_5, o72s_6, o72s_7, m_t, hk, k1, s2]
    rw [if_neg hc]
    simp (disch := first | assumption | omega | decide | exact okF_i | exact okF_r | exact okF_n | exact okF_j | rfl) only [jc_ref, rI_int, rR_ref, rR_null, rJ_long, ckR_ref, ckR_null, ckr_ref, ckr_null, ckW_int, ckW_ref, ckW_null, cI_ok, cR_ok, cR_null, cV_ok, cJ_ok, qH_eq, qD_in, aG_ref, aS_ref, aL_ref, pF_ref, cK_ref, cK_null, zI_lit, zJ_lit, zI_add, zI_sub, zI_mul, zI_neg, zI_eq, zI_lt, zI_le, Int.reduceLT, Int.reduceLE, Int.reduceAdd, Int.reduceSub, Int.reduceMul, Int.reduceNeg, Int.reduceEq, Int.reduceNe, reduceIte, jf_in, pFc_in, aGi, aGb, aSi, aLc_in, cKc_in, nA_in, jm_s1, jm_s2, jm_p1, jm_p2, jm_b, jn_b, jn_s, jn_p, jset_jset, jset_jpush2, ckR_is, ckr_is, rR_is, ckW_is, cR_is, obi2, ckW_int, eq_self, if_true, ref_null, if_false, ne_eq, not_true_eq_false, not_false_eq_true, decide_true, decide_false, decide_not, Bool.true_and, Bool.false_and, Bool.and_true, Bool.and_false, Bool.true_or, Bool.false_or, Bool.or_true, Bool.or_false, Bool.not_true, Bool.not_false, Bool.false_eq_true, bI_t, bI_f, Int.natCast_one, Int.cast_ofNat_Int, Int.natCast_zero, aGc_V, Int.toNat_natCast, or0, or0', or00, or10, or01, or11, o72_0, o72_1, o72_2, o72_3, o72_4, o72_5, o72_6, o72_7, n72, o72s_0, o72s_1, o72s_2, o72s_3, o72s_4, o72s_5, o72s_6, o72s_7, m_t, q1, q2, q3, q4, q5, s2]
    by_cases he1 : n2 - 1 = 0
    · rw [if_pos (by omega)]
      by_cases hz : 1 ≤ mg
      · rw [if_pos hz]
        exact ml_exit hC' hI2 (Or.inr he1) (by omega) ((mx mg (by omega)).2 hz)
      · rw [if_neg hz]
        exact ml_exit hC' hI2 (Or.inr he1) (by omega) ((mx mg (by omega)).1 (by omega))
    · rw [if_neg (by omega)]
      obtain ⟨i1, i2⟩ := ih _ _ _ _ _ _ mg (by omega) hI2 hn1 (by omega) hL (by omega) (by omega) (by omega) hU
      by_cases hz : x12 + 1 < mg
      · rw [if_pos hz]
        exact i1 0 (x12 + 1) (by omega) (by omega) (by omega) (by omega)
      · rw [if_neg hz]
        exact i2 0 (x12 + 1)
theorem ml_gal (hC : MCtx G H e e2 ts N N2 E t x1 tl ss rb rl) (hU : U < 1000000000) (hU1 : 1 ≤ U) (P356 : ML356 G rk d H e e2 ts N N2 B E f0 t tl ss rb rl U y1 y3 m) (f : Nat → Value) (j c1 n1 c2 n2 : Nat) (mg : Int) (hm : n1 + n2 ≤ m + 1) (hI : MI G rk f0 B E f t j c1 n1 c2 n2) (hn1 : 2 ≤ n1) (hn2 : 1 ≤ n2) (hL : c1 + n1 ≤ N2) (hmg1 : (n1 + n2 : Int) - 200000 ≤ mg) (hmg2 : mg + 3 * (n1 + n2) ≤ U) (hU0 : 2 + 3 * (n1 + n2) ≤ U) : (∀ x11 x12 : Int, MRes G rk H e ts N B E f0 e2 tl ss rb rl U (G2 (d + 4) 72009 268 [.ref ts, .int (zI y1), .int (zI n1), .int (zI y3), .int (zI n2), .ref e, .ref e2, .int (zI c1), .int (zI c2), .int (zI j), .int (zI mg), .int (zI x11), .int (zI x12)] [] (jset H e (1040, N, f)))) := by
  have hC' := hC
  obtain ⟨hG, hGe, hGt, hN, hN2, -, m_t, m_s, ne1, ne2, ne3, hE⟩ := hC
  have ne1' := Ne.symm ne1
  have hG1 : ∀ g, Fzn G (jset H e (1040, N, g)) := fun g => hG.arr hGe
  have mx : ∀ z : Int, z ≤ U → (z < 1 → 1 ≤ (1 : Int) ∧ (1 : Int) ≤ U) ∧ (1 ≤ z → 1 ≤ z ∧ z ≤ U) := fun z hz => ⟨fun _ => ⟨by omega, by omega⟩, fun h => ⟨h, hz⟩⟩
  obtain ⟨b1, b2, b3, b4⟩ := hI.1
  intro x11 x12
  have a2 := hI.ok2 c2 (Nat.le_refl _) (by omega)
  have r2 := a2.R
  have hk := fun (κ : Rz) (u : Ph κ) => cmp_K (hG1 f) a2 (κ := κ) (u := u)
  have mT : jm (jset H e (1040, N, f)) e2 = some (1040, N2, t) := (jm_s2 ne1).trans m_t
  have mE : jm (jset H e (1040, N, f)) e = some (1040, N, f) := jm_s1
  obtain ⟨k, k1, k2, k3, k4⟩ := c_gal72004 (d := d + 1) (hG1 f) hN2 mT (b := c1) (n := n1) hL hI.2.2.2.2.2.2.2.2.2.1 a2 hI.2.2.2.2.1 (hint := 0) (by omega)
  have k4' : M2 (d + 4) 72004 [f c2, .ref e2, .int (zI c1), .int (zI n1), .int (zI 0)] (jset H e (1040, N, f)) = some (.inl (some (.int (zI k))), jset H e (1040, N, f)) := k4
  have kl : k < n1 := by
    by_cases hh : k < n1
    · exact hh
    · have h1 := k2 (n1 - 1) (by omega)
      have h2 := hI.2.2.2.2.2.2.2.2.1 c2 (Nat.le_refl _) (by omega)
      rw [show c1 + (n1 - 1) = c1 + n1 - 1 by omega] at h1
      omega
  rw [F72009_268]
  simp (disch := first | assumption | omega | decide | exact okF_i | exact okF_r | exact okF_n | exact okF_j | rfl) only [jc_ref, rI_int, rR_ref, rR_null, rJ_long, ckR_ref, ckR_null, ckr_ref, ckr_null, ckW_int, ckW_ref, ckW_null, cI_ok, cR_ok, cR_null, cV_ok, cJ_ok, qH_eq, qD_in, aG_ref, aS_ref, aL_ref, pF_ref, cK_ref, cK_null, zI_lit, zJ_lit, zI_add, zI_sub, zI_mul, zI_neg, zI_eq, zI_lt, zI_le, Int.reduceLT, Int.reduceLE, Int.reduceAdd, Int.reduceSub, Int.reduceMul, Int.reduceNeg, Int.reduceEq, Int.reduceNe, reduceIte, jf_in, pFc_in, aGi, aGb, aSi, aLc_in, cKc_in, nA_in, jm_s1, jm_s2, jm_p1, jm_p2, jm_b, jn_b, jn_s, jn_p, jset_jset, jset_jpush2, ckR_is, ckr_is, rR_is, ckW_is, cR_is, obi2, ckW_int, eq_self, if_true, ref_null, if_false, ne_eq, not_true_eq_false, not_false_eq_true, decide_true, decide_false, decide_not, Bool.true_and, Bool.false_and, Bool.and_true, Bool.and_false, Bool.true_or, Bool.false_or, Bool.or_true, Bool.or_false, Bool.not_true, Bool.not_false, Bool.false_eq_true, bI_t, bI_f, Int.natCast_one, Int.cast_ofNat_Int, Int.natCast_zero, aGc_V, Int.toNat_natCast, or0, or0', or00, or10, or01, or11, o72_0, o72_1, o72_2, o72_3, o72_4, o72_5, o72_6, o72_7, n72, o72s_0, o72s_1, o72s_2, o72s_3, o72s_4, o72s_5, o72s_6, o72s_7]
  rw [F72009_292]
  simp (disch := first | assumption | omega | decide | exact okF_i | exact okF_r | exact okF_n | exact okF_j | rfl) only [jc_ref, rI_int, rR_ref, rR_null, rJ_long, ckR_ref, ckR_null, ckr_ref, ckr_null, ckW_int, ckW_ref, ckW_null, cI_ok, cR_ok, cR_null, cV_ok, cJ_ok, qH_eq, qD_in, aG_ref, aS_ref, aL_ref, pF_ref, cK_ref, cK_null, zI_lit, zJ_lit, zI_add, zI_sub, zI_mul, zI_neg, zI_eq, zI_lt, zI_le, Int.reduceLT, Int.reduceLE, Int.reduceAdd, Int.reduceSub, Int.reduceMul, Int.reduceNeg, Int.reduceEq, Int.reduceNe, reduceIte, jf_in, pFc_in, aGi, aGb, aSi, aLc_in, cKc_in, nA_in, jm_s1, jm_s2, jm_p1, jm_p2, jm_b, jn_b, jn_s, jn_p, jset_jset, jset_jpush2, ckR_is, ckr_is, rR_is, ckW_is, cR_is, obi2, ckW_int, eq_self, if_true, ref_null, if_false, ne_eq, not_true_eq_false, not_false_eq_true, decide_true, decide_false, decide_not, Bool.true_and, Bool.false_and, Bool.and_true, Bool.and_false, Bool.true_or, Bool.false_or, Bool.or_true, Bool.or_false, Bool.not_true, Bool.not_false, Bool.false_eq_true, bI_t, bI_f, Int.natCast_one, Int.cast_ofNat_Int, Int.natCast_zero, aGc_V, Int.toNat_natCast, or0, or0', or00, or10, or01, or11, o72_0, o72_1, o72_2, o72_3, o72_4, o72_5, o72_6, o72_7, n72, o72s_0, o72s_1, o72s_2, o72s_3, o72s_4, o72s_5, o72s_6, o72s_7, hk, k4']
  by_cases hk0 : k = 0
  · rw [if_pos (by omega)]
    have := k3 0 (by omega) (by omega)
    rw [Nat.add_zero] at this
    exact P356 _ _ _ _ _ _ mg k x12 hm hI hn1 hn2 hL hmg1 hmg2 hU0 (by omega) (by omega) (by omega)
  · rw [if_neg (by omega)]
    have cpy := acp2 (d := d + 3) (sp := c1) (dp := j) (k := k) mT mE rfl (by omega) (by omega) (by omega) (by omega)
    have hI2 := hI.mvL (k := k) (f2 := jcpy t f c1 j k) kl (Or.inr fun i a b => by
      have h1 := k2 (k - 1) (by omega)
      have h2 := hI.2.2.2.2.2.1 c2 i (Nat.le_refl _) a (by omega)
      rw [show c1 + (k - 1) = c1 + k - 1 by omega] at h1
      omega) (fun i a b => by rw [jcpy, if_pos ⟨a, b⟩]) (fun i a => by rw [jcpy, if_neg (by omega)])
    have z1 : (n1 : Int) - k = ((n1 - k : Nat) : Int) := by omega
    have z2 : (c1 : Int) + k = ((c1 + k : Nat) : Int) := by omega
    have z3 : (j : Int) + k = ((j + k : Nat) : Int) := by omega
    simp (disch := first | assumption | omega | decide | exact okF_i | exact okF_r | exact okF_n | exact okF_j | rfl) only [jc_ref, rI_int, rR_ref, rR_null, rJ_long, ckR_ref, ckR_null, ckr_ref, ckr_null, ckW_int, ckW_ref, ckW_null, cI_ok, cR_ok, cR_null, cV_ok, cJ_ok, qH_eq, qD_in, aG_ref, aS_ref, aL_ref, pF_ref, cK_ref, cK_null, zI_lit, zJ_lit, zI_add, zI_sub, zI_mul, zI_neg, zI_eq, zI_lt, zI_le, Int.reduceLT, Int.reduceLE, Int.reduceAdd, Int.reduceSub, Int.reduceMul, Int.reduceNeg, Int.reduceEq, Int.reduceNe, reduceIte, jf_in, pFc_in, aGi, aGb, aSi, aLc_in, cKc_in, nA_in, jm_s1, jm_s2, jm_p1, jm_p2, jm_b, jn_b, jn_s, jn_p, jset_jset, jset_jpush2, ckR_is, ckr_is, rR_is, ckW_is, cR_is, obi2, ckW_int, eq_self, if_true, ref_null, if_false, ne_eq, not_true_eq_false, not_false_eq_true, decide_true, decide_false, decide_not, Bool.true_and, Bool.false_and, Bool.and_true, Bool.and_false, Bool.true_or, Bool.false_or, Bool.or_true, Bool.or_false, Bool.not_true, Bool.not_false, Bool.false_eq_true, bI_t, bI_f, Int.natCast_one, Int.cast_ofNat_Int, Int.natCast_zero, aGc_V, Int.toNat_natCast, or0, or0', or00, or10, or01, or11, o72_0, o72_1, o72_2, o72_3, o72_4, o72_5, o72_6, o72_7, n72, o72s_0, o72s_1, o72s_2, o72s_3, o72s_4, o72s_5, o72s_6, o72s_7, cpy, z1, z2, z3]
    by_cases he1 : 1 < n1 - k
    · rw [if_pos (by omega)]
      have h3 := k3 k (Nat.le_refl _) kl
      exact P356 _ _ _ _ _ _ mg k x12 (by omega) hI2 (by omega) hn2 (by omega) (by omega) (by omega) (by omega) (by omega) (by omega) (by
        rw [jcpy, if_neg (by omega)]
        omega)
    · rw [if_neg (by omega)]
      by_cases hz : 1 ≤ mg
      · rw [if_pos hz]
        exact ml_exit hC' hI2 (Or.inl (by omega)) (by omega) ((mx mg (by omega)).2 hz)
      · rw [if_neg hz]
        exact ml_exit hC' hI2 (Or.inl (by omega)) (by omega) ((mx mg (by omega)).1 (by omega))
theorem ml_main (hC : MCtx G H e e2 ts N N2 E t x1 tl ss rb rl) (hU : U < 1000000000) (hU1 : 1 ≤ U) : ∀ m, MLI G rk d H e e2 ts N N2 B E f0 t tl ss rb rl U y1 y3 m := by
  intro m
  induction m with
  | zero => intro f j c1 n1 c2 n2 mg h1 h2 h3 h4; omega
  | succ m ih =>
    intro f j c1 n1 c2 n2 mg hm hI hn1 hn2 hL hmg1 hmg2 hU0 hU
    exact ⟨ml_one hC hU hU1 ih f j c1 n1 c2 n2 mg hm hI hn1 hn2 hL hmg1 hmg2 hU0, ml_gal hC hU hU1 (ml_356 hC hU hU1 (ml_450 hC hU hU1 ih)) f j c1 n1 c2 n2 mg hm hI hn1 hn2 hL hmg1 hmg2 hU0⟩
end
end
