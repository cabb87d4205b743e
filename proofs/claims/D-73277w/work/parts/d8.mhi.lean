/-! sort: mergeHi -/
-- jc_ref, rI_int, rR_ref, rR_null, rJ_long, ckR_ref, ckR_null, ckr_ref, ckr_null, ckW_int, ckW_ref, ckW_null, cI_ok, cR_ok, cR_null, cV_ok, cJ_ok, qH_eq, qD_in, aG_ref, aS_ref, aL_ref, pF_ref, cK_ref, cK_null, zI_lit, zJ_lit, zI_add, zI_sub, zI_mul, zI_neg, zI_eq, zI_lt, zI_le, Int.reduceLT, Int.reduceLE, Int.reduceAdd, Int.reduceSub, Int.reduceMul, Int.reduceNeg, Int.reduceEq, Int.reduceNe, reduceIte, jf_in, pFc_in, aGi, aGb, aSi, aLc_in, cKc_in, nA_in, jm_s1, jm_s2, jm_p1, jm_p2, jm_b, jn_b, jn_s, jn_p, jset_jset, jset_jpush2, ckR_is, ckr_is, rR_is, ckW_is, cR_is, obi2, ckW_int, eq_self, if_true, ref_null, if_false, ne_eq, not_true_eq_false, not_false_eq_true, decide_true, decide_false, decide_not, Bool.true_and, Bool.false_and, Bool.and_true, Bool.and_false, Bool.true_or, Bool.false_or, Bool.or_true, Bool.or_false, Bool.not_true, Bool.not_false, Bool.false_eq_true, bI_t, bI_f, Int.natCast_one, Int.cast_ofNat_Int, Int.natCast_zero, aGc_V, Int.toNat_natCast, or0, or0', or00, or10, or01, or11, o72_0, o72_1, o72_2, o72_3, o72_4, o72_5, o72_6, o72_7, n72, o72s_0, o72s_1, o72s_2, o72s_3, o72s_4, o72s_5, o72s_6, o72s_7 = jc_ref, rI_int, rR_ref, rR_null, rJ_long, ckR_ref, ckR_null, ckr_ref, ckr_null, ckW_int, ckW_ref, ckW_null, cI_ok, cR_ok, cR_null, cV_ok, cJ_ok, qH_eq, qD_in, aG_ref, aS_ref, aL_ref, pF_ref, cK_ref, cK_null, zI_lit, zJ_lit, zI_add, zI_sub, zI_mul, zI_neg, zI_eq, zI_lt, zI_le, Int.reduceLT, Int.reduceLE, Int.reduceAdd, Int.reduceSub, Int.reduceMul, Int.reduceNeg, Int.reduceEq, Int.reduceNe, reduceIte, jf_in, pFc_in, aGi, aGb, aSi, aLc_in, cKc_in, nA_in, jm_s1, jm_s2, jm_p1, jm_p2, jm_b, jn_b, jn_s, jn_p, jset_jset, jset_jpush2, ckR_is, ckr_is, rR_is, ckW_is, cR_is, obi2, ckW_int, eq_self, if_true, ref_null, if_false, ne_eq, not_true_eq_false, not_false_eq_true, decide_true, decide_false, decide_not, Bool.true_and, Bool.false_and, Bool.and_true, Bool.and_false, Bool.true_or, Bool.false_or, Bool.or_true, Bool.or_false, Bool.not_true, Bool.not_false, Bool.false_eq_true, bI_t, bI_f, Int.natCast_one, Int.cast_ofNat_Int, Int.natCast_zero, aGc_V, Int.toNat_natCast, or0, or0', or00, or10, or01, or11, o72_0, o72_1, o72_2, o72_3, o72_4, o72_5, o72_6, o72_7, n72, o72s_0, o72s_1, o72s_2, o72s_3, o72s_4, o72s_5, o72s_6, o72s_7
theorem zq0 {z : Int} (h1 : -2147483648 ≤ z) (h2 : z < 2147483648) : (zI z = 0) = (z = 0) := by rw [show (0 : Int32) = zI 0 from rfl, zI_eq h1 h2 (by omega) (by omega)]
theorem zl1 {z : Int} (h1 : -2147483648 ≤ z) (h2 : z < 2147483648) : ((1 : Int32) ≤ zI z) = (1 ≤ z) := by rw [show (1 : Int32) = zI 1 from rfl, zI_le (by omega) (by omega) h1 h2]
theorem zt1 {z : Int} (h1 : -2147483648 ≤ z) (h2 : z < 2147483648) : ((1 : Int32) < zI z) = (1 < z) := by rw [show (1 : Int32) = zI 1 from rfl, zI_lt (by omega) (by omega) h1 h2]
def HZ (B n1 n2 : Nat) (z1 z2 c8 c9 c10 : Int) : Prop := z1 = n1 ∧ z2 = n2 ∧ c8 = (B : Int) + n1 - 1 ∧ c9 = (n2 : Int) - 1 ∧ c10 = (B : Int) + n1 + n2 - 1
section
variable {G : Nat → Option Cl} {rk : Value → Int} {d : Nat} {H : AH} {e e2 ts N N2 B E n1 n2 : Nat} {f0 f t : Nat → Value} {x1 tl ss : Int} {rb rl : Value} {mg U y3 z1 z2 c8 c9 c10 : Int} {m : Nat}
theorem mh_exit (hC : MCtx G H e e2 ts N N2 E t x1 tl ss rb rl) (h : MJ G rk f0 B E f t n1 n2) (hx : n2 = 1 ∨ n1 = 0) (hL : n2 ≤ N2) (hm : 1 ≤ mg ∧ mg ≤ U) (hz : HZ B n1 n2 z1 z2 c8 c9 c10) {x11 x12 x13 : Int} :
    MRes G rk H e ts N B E f0 e2 tl ss rb rl U (G2 (d + 4) 72008 590 [.ref ts, .int (zI B), .int (zI z1), .int (zI y3), .int (zI z2), .ref e, .ref e2, .int (zI 0), .int (zI c8), .int (zI c9), .int (zI c10), .int (zI x11), .int (zI x12), .int (zI x13)] [.int (zI mg), .ref ts] (jset H e (1040, N, f))) := by
  obtain ⟨hG, hGe, hGt, hN, hN2, -, m_t, m_s, ne1, ne2, ne3, hE⟩ := hC
  obtain ⟨b1, b2⟩ := h.1
  obtain ⟨e1, e2', e3, e4, e5⟩ := hz
  have ne1' := Ne.symm ne1
  have ne2' := Ne.symm ne2
  have ne3' := Ne.symm ne3
  have mA : ∀ c, jm (jset (jset H e (1040, N, f)) ts c) e = some (1040, N, f) := fun c => (jm_s2 ne2').trans jm_s1
  have mT : ∀ c, jm (jset (jset H e (1040, N, f)) ts c) e2 = some (1040, N2, t) := fun c => (jm_s2 ne3').trans ((jm_s2 ne1).trans m_t)
  have post : ∀ f' : Nat → Value, MPost H (jset (jset (jset H e (1040, N, f)) ts (72, 8, o72 (.ref e) mg (.ref e2) 0 tl ss rb rl)) e (1040, N, f')) e N f' ts (o72 (.ref e) mg (.ref e2) 0 tl ss rb rl) := fun f' => ⟨jm_s1, (jm_s2 ne2).trans jm_s1, (Fr.set (Or.inl rfl)).tr ((Fr.set (Or.inr rfl)).tr (Fr.set (Or.inl rfl))), rfl, rfl⟩
  by_cases h1 : n2 = 1
  · subst h1
    have cpy := acpI (d := d + 3) (sp := c8 - z1 + 1) (dp := c10 - z1 + 1) (k := z1) (mA (72, 8, o72 (.ref e) mg (.ref e2) 0 tl ss rb rl)) (mA _) rfl (by omega) (by omega) (by omega) (by omega) (by omega) (by omega) (by omega)
    obtain ⟨g, hg⟩ : ∃ g, g = jcpy f f (c8 - z1 + 1).toNat (c10 - z1 + 1).toNat z1.toNat := ⟨_, rfl⟩
    rw [← hg] at cpy
    have a1 := h.ok2 0 (Nat.le_refl _) (by omega)
    have r1 := a1.R
    have hG2 : Fzn G (jset (jset (jset H e (1040, N, f)) ts (72, 8, o72 (.ref e) mg (.ref e2) 0 tl ss rb rl)) e (1040, N, g)) := ((hG.arr hGe).arr hGt).arr hGe
    have s1 := fun (κ : AH → Rz) (u : Ph κ) => aSr_in (κ := κ) (u := u) (h := jset (jset (jset H e (1040, N, f)) ts (72, 8, o72 (.ref e) mg (.ref e2) 0 tl ss rb rl)) e (1040, N, g)) jm_s1 (a1.ok hG2) (i := c10 - z1) (by omega) (by omega) (by omega)
    have t9 : c9.toNat = 0 := by omega
    refine ⟨_, ju g (c10 - z1).toNat (t 0), mg, ?_, post _, hm, ?_⟩
    · rw [F72008_590]
      simp (disch := first | assumption | omega | decide | exact okF_i | exact okF_r | exact okF_n | exact okF_j | rfl) only [jc_ref, rI_int, rR_ref, rR_null, rJ_long, ckR_ref, ckR_null, ckr_ref, ckr_null, ckW_int, ckW_ref, ckW_null, cI_ok, cR_ok, cR_null, cV_ok, cJ_ok, qH_eq, qD_in, aG_ref, aS_ref, aL_ref, pF_ref, cK_ref, cK_null, zI_lit, zJ_lit, zI_add, zI_sub, zI_mul, zI_neg, zI_eq, zI_lt, zI_le, Int.reduceLT, Int.reduceLE, Int.reduceAdd, Int.reduceSub, Int.reduceMul, Int.reduceNeg, Int.reduceEq, Int.reduceNe, reduceIte, jf_in, pFc_in, aGi, aGb, aSi, aLc_in, cKc_in, nA_in, jm_s1, jm_s2, jm_p1, jm_p2, jm_b, jn_b, jn_s, jn_p, jset_jset, jset_jpush2, ckR_is, ckr_is, rR_is, ckW_is, cR_is, obi2, ckW_int, eq_self, if_true, ref_null, if_false, ne_eq, not_true_eq_false, not_false_eq_true, decide_true, decide_false, decide_not, Bool.true_and, Bool.false_and, Bool.and_true, Bool.and_false, Bool.true_or, Bool.false_or, Bool.or_true, Bool.or_false, Bool.not_true, Bool.not_false, Bool.false_eq_true, bI_t, bI_f, Int.natCast_one, Int.cast_ofNat_Int, Int.natCast_zero, aGc_V, Int.toNat_natCast, or0, or0', or00, or10, or01, or11, o72_0, o72_1, o72_2, o72_3, o72_4, o72_5, o72_6, o72_7, n72, o72s_0, o72s_1, o72s_2, o72s_3, o72s_4, o72s_5, o72s_6, o72s_7, m_s]
      rw [if_pos (by omega), F72008_617]
      simp (disch := first | assumption | omega | decide | exact okF_i | exact okF_r | exact okF_n | exact okF_j | rfl) only [jc_ref, rI_int, rR_ref, rR_null, rJ_long, ckR_ref, ckR_null, ckr_ref, ckr_null, ckW_int, ckW_ref, ckW_null, cI_ok, cR_ok, cR_null, cV_ok, cJ_ok, qH_eq, qD_in, aG_ref, aS_ref, aL_ref, pF_ref, cK_ref, cK_null, zI_lit, zJ_lit, zI_add, zI_sub, zI_mul, zI_neg, zI_eq, zI_lt, zI_le, Int.reduceLT, Int.reduceLE, Int.reduceAdd, Int.reduceSub, Int.reduceMul, Int.reduceNeg, Int.reduceEq, Int.reduceNe, reduceIte, jf_in, pFc_in, aGi, aGb, aSi, aLc_in, cKc_in, nA_in, jm_s1, jm_s2, jm_p1, jm_p2, jm_b, jn_b, jn_s, jn_p, jset_jset, jset_jpush2, ckR_is, ckr_is, rR_is, ckW_is, cR_is, obi2, ckW_int, eq_self, if_true, ref_null, if_false, ne_eq, not_true_eq_false, not_false_eq_true, decide_true, decide_false, decide_not, Bool.true_and, Bool.false_and, Bool.and_true, Bool.and_false, Bool.true_or, Bool.false_or, Bool.or_true, Bool.or_false, Bool.not_true, Bool.not_false, Bool.false_eq_true, bI_t, bI_f, Int.natCast_one, Int.cast_ofNat_Int, Int.natCast_zero, aGc_V, Int.toNat_natCast, or0, or0', or00, or10, or01, or11, o72_0, o72_1, o72_2, o72_3, o72_4, o72_5, o72_6, o72_7, n72, o72s_0, o72s_1, o72s_2, o72s_3, o72s_4, o72s_5, o72s_6, o72s_7, cpy, mT, m_t, t9, s1]
    · have hR := h.mvF (k := n1) (f2 := g) (Nat.le_refl _) (fun i a b => by
        have := h.2.2.2.2.2.2.2.2.1 i (by omega) b
        rw [Nat.sub_self]
        omega) (fun i a b => by rw [hg, jcpy, if_pos ⟨by omega, by omega⟩]; congr 1; omega) (fun i a => by rw [hg, jcpy, if_neg (by omega)])
      rw [Nat.sub_self] at hR
      exact hR.fin (fun i a b => by rw [show i = (c10 - z1).toNat by omega, juE, show (c10 - z1).toNat - B = 0 by omega]) (fun i a => juN (by omega))
  · have h2 : n1 = 0 := by omega
    subst h2
    have cpy := acpI (d := d + 3) (sp := 0) (dp := c10 - (z2 - 1)) (k := z2) (mT (72, 8, o72 (.ref e) mg (.ref e2) 0 tl ss rb rl)) (mA _) rfl (by omega) (by omega) (by omega) (by omega) (by omega) (by omega) (by omega)
    obtain ⟨g, hg⟩ : ∃ g, g = jcpy t f (0 : Int).toNat (c10 - (z2 - 1)).toNat z2.toNat := ⟨_, rfl⟩
    rw [← hg] at cpy
    refine ⟨_, g, mg, ?_, post _, hm, ?_⟩
    · rw [F72008_590]
      simp (disch := first | assumption | omega | decide | exact okF_i | exact okF_r | exact okF_n | exact okF_j | rfl) only [jc_ref, rI_int, rR_ref, rR_null, rJ_long, ckR_ref, ckR_null, ckr_ref, ckr_null, ckW_int, ckW_ref, ckW_null, cI_ok, cR_ok, cR_null, cV_ok, cJ_ok, qH_eq, qD_in, aG_ref, aS_ref, aL_ref, pF_ref, cK_ref, cK_null, zI_lit, zJ_lit, zI_add, zI_sub, zI_mul, zI_neg, zI_eq, zI_lt, zI_le, Int.reduceLT, Int.reduceLE, Int.reduceAdd, Int.reduceSub, Int.reduceMul, Int.reduceNeg, Int.reduceEq, Int.reduceNe, reduceIte, jf_in, pFc_in, aGi, aGb, aSi, aLc_in, cKc_in, nA_in, jm_s1, jm_s2, jm_p1, jm_p2, jm_b, jn_b, jn_s, jn_p, jset_jset, jset_jpush2, ckR_is, ckr_is, rR_is, ckW_is, cR_is, obi2, ckW_int, eq_self, if_true, ref_null, if_false, ne_eq, not_true_eq_false, not_false_eq_true, decide_true, decide_false, decide_not, Bool.true_and, Bool.false_and, Bool.and_true, Bool.and_false, Bool.true_or, Bool.false_or, Bool.or_true, Bool.or_false, Bool.not_true, Bool.not_false, Bool.false_eq_true, bI_t, bI_f, Int.natCast_one, Int.cast_ofNat_Int, Int.natCast_zero, aGc_V, Int.toNat_natCast, or0, or0', or00, or10, or01, or11, o72_0, o72_1, o72_2, o72_3, o72_4, o72_5, o72_6, o72_7, n72, o72s_0, o72s_1, o72s_2, o72s_3, o72s_4, o72s_5, o72s_6, o72s_7, m_s]
      rw [if_neg (by omega), if_neg (by omega), F72008_691]
      simp (disch := first | assumption | omega | decide | exact okF_i | exact okF_r | exact okF_n | exact okF_j | rfl) only [jc_ref, rI_int, rR_ref, rR_null, rJ_long, ckR_ref, ckR_null, ckr_ref, ckr_null, ckW_int, ckW_ref, ckW_null, cI_ok, cR_ok, cR_null, cV_ok, cJ_ok, qH_eq, qD_in, aG_ref, aS_ref, aL_ref, pF_ref, cK_ref, cK_null, zI_lit, zJ_lit, zI_add, zI_sub, zI_mul, zI_neg, zI_eq, zI_lt, zI_le, Int.reduceLT, Int.reduceLE, Int.reduceAdd, Int.reduceSub, Int.reduceMul, Int.reduceNeg, Int.reduceEq, Int.reduceNe, reduceIte, jf_in, pFc_in, aGi, aGb, aSi, aLc_in, cKc_in, nA_in, jm_s1, jm_s2, jm_p1, jm_p2, jm_b, jn_b, jn_s, jn_p, jset_jset, jset_jpush2, ckR_is, ckr_is, rR_is, ckW_is, cR_is, obi2, ckW_int, eq_self, if_true, ref_null, if_false, ne_eq, not_true_eq_false, not_false_eq_true, decide_true, decide_false, decide_not, Bool.true_and, Bool.false_and, Bool.and_true, Bool.and_false, Bool.true_or, Bool.false_or, Bool.or_true, Bool.or_false, Bool.not_true, Bool.not_false, Bool.false_eq_true, bI_t, bI_f, Int.natCast_one, Int.cast_ofNat_Int, Int.natCast_zero, aGc_V, Int.toNat_natCast, or0, or0', or00, or10, or01, or11, o72_0, o72_1, o72_2, o72_3, o72_4, o72_5, o72_6, o72_7, n72, o72s_0, o72s_1, o72s_2, o72s_3, o72s_4, o72s_5, o72s_6, o72s_7, cpy]
    · exact h.fin (fun i a b => by rw [hg, jcpy, if_pos ⟨by omega, by omega⟩]; congr 1; show 0 + _ = _; omega) (fun i a => by rw [hg, jcpy, if_neg (by omega)])
/-! the loops -/
def MHI (G : Nat → Option Cl) (rk : Value → Int) (d : Nat) (H : AH) (e e2 ts N N2 B E : Nat) (f0 t : Nat → Value) (tl ss : Int) (rb rl : Value) (U y3 : Int) (m : Nat) : Prop := ∀ (f : Nat → Value) (n1 n2 : Nat) (mg z1 z2 c8 c9 c10 : Int), n1 + n2 ≤ m → MJ G rk f0 B E f t n1 n2 → 1 ≤ n1 → 2 ≤ n2 → n2 ≤ N2 → (n1 + n2 : Int) - 200000 ≤ mg → mg + 3 * (n1 + n2) ≤ U → 2 + 3 * (n1 + n2) ≤ U → HZ B n1 n2 z1 z2 c8 c9 c10 → 
    (∀ x12 x13 : Int, 0 ≤ x12 → x12 + n1 + n2 ≤ 300000 → 0 ≤ x13 → x13 + n1 + n2 ≤ 300000 → MRes G rk H e ts N B E f0 e2 tl ss rb rl U (G2 (d + 4) 72008 185 [.ref ts, .int (zI B), .int (zI z1), .int (zI y3), .int (zI z2), .ref e, .ref e2, .int (zI 0), .int (zI c8), .int (zI c9), .int (zI c10), .int (zI mg), .int (zI x12), .int (zI x13)] [] (jset H e (1040, N, f)))) ∧
    (∀ x12 x13 : Int, MRes G rk H e ts N B E f0 e2 tl ss rb rl U (G2 (d + 4) 72008 306 [.ref ts, .int (zI B), .int (zI z1), .int (zI y3), .int (zI z2), .ref e, .ref e2, .int (zI 0), .int (zI c8), .int (zI c9), .int (zI c10), .int (zI mg), .int (zI x12), .int (zI x13)] [] (jset H e (1040, N, f))))
def MH506 (G : Nat → Option Cl) (rk : Value → Int) (d : Nat) (H : AH) (e e2 ts N N2 B E : Nat) (f0 t : Nat → Value) (tl ss : Int) (rb rl : Value) (U y3 : Int) (m : Nat) : Prop := ∀ (f : Nat → Value) (n1 n2 : Nat) (mg z1 z2 c8 c9 c10 : Int), n1 + n2 ≤ m + 1 → MJ G rk f0 B E f t n1 n2 → 1 ≤ n1 → 2 ≤ n2 → n2 ≤ N2 → (n1 + n2 : Int) - 200000 ≤ mg → mg + 3 * (n1 + n2) ≤ U → 2 + 3 * (n1 + n2) ≤ U → HZ B n1 n2 z1 z2 c8 c9 c10 → (∀ i, B ≤ i → i < B + n1 → i = B + n1 - 1 → rk (t (n2 - 1)) ≤ rk (f i)) → ∀ x12 x13 : Int, 0 ≤ x12 → x12 < 100000 → 0 ≤ x13 → x13 < 100000 → MRes G rk H e ts N B E f0 e2 tl ss rb rl U (G2 (d + 4) 72008 506 [.ref ts, .int (zI B), .int (zI z1), .int (zI y3), .int (zI z2), .ref e, .ref e2, .int (zI 0), .int (zI c8), .int (zI c9), .int (zI c10), .int (zI mg), .int (zI x12), .int (zI x13)] [] (jset H e (1040, N, f)))
def MH400 (G : Nat → Option Cl) (rk : Value → Int) (d : Nat) (H : AH) (e e2 ts N N2 B E : Nat) (f0 t : Nat → Value) (tl ss : Int) (rb rl : Value) (U y3 : Int) (m : Nat) : Prop := ∀ (f : Nat → Value) (n1 n2 : Nat) (mg z1 z2 c8 c9 c10 : Int), n1 + n2 ≤ m + 1 → MJ G rk f0 B E f t n1 n2 → 1 ≤ n1 → 2 ≤ n2 → n2 ≤ N2 → (n1 + n2 : Int) - 200000 ≤ mg → mg + 3 * (n1 + n2) ≤ U → 2 + 3 * (n1 + n2) ≤ U → HZ B n1 n2 z1 z2 c8 c9 c10 → (∀ i, B ≤ i → i < B + n1 → rk (f i) ≤ rk (t (n2 - 1))) → ∀ x12 x13 : Int, 0 ≤ x12 → x12 < 100000 → MRes G rk H e ts N B E f0 e2 tl ss rb rl U (G2 (d + 4) 72008 400 [.ref ts, .int (zI B), .int (zI z1), .int (zI y3), .int (zI z2), .ref e, .ref e2, .int (zI 0), .int (zI c8), .int (zI c9), .int (zI c10), .int (zI mg), .int (zI x12), .int (zI x13)] [] (jset H e (1040, N, f)))
section
variable {y3 : Int} {m : Nat}
theorem mh_506 (hC : MCtx G H e e2 ts N N2 E t x1 tl ss rb rl) (hU : U < 1000000000) (hU1 : 1 ≤ U) (ih : MHI G rk d H e e2 ts N N2 B E f0 t tl ss rb rl U y3 m) : MH506 G rk d H e e2 ts N N2 B E f0 t tl ss rb rl U y3 m := by
  have hC' := hC
  obtain ⟨hG, hGe, hGt, hN, hN2, -, m_t, m_s, ne1, ne2, ne3, hE⟩ := hC
  have ne1' := Ne.symm ne1
  have hG1 : ∀ g, Fzn G (jset H e (1040, N, g)) := fun g => hG.arr hGe
  have mx : ∀ z : Int, z ≤ U → (z < 1 → 1 ≤ (1 : Int) ∧ (1 : Int) ≤ U) ∧ (1 ≤ z → 1 ≤ z ∧ z ≤ U) := fun z hz => ⟨fun _ => ⟨by omega, by omega⟩, fun h => ⟨h, hz⟩⟩
  intro f n1 n2 mg z1 z2 c8 c9 c10 hm hI hn1 hn2 hL hmg1 hmg2 hU0 hz
  have hz' := hz
  obtain ⟨b1, b2⟩ := hI.1
  obtain ⟨e1, e2', e3, e4, e5⟩ := hz
  have t8 : c8.toNat = B + n1 - 1 := by omega
  have t9 : c9.toNat = n2 - 1 := by omega
  have t10 : c10.toNat = B + n1 + n2 - 1 := by omega
  have mT : ∀ g, jm (jset H e (1040, N, g)) e2 = some (1040, N2, t) := fun g => (jm_s2 ne1).trans m_t
  intro hle x12 x13 p1 p2 p3 p4
  have a1 := hI.ok1 (B + n1 - 1) (by omega) (by omega)
  have r1 := a1.R
  have s1 := fun (κ : AH → Rz) (u : Ph κ) => aSr_in (κ := κ) (u := u) (h := jset H e (1040, N, f)) jm_s1 (a1.ok (hG1 f)) (i := c10) (by omega) (by omega) (by omega)
  rw [t10] at s1
  have hI2 := hI.mvF (k := 1) (f2 := ju f (B + n1 + n2 - 1) (f (B + n1 - 1))) (by omega) (fun i a b => by
    rw [show i = B + n1 - 1 by omega]
    exact hle _ (by omega) (by omega) rfl) (fun i a b => by rw [show i = B + n1 + n2 - 1 by omega, juE]; congr 1; omega) (fun i a => juN (by omega))
  rw [F72008_506]
  simp (disch := first | assumption | omega | decide | exact okF_i | exact okF_r | exact okF_n | exact okF_j | rfl) only [jc_ref, rI_int, rR_ref, rR_null, rJ_long, ckR_ref, ckR_null, ckr_ref, ckr_null, ckW_int, ckW_ref, ckW_null, cI_ok, cR_ok, cR_null, cV_ok, cJ_ok, qH_eq, qD_in, aG_ref, aS_ref, aL_ref, pF_ref, cK_ref, cK_null, zI_lit, zJ_lit, zI_add, zI_sub, zI_mul, zI_neg, zI_eq, zI_lt, zI_le, Int.reduceLT, Int.reduceLE, Int.reduceAdd, Int.reduceSub, Int.reduceMul, Int.reduceNeg, Int.reduceEq, Int.reduceNe, reduceIte, jf_in, pFc_in, aGi, aGb, aSi, aLc_in, cKc_in, nA_in, jm_s1, jm_s2, jm_p1, jm_p2, jm_b, jn_b, jn_s, jn_p, jset_jset, jset_jpush2, ckR_is, ckr_is, rR_is, ckW_is, cR_is, obi2, ckW_int, eq_self, if_true, ref_null, if_false, ne_eq, not_true_eq_false, not_false_eq_true, decide_true, decide_false, decide_not, Bool.true_and, Bool.false_and, Bool.and_true, Bool.and_false, Bool.true_or, Bool.false_or, Bool.or_true, Bool.or_false, Bool.not_true, Bool.not_false, Bool.false_eq_true, bI_t, bI_f, Int.natCast_one, Int.cast_ofNat_Int, Int.natCast_zero, aGc_V, Int.toNat_natCast, or0, or0', or00, or10, or01, or11, o72_0, o72_1, o72_2, o72_3, o72_4, o72_5, o72_6, o72_7, n72, o72s_0, o72s_1, o72s_2, o72s_3, o72s_4, o72s_5, o72s_6, o72s_7, mT, t8, s1]
  by_cases h1 : n1 - 1 = 0
  · rw [if_pos (by omega)]
    by_cases hq : 1 ≤ mg
    · rw [if_pos hq]
      exact mh_exit hC' hI2 (Or.inr h1) (by omega) ((mx mg (by omega)).2 hq) ⟨by omega, by omega, by omega, by omega, by omega⟩
    · rw [if_neg hq]
      exact mh_exit hC' hI2 (Or.inr h1) (by omega) ((mx mg (by omega)).1 (by omega)) ⟨by omega, by omega, by omega, by omega, by omega⟩
  · rw [if_neg (by omega)]
    obtain ⟨-, i2⟩ := ih _ _ _ (mg + -1) (z1 + -1) z2 (c8 + -1) c9 (c10 + -1) (by omega) hI2 (by omega) hn2 (by omega) (by omega) (by omega) (by omega) ⟨by omega, by omega, by omega, by omega, by omega⟩
    have back : MRes G rk H e ts N B E f0 e2 tl ss rb rl U (if 0 ≤ mg + -1 then G2 (d + 4) 72008 179 [.ref ts, .int (zI B), .int (zI (z1 + -1)), .int (zI y3), .int (zI z2), .ref e, .ref e2, .int (zI 0), .int (zI (c8 + -1)), .int (zI c9), .int (zI (c10 + -1)), .int (zI (mg + -1 + 2)), .int (zI x12), .int (zI x13)] [] (jset H e (1040, N, ju f (B + n1 + n2 - 1) (f (B + n1 - 1)))) else G2 (d + 4) 72008 179 [.ref ts, .int (zI B), .int (zI (z1 + -1)), .int (zI y3), .int (zI z2), .ref e, .ref e2, .int (zI 0), .int (zI (c8 + -1)), .int (zI c9), .int (zI (c10 + -1)), .int (zI 2), .int (zI x12), .int (zI x13)] [] (jset H e (1040, N, ju f (B + n1 + n2 - 1) (f (B + n1 - 1))))) := by
      by_cases hq : 0 ≤ mg + -1
      · rw [if_pos hq, F72008_179]
        obtain ⟨i1, -⟩ := ih _ _ _ (mg + -1 + 2) (z1 + -1) z2 (c8 + -1) c9 (c10 + -1) (by omega) hI2 (by omega) hn2 (by omega) (by omega) (by omega) (by omega) ⟨by omega, by omega, by omega, by omega, by omega⟩
        have := i1 0 0 (by omega) (by omega) (by omega) (by omega)
        simp (disch := first | assumption | omega | decide | exact okF_i | exact okF_r | exact okF_n | exact okF_j | rfl) only [jc_ref, rI_int, rR_ref, rR_null, rJ_long, ckR_ref, ckR_null, ckr_ref, ckr_null, ckW_int, ckW_ref, ckW_null, cI_ok, cR_ok, cR_null, cV_ok, cJ_ok, qH_eq, qD_in, aG_ref, aS_ref, aL_ref, pF_ref, cK_ref, cK_null, zI_lit, zJ_lit, zI_add, zI_sub, zI_mul, zI_neg, zI_eq, zI_lt, zI_le, Int.reduceLT, Int.reduceLE, Int.reduceAdd, Int.reduceSub, Int.reduceMul, Int.reduceNeg, Int.reduceEq, Int.reduceNe, reduceIte, jf_in, pFc_in, aGi, aGb, aSi, aLc_in, cKc_in, nA_in, jm_s1, jm_s2, jm_p1, jm_p2, jm_b, jn_b, jn_s, jn_p, jset_jset, jset_jpush2, ckR_is, ckr_is, rR_is, ckW_is, cR_is, obi2, ckW_int, eq_self, if_true, ref_null, if_false, ne_eq, not_true_eq_false, not_false_eq_true, decide_true, decide_false, decide_not, Bool.true_and, Bool.false_and, Bool.and_true, Bool.and_false, Bool.true_or, Bool.false_or, Bool.or_true, Bool.or_false, Bool.not_true, Bool.not_false, Bool.false_eq_true, bI_t, bI_f, Int.natCast_one, Int.cast_ofNat_Int, Int.natCast_zero, aGc_V, Int.toNat_natCast, or0, or0', or00, or10, or01, or11, o72_0, o72_1, o72_2, o72_3, o72_4, o72_5, o72_6, o72_7, n72, o72s_0, o72s_1, o72s_2, o72s_3, o72s_4, o72s_5, o72s_6, o72s_7]
        exact this
      · rw [if_neg hq, F72008_179]
        obtain ⟨i1, -⟩ := ih _ _ _ 2 (z1 + -1) z2 (c8 + -1) c9 (c10 + -1) (by omega) hI2 (by omega) hn2 (by omega) (by omega) (by omega) (by omega) ⟨by omega, by omega, by omega, by omega, by omega⟩
        have := i1 0 0 (by omega) (by omega) (by omega) (by omega)
        simp (disch := first | assumption | omega | decide | exact okF_i | exact okF_r | exact okF_n | exact okF_j | rfl) only [jc_ref, rI_int, rR_ref, rR_null, rJ_long, ckR_ref, ckR_null, ckr_ref, ckr_null, ckW_int, ckW_ref, ckW_null, cI_ok, cR_ok, cR_null, cV_ok, cJ_ok, qH_eq, qD_in, aG_ref, aS_ref, aL_ref, pF_ref, cK_ref, cK_null, zI_lit, zJ_lit, zI_add, zI_sub, zI_mul, zI_neg, zI_eq, zI_lt, zI_le, Int.reduceLT, Int.reduceLE, Int.reduceAdd, Int.reduceSub, Int.reduceMul, Int.reduceNeg, Int.reduceEq, Int.reduceNe, reduceIte, jf_in, pFc_in, aGi, aGb, aSi, aLc_in, cKc_in, nA_in, jm_s1, jm_s2, jm_p1, jm_p2, jm_b, jn_b, jn_s, jn_p, jset_jset, jset_jpush2, ckR_is, ckr_is, rR_is, ckW_is, cR_is, obi2, ckW_int, eq_self, if_true, ref_null, if_false, ne_eq, not_true_eq_false, not_false_eq_true, decide_true, decide_false, decide_not, Bool.true_and, Bool.false_and, Bool.and_true, Bool.and_false, Bool.true_or, Bool.false_or, Bool.or_true, Bool.or_false, Bool.not_true, Bool.not_false, Bool.false_eq_true, bI_t, bI_f, Int.natCast_one, Int.cast_ofNat_Int, Int.natCast_zero, aGc_V, Int.toNat_natCast, or0, or0', or00, or10, or01, or11, o72_0, o72_1, o72_2, o72_3, o72_4, o72_5, o72_6, o72_7, n72, o72s_0, o72s_1, o72s_2, o72s_3, o72s_4, o72s_5, o72s_6, o72s_7]
        exact this
    by_cases h7 : x12 < 7
    · rw [if_pos h7, F72008_547]
      simp (disch := first | assumption | omega | decide | exact okF_i | exact okF_r | exact okF_n | exact okF_j | rfl) only [jc_ref, rI_int, rR_ref, rR_null, rJ_long, ckR_ref, ckR_null, ckr_ref, ckr_null, ckW_int, ckW_ref, ckW_null, cI_ok, cR_ok, cR_null, cV_ok, cJ_ok, qH_eq, qD_in, aG_ref, aS_ref, aL_ref, pF_ref, cK_ref, cK_null, zI_lit, zJ_lit, zI_add, zI_sub, zI_mul, zI_neg, zI_eq, zI_lt, zI_le, Int.reduceLT, Int.reduceLE, Int.reduceAdd, Int.reduceSub, Int.reduceMul, Int.reduceNeg, Int.reduceEq, Int.reduceNe, reduceIte, jf_in, pFc_in, aGi, aGb, aSi, aLc_in, cKc_in, nA_in, jm_s1, jm_s2, jm_p1, jm_p2, jm_b, jn_b, jn_s, jn_p, jset_jset, jset_jpush2, ckR_is, ckr_is, rR_is, ckW_is, cR_is, obi2, ckW_int, eq_self, if_true, ref_null, if_false, ne_eq, not_true_eq_false, not_false_eq_true, decide_true, decide_false, decide_not, Bool.true_and, Bool.false_and, Bool.and_true, Bool.and_false, Bool.true_or, Bool.false_or, Bool.or_true, Bool.or_false, Bool.not_true, Bool.not_false, Bool.false_eq_true, bI_t, bI_f, Int.natCast_one, Int.cast_ofNat_Int, Int.natCast_zero, aGc_V, Int.toNat_natCast, or0, or0', or00, or10, or01, or11, o72_0, o72_1, o72_2, o72_3, o72_4, o72_5, o72_6, o72_7, n72, o72s_0, o72s_1, o72s_2, o72s_3, o72s_4, o72s_5, o72s_6, o72s_7]
      by_cases h8 : x13 < 7
      · rw [if_pos h8]; exact back
      · rw [if_neg h8]; exact i2 x12 x13
    · rw [if_neg h7, F72008_547]
      simp (disch := first | assumption | omega | decide | exact okF_i | exact okF_r | exact okF_n | exact okF_j | rfl) only [jc_ref, rI_int, rR_ref, rR_null, rJ_long, ckR_ref, ckR_null, ckr_ref, ckr_null, ckW_int, ckW_ref, ckW_null, cI_ok, cR_ok, cR_null, cV_ok, cJ_ok, qH_eq, qD_in, aG_ref, aS_ref, aL_ref, pF_ref, cK_ref, cK_null, zI_lit, zJ_lit, zI_add, zI_sub, zI_mul, zI_neg, zI_eq, zI_lt, zI_le, Int.reduceLT, Int.reduceLE, Int.reduceAdd, Int.reduceSub, Int.reduceMul, Int.reduceNeg, Int.reduceEq, Int.reduceNe, reduceIte, jf_in, pFc_in, aGi, aGb, aSi, aLc_in, cKc_in, nA_in, jm_s1, jm_s2, jm_p1, jm_p2, jm_b, jn_b, jn_s, jn_p, jset_jset, jset_jpush2, ckR_is, ckr_is, rR_is, ckW_is, cR_is, obi2, ckW_int, eq_self, if_true, ref_null, if_false, ne_eq, not_true_eq_false, not_false_eq_true, decide_true, decide_false, decide_not, Bool.true_and, Bool.false_and, Bool.and_true, Bool.and_false, Bool.true_or, Bool.false_or, Bool.or_true, Bool.or_false, Bool.not_true, Bool.not_false, Bool.false_eq_true, bI_t, bI_f, Int.natCast_one, Int.cast_ofNat_Int, Int.natCast_zero, aGc_V, Int.toNat_natCast, or0, or0', or00, or10, or01, or11, o72_0, o72_1, o72_2, o72_3, o72_4, o72_5, o72_6, o72_7, n72, o72s_0, o72s_1, o72s_2, o72s_3, o72s_4, o72s_5, o72s_6, o72s_7]
      by_cases h8 : x13 < 7
      · rw [if_pos h8]; exact i2 x12 x13
      · rw [if_neg h8]; exact i2 x12 x13
theorem mh_one (hC : MCtx G H e e2 ts N N2 E t x1 tl ss rb rl) (hU : U < 1000000000) (hU1 : 1 ≤ U) (ih : MHI G rk d H e e2 ts N N2 B E f0 t tl ss rb rl U y3 m) : ∀ (f : Nat → Value) (n1 n2 : Nat) (mg z1 z2 c8 c9 c10 : Int), n1 + n2 ≤ m + 1 → MJ G rk f0 B E f t n1 n2 → 1 ≤ n1 → 2 ≤ n2 → n2 ≤ N2 → (n1 + n2 : Int) - 200000 ≤ mg → mg + 3 * (n1 + n2) ≤ U → 2 + 3 * (n1 + n2) ≤ U → HZ B n1 n2 z1 z2 c8 c9 c10 → (∀ x12 x13 : Int, 0 ≤ x12 → x12 + n1 + n2 ≤ 300000 → 0 ≤ x13 → x13 + n1 + n2 ≤ 300000 → MRes G rk H e ts N B E f0 e2 tl ss rb rl U (G2 (d + 4) 72008 185 [.ref ts, .int (zI B), .int (zI z1), .int (zI y3), .int (zI z2), .ref e, .ref e2, .int (zI 0), .int (zI c8), .int (zI c9), .int (zI c10), .int (zI mg), .int (zI x12), .int (zI x13)] [] (jset H e (1040, N, f)))) := by
  have hC' := hC
  obtain ⟨hG, hGe, hGt, hN, hN2, -, m_t, m_s, ne1, ne2, ne3, hE⟩ := hC
  have ne1' := Ne.symm ne1
  have hG1 : ∀ g, Fzn G (jset H e (1040, N, g)) := fun g => hG.arr hGe
  have mx : ∀ z : Int, z ≤ U → (z < 1 → 1 ≤ (1 : Int) ∧ (1 : Int) ≤ U) ∧ (1 ≤ z → 1 ≤ z ∧ z ≤ U) := fun z hz => ⟨fun _ => ⟨by omega, by omega⟩, fun h => ⟨h, hz⟩⟩
  intro f n1 n2 mg z1 z2 c8 c9 c10 hm hI hn1 hn2 hL hmg1 hmg2 hU0 hz
  have hz' := hz
  obtain ⟨b1, b2⟩ := hI.1
  obtain ⟨e1, e2', e3, e4, e5⟩ := hz
  have t8 : c8.toNat = B + n1 - 1 := by omega
  have t9 : c9.toNat = n2 - 1 := by omega
  have t10 : c10.toNat = B + n1 + n2 - 1 := by omega
  have mT : ∀ g, jm (jset H e (1040, N, g)) e2 = some (1040, N2, t) := fun g => (jm_s2 ne1).trans m_t
  intro x12 x13 p1 p2 p3 p4
  have a1 := hI.ok1 (B + n1 - 1) (by omega) (by omega)
  have r1 := a1.R
  have s1 := fun (κ : AH → Rz) (u : Ph κ) => aSr_in (κ := κ) (u := u) (h := jset H e (1040, N, f)) jm_s1 (a1.ok (hG1 f)) (i := c10) (by omega) (by omega) (by omega)
  rw [t10] at s1
  have a2 := hI.ok2 (n2 - 1) (Nat.zero_le _) (by omega)
  have r2 := a2.R
  have s2 := fun (κ : AH → Rz) (u : Ph κ) => aSr_in (κ := κ) (u := u) (h := jset H e (1040, N, f)) jm_s1 (a2.ok (hG1 f)) (i := c10) (by omega) (by omega) (by omega)
  rw [t10] at s2
  obtain ⟨c, k1, k2, k3, k4⟩ := c_cmp (d := d + 2) (hG1 f) a2 a1
  have hk := fun (κ : Rz) (u : Ph κ) => cmp_K (hG1 f) a2 (κ := κ) (u := u)
  rw [F72008_185]
  simp (disch := first | assumption | omega | decide | exact okF_i | exact okF_r | exact okF_n | exact okF_j | rfl) only [jc_ref, rI_int, rR_ref, rR_null, rJ_long, ckR_ref, ckR_null, ckr_ref, ckr_null, ckW_int, ckW_ref, ckW_null, cI_ok, cR_ok, cR_null, cV_ok, cJ_ok, qH_eq, qD_in, aG_ref, aS_ref, aL_ref, pF_ref, cK_ref, cK_null, zI_lit, zJ_lit, zI_add, zI_sub, zI_mul, zI_neg, zI_eq, zI_lt, zI_le, Int.reduceLT, Int.reduceLE, Int.reduceAdd, Int.reduceSub, Int.reduceMul, Int.reduceNeg, Int.reduceEq, Int.reduceNe, reduceIte, jf_in, pFc_in, aGi, aGb, aSi, aLc_in, cKc_in, nA_in, jm_s1, jm_s2, jm_p1, jm_p2, jm_b, jn_b, jn_s, jn_p, jset_jset, jset_jpush2, ckR_is, ckr_is, rR_is, ckW_is, cR_is, obi2, ckW_int, eq_self, if_true, ref_null, if_false, ne_eq, not_true_eq_false, not_false_eq_true, decide_true, decide_false, decide_not, Bool.true_and, Bool.false_and, Bool.and_true, Bool.and_false, Bool.true_or, Bool.false_or, Bool.or_true, Bool.or_false, Bool.not_true, Bool.not_false, Bool.false_eq_true, bI_t, bI_f, Int.natCast_one, Int.cast_ofNat_Int, Int.natCast_zero, aGc_V, Int.toNat_natCast, or0, or0', or00, or10, or01, or11, o72_0, o72_1, o72_2, o72_3, o72_4, o72_5, o72_6, o72_7, n72, o72s_0, o72s_1, o72s_2, o72s_3, o72s_4, o72s_5, o72s_6, o72s_7]
  rw [F72008_209]
  by_cases hc : 0 ≤ c
  · have hI2 := hI.mvT (k := 1) (f2 := ju f (B + n1 + n2 - 1) (t (n2 - 1))) (by omega) (Or.inr fun i a b => by
      have := hI.2.2.2.1 i (B + n1 - 1) a (by omega) (by omega)
      omega) (fun i a b => by rw [show i = B + n1 + n2 - 1 by omega, juE]; congr 1; omega) (fun i a => juN (by omega))
    simp (disch := first | assumption | omega | decide | exact okF_i | exact okF_r | exact okF_n | exact okF_j | rfl) only [jc_ref, rI_int, rR_ref, rR_null, rJ_long, ckR_ref, ckR_null, ckr_ref, ckr_null, ckW_int, ckW_ref, ckW_null, cI_ok, cR_ok, cR_null, cV_ok, cJ_ok, qH_eq, qD_in, aG_ref, aS_ref, aL_ref, pF_ref, cK_ref, cK_null, zI_lit, zJ_lit, zI_add, zI_sub, zI_mul, zI_neg, zI_eq, zI_lt, zI_le, Int.reduceLT, Int.reduceLE, Int.reduceAdd, Int.reduceSub, Int.reduceMul, Int.reduceNeg, Int.reduceEq, Int.reduceNe, reduceIte, jf_in, pFc_in, aGi, aGb, aSi, aLc_in, cKc_in, nA_in, jm_s1, jm_s2, jm_p1, jm_p2, jm_b, jn_b, jn_s, jn_p, jset_jset, jset_jpush2, ckR_is, ckr_is, rR_is, ckW_is, cR_is, obi2, ckW_int, eq_self, if_true, ref_null, if_false, ne_eq, not_true_eq_false, not_false_eq_true, decide_true, decide_false, decide_not, Bool.true_and, Bool.false_and, Bool.and_true, Bool.and_false, Bool.true_or, Bool.false_or, Bool.or_true, Bool.or_false, Bool.not_true, Bool.not_false, Bool.false_eq_true, bI_t, bI_f, Int.natCast_one, Int.cast_ofNat_Int, Int.natCast_zero, aGc_V, Int.toNat_natCast, or0, or0', or00, or10, or01, or11, o72_0, o72_1, o72_2, o72_3, o72_4, o72_5, o72_6, o72_7, n72, o72s_0, o72s_1, o72s_2, o72s_3, o72s_4, o72s_5, o72s_6, o72s_7, mT, t8, t9, hk, k1, s2]
    rw [if_pos hc]
    by_cases h1 : n2 - 1 = 1
    · rw [if_pos (by omega)]
      by_cases hq : 1 ≤ mg
      · rw [if_pos hq]
        exact mh_exit hC' hI2 (Or.inl h1) (by omega) ((mx mg (by omega)).2 hq) ⟨by omega, by omega, by omega, by omega, by omega⟩
      · rw [if_neg hq]
        exact mh_exit hC' hI2 (Or.inl h1) (by omega) ((mx mg (by omega)).1 (by omega)) ⟨by omega, by omega, by omega, by omega, by omega⟩
    · rw [if_neg (by omega)]
      obtain ⟨i1, i2⟩ := ih _ _ _ mg z1 (z2 + -1) c8 (c9 + -1) (c10 + -1) (by omega) hI2 hn1 (by omega) (by omega) (by omega) (by omega) (by omega) ⟨by omega, by omega, by omega, by omega, by omega⟩
      by_cases hq : x13 + 1 < mg
      · rw [if_pos hq]
        exact i1 0 (x13 + 1) (by omega) (by omega) (by omega) (by omega)
      · rw [if_neg hq]
        exact i2 0 (x13 + 1)
  · have hI2 := hI.mvF (k := 1) (f2 := ju f (B + n1 + n2 - 1) (f (B + n1 - 1))) (by omega) (fun i a b => by
      rw [show i = B + n1 - 1 by omega]
      omega) (fun i a b => by rw [show i = B + n1 + n2 - 1 by omega, juE]; congr 1; omega) (fun i a => juN (by omega))
    simp (disch := first | assumption | omega | decide | exact okF_i | exact okF_r | exact okF_n | exact okF_j | rfl) only [jc_ref, rI_int, rR_ref, rR_null, rJ_long, ckR_ref, ckR_null, ckr_ref, ckr_null, ckW_int, ckW_ref, ckW_null, cI_ok, cR_ok, cR_null, cV_ok, cJ_ok, qH_eq, qD_in, aG_ref, aS_ref, aL_ref, pF_ref, cK_ref, cK_null, zI_lit, zJ_lit, zI_add, zI_sub, zI_mul, zI_neg, zI_eq, zI_lt, zI_le, Int.reduceLT, Int.reduceLE, Int.reduceAdd, Int.reduceSub, Int.reduceMul, Int.reduceNeg, Int.reduceEq, Int.reduceNe, reduceIte, jf_in, pFc_in, aGi, aGb, aSi, aLc_in, cKc_in, nA_in, jm_s1, jm_s2, jm_p1, jm_p2, jm_b, jn_b, jn_s, jn_p, jset_jset, jset_jpush2, ckR_is, ckr_is, rR_is, ckW_is, cR_is, obi2, ckW_int, eq_self, if_true, ref_null, if_false, ne_eq, not_true_eq_false, not_false_eq_true, decide_true, decide_false, decide_not, Bool.true_and, Bool.false_and, Bool.and_true, Bool.and_false, Bool.true_or, Bool.false_or, Bool.or_true, Bool.or_false, Bool.not_true, Bool.not_false, Bool.false_eq_true, bI_t, bI_f, Int.natCast_one, Int.cast_ofNat_Int, Int.natCast_zero, aGc_V, Int.toNat_natCast, or0, or0', or00, or10, or01, or11, o72_0, o72_1, o72_2, o72_3, o72_4, o72_5, o72_6, o72_7, n72, o72s_0, o72s_1, o72s_2, o72s_3, o72s_4, o72s_5, o72s_6, o72s_7, mT, t8, t9, hk, k1, s1]
    rw [if_neg hc]
    by_cases h1 : n1 - 1 = 0
    · rw [if_pos (by omega)]
      by_cases hq : 1 ≤ mg
      · rw [if_pos hq]
        exact mh_exit hC' hI2 (Or.inr h1) (by omega) ((mx mg (by omega)).2 hq) ⟨by omega, by omega, by omega, by omega, by omega⟩
      · rw [if_neg hq]
        exact mh_exit hC' hI2 (Or.inr h1) (by omega) ((mx mg (by omega)).1 (by omega)) ⟨by omega, by omega, by omega, by omega, by omega⟩
    · rw [if_neg (by omega)]
      obtain ⟨i1, i2⟩ := ih _ _ _ mg (z1 + -1) z2 (c8 + -1) c9 (c10 + -1) (by omega) hI2 (by omega) hn2 (by omega) (by omega) (by omega) (by omega) ⟨by omega, by omega, by omega, by omega, by omega⟩
      by_cases hq : x12 + 1 < mg
      · rw [if_pos hq]
        exact i1 (x12 + 1) 0 (by omega) (by omega) (by omega) (by omega)
      · rw [if_neg hq]
        exact i2 (x12 + 1) 0
theorem mh_400 (hC : MCtx G H e e2 ts N N2 E t x1 tl ss rb rl) (hU : U < 1000000000) (hU1 : 1 ≤ U) (P506 : MH506 G rk d H e e2 ts N N2 B E f0 t tl ss rb rl U y3 m) : MH400 G rk d H e e2 ts N N2 B E f0 t tl ss rb rl U y3 m := by
  have hC' := hC
  obtain ⟨hG, hGe, hGt, hN, hN2, -, m_t, m_s, ne1, ne2, ne3, hE⟩ := hC
  have ne1' := Ne.symm ne1
  have hG1 : ∀ g, Fzn G (jset H e (1040, N, g)) := fun g => hG.arr hGe
  have mx : ∀ z : Int, z ≤ U → (z < 1 → 1 ≤ (1 : Int) ∧ (1 : Int) ≤ U) ∧ (1 ≤ z → 1 ≤ z ∧ z ≤ U) := fun z hz => ⟨fun _ => ⟨by omega, by omega⟩, fun h => ⟨h, hz⟩⟩
  intro f n1 n2 mg z1 z2 c8 c9 c10 hm hI hn1 hn2 hL hmg1 hmg2 hU0 hz
  have hz' := hz
  obtain ⟨b1, b2⟩ := hI.1
  obtain ⟨e1, e2', e3, e4, e5⟩ := hz
  have t8 : c8.toNat = B + n1 - 1 := by omega
  have t9 : c9.toNat = n2 - 1 := by omega
  have t10 : c10.toNat = B + n1 + n2 - 1 := by omega
  have mT : ∀ g, jm (jset H e (1040, N, g)) e2 = some (1040, N2, t) := fun g => (jm_s2 ne1).trans m_t
  intro hle x12 x13 p1 p2
  have a2 := hI.ok2 (n2 - 1) (Nat.zero_le _) (by omega)
  have r2 := a2.R
  have s2 := fun (κ : AH → Rz) (u : Ph κ) => aSr_in (κ := κ) (u := u) (h := jset H e (1040, N, f)) jm_s1 (a2.ok (hG1 f)) (i := c10) (by omega) (by omega) (by omega)
  rw [t10] at s2
  have a1 := hI.ok1 (B + n1 - 1) (by omega) (by omega)
  have r1 := a1.R
  have hI2 := hI.mvT (k := 1) (f2 := ju f (B + n1 + n2 - 1) (t (n2 - 1))) (by omega) (Or.inr fun i a b => hle i a b) (fun i a b => by rw [show i = B + n1 + n2 - 1 by omega, juE]; congr 1; omega) (fun i a => juN (by omega))
  have jk : ju f (B + n1 + n2 - 1) (t (n2 - 1)) (B + n1 - 1) = f (B + n1 - 1) := juN (by omega)
  have jl : ∀ i, i < B + n1 → ju f (B + n1 + n2 - 1) (t (n2 - 1)) i = f i := fun i hi => juN (by omega)
  rw [F72008_400]
  simp (disch := first | assumption | omega | decide | exact okF_i | exact okF_r | exact okF_n | exact okF_j | rfl) only [jc_ref, rI_int, rR_ref, rR_null, rJ_long, ckR_ref, ckR_null, ckr_ref, ckr_null, ckW_int, ckW_ref, ckW_null, cI_ok, cR_ok, cR_null, cV_ok, cJ_ok, qH_eq, qD_in, aG_ref, aS_ref, aL_ref, pF_ref, cK_ref, cK_null, zI_lit, zJ_lit, zI_add, zI_sub, zI_mul, zI_neg, zI_eq, zI_lt, zI_le, Int.reduceLT, Int.reduceLE, Int.reduceAdd, Int.reduceSub, Int.reduceMul, Int.reduceNeg, Int.reduceEq, Int.reduceNe, reduceIte, jf_in, pFc_in, aGi, aGb, aSi, aLc_in, cKc_in, nA_in, jm_s1, jm_s2, jm_p1, jm_p2, jm_b, jn_b, jn_s, jn_p, jset_jset, jset_jpush2, ckR_is, ckr_is, rR_is, ckW_is, cR_is, obi2, ckW_int, eq_self, if_true, ref_null, if_false, ne_eq, not_true_eq_false, not_false_eq_true, decide_true, decide_false, decide_not, Bool.true_and, Bool.false_and, Bool.and_true, Bool.and_false, Bool.true_or, Bool.false_or, Bool.or_true, Bool.or_false, Bool.not_true, Bool.not_false, Bool.false_eq_true, bI_t, bI_f, Int.natCast_one, Int.cast_ofNat_Int, Int.natCast_zero, aGc_V, Int.toNat_natCast, or0, or0', or00, or10, or01, or11, o72_0, o72_1, o72_2, o72_3, o72_4, o72_5, o72_6, o72_7, n72, o72s_0, o72s_1, o72s_2, o72s_3, o72s_4, o72s_5, o72s_6, o72s_7, mT, t9, s2]
  by_cases h1 : n2 - 1 = 1
  · rw [if_pos (by omega)]
    by_cases hq : 1 ≤ mg
    · rw [if_pos hq]
      exact mh_exit hC' hI2 (Or.inl h1) (by omega) ((mx mg (by omega)).2 hq) ⟨by omega, by omega, by omega, by omega, by omega⟩
    · rw [if_neg hq]
      exact mh_exit hC' hI2 (Or.inl h1) (by omega) ((mx mg (by omega)).1 (by omega)) ⟨by omega, by omega, by omega, by omega, by omega⟩
  · rw [if_neg (by omega)]
    obtain ⟨f2, hf2⟩ : ∃ f2, f2 = ju f (B + n1 + n2 - 1) (t (n2 - 1)) := ⟨_, rfl⟩
    rw [← hf2] at hI2 jk jl ⊢
    have mE : jm (jset H e (1040, N, f2)) e = some (1040, N, f2) := jm_s1
    obtain ⟨k, k1, k2, k3, k4⟩ := c_gal72003 (d := d + 1) (hG1 f2) hN2 (mT f2) (b := 0) (n := n2 - 1) (by omega) hI2.ok2 a1 hI2.2.2.2.2.1 (hint := n2 - 1 - 1) (by omega)
    simp only [Nat.zero_add] at k2 k3
    have k4' : M2 (d + 4) 72003 [f (B + n1 - 1), .ref e2, .int (zI 0), .int (zI (z2 + -1)), .int (zI (z2 + -1 - 1))] (jset H e (1040, N, f2)) = some (.inl (some (.int (zI k))), jset H e (1040, N, f2)) := by
      rw [show z2 + -1 - 1 = ((n2 - 1 - 1 : Nat) : Int) by omega, show z2 + -1 = ((n2 - 1 : Nat) : Int) by omega]
      exact k4
    have hk := fun (κ : Rz) (u : Ph κ) => cmp_K (hG1 f2) a1 (κ := κ) (u := u)
    have kp : 1 ≤ k := by
      by_cases hh : 1 ≤ k
      · exact hh
      · have q1 := k3 0 (by omega) (by omega)
        have q2 := hI2.2.2.2.2.2.2.2.2.1 (B + n1 - 1) (by omega) (by omega)
        rw [jk] at q2
        omega
    simp (disch := first | assumption | omega | decide | exact okF_i | exact okF_r | exact okF_n | exact okF_j | rfl) only [jc_ref, rI_int, rR_ref, rR_null, rJ_long, ckR_ref, ckR_null, ckr_ref, ckr_null, ckW_int, ckW_ref, ckW_null, cI_ok, cR_ok, cR_null, cV_ok, cJ_ok, qH_eq, qD_in, aG_ref, aS_ref, aL_ref, pF_ref, cK_ref, cK_null, zI_lit, zJ_lit, zI_add, zI_sub, zI_mul, zI_neg, zI_eq, zI_lt, zI_le, Int.reduceLT, Int.reduceLE, Int.reduceAdd, Int.reduceSub, Int.reduceMul, Int.reduceNeg, Int.reduceEq, Int.reduceNe, reduceIte, jf_in, pFc_in, aGi, aGb, aSi, aLc_in, cKc_in, nA_in, jm_s1, jm_s2, jm_p1, jm_p2, jm_b, jn_b, jn_s, jn_p, jset_jset, jset_jpush2, ckR_is, ckr_is, rR_is, ckW_is, cR_is, obi2, ckW_int, eq_self, if_true, ref_null, if_false, ne_eq, not_true_eq_false, not_false_eq_true, decide_true, decide_false, decide_not, Bool.true_and, Bool.false_and, Bool.and_true, Bool.and_false, Bool.true_or, Bool.false_or, Bool.or_true, Bool.or_false, Bool.not_true, Bool.not_false, Bool.false_eq_true, bI_t, bI_f, Int.natCast_one, Int.cast_ofNat_Int, Int.natCast_zero, aGc_V, Int.toNat_natCast, or0, or0', or00, or10, or01, or11, o72_0, o72_1, o72_2, o72_3, o72_4, o72_5, o72_6, o72_7, n72, o72s_0, o72s_1, o72s_2, o72s_3, o72s_4, o72s_5, o72s_6, o72s_7, mE, t8, jk, hk]
    have m1 : (-1 : Int32) = zI (-1) := rfl
    have o1 : (1 : Int32) = zI 1 := rfl
    have Zz : zI z2 + -1 = zI (z2 + -1) := by rw [m1, zI_add]
    have Zy : zI (z2 + -1) - 1 = zI (z2 + -1 - 1) := by rw [o1, zI_sub]
    have Zc : zI (z2 + -1) - zI k = zI (z2 + -1 - k) := by rw [zI_sub]
    have Z9a : zI c9 + -1 = zI (c9 + -1) := by rw [m1, zI_add]
    have Z10a : zI c10 + -1 = zI (c10 + -1) := by rw [m1, zI_add]
    by_cases hk0 : k = n2 - 1
    · rw [k4', cI_ok]
      simp only [Zz, Zc, Z9a, Z10a]
      rw [if_pos (show zI (z2 + -1 - k) = 0 by rw [zq0 (by omega) (by omega)]; omega)]
      refine P506 _ _ _ mg z1 (z2 + -1) c8 (c9 + -1) (c10 + -1) (by omega) hI2 hn1 (by omega) (by omega) (by omega) (by omega) (by omega) ⟨by omega, by omega, by omega, by omega, by omega⟩ (fun i a b c => ?_) x12 (z2 + -1 - k) p1 p2 (by omega) (by omega)
      have := k2 (n2 - 1 - 1) (by omega)
      rw [c, jk]
      omega
    · have cpy := acpI (d := d + 3) (sp := c9 + -1 - (z2 + -1 - k) + 1) (dp := c10 + -1 - (z2 + -1 - k) + 1) (k := z2 + -1 - k) (mT f2) mE rfl (by omega) (by omega) (by omega) (by omega) (by omega) (by omega) (by omega)
      obtain ⟨g, hg⟩ : ∃ g, g = jcpy t f2 (c9 + -1 - (z2 + -1 - k) + 1).toNat (c10 + -1 - (z2 + -1 - k) + 1).toNat (z2 + -1 - k).toNat := ⟨_, rfl⟩
      rw [← hg] at cpy
      have hI3 := hI2.mvT (k := n2 - 1 - k) (f2 := g) (by omega) (Or.inr fun i a b => by
        have q1 := k3 k (Nat.le_refl _) (by omega)
        have q2 := hI2.2.2.2.1 i (B + n1 - 1) a (by omega) (by omega)
        rw [show n2 - 1 - (n2 - 1 - k) = k by omega]
        rw [jk] at q2
        omega) (fun i a b => by rw [hg, jcpy, if_pos ⟨by omega, by omega⟩]; congr 1; omega) (fun i a => by rw [hg, jcpy, if_neg (by omega)])
      have gj : g (B + n1 - 1) = f (B + n1 - 1) := by rw [hg, jcpy, if_neg (by omega), jk]
      rw [show n2 - 1 - (n2 - 1 - k) = k by omega] at hI3
      have Z2 : zI (z2 + -1) - zI (z2 + -1 - k) = zI (z2 + -1 - (z2 + -1 - k)) := by rw [zI_sub]
      have Z9 : zI (c9 + -1) - zI (z2 + -1 - k) = zI (c9 + -1 - (z2 + -1 - k)) := by rw [zI_sub]
      have Z10 : zI (c10 + -1) - zI (z2 + -1 - k) = zI (c10 + -1 - (z2 + -1 - k)) := by rw [zI_sub]
      have Z9b : zI (c9 + -1 - (z2 + -1 - k)) + 1 = zI (c9 + -1 - (z2 + -1 - k) + 1) := by rw [o1, zI_add]
      have Z10b : zI (c10 + -1 - (z2 + -1 - k)) + 1 = zI (c10 + -1 - (z2 + -1 - k) + 1) := by rw [o1, zI_add]
      rw [k4', cI_ok]
      rw [Zz, Zc, if_neg (show ¬ zI (z2 + -1 - k) = 0 by rw [zq0 (by omega) (by omega)]; omega), Z9a, Z10a, Z9, Z10, Z9b, Z10b, Z2, cpy, cV_ok, jset_jset]
      by_cases h2 : 1 < k
      · rw [if_pos (show (1 : Int32) < zI (z2 + -1 - (z2 + -1 - k)) by rw [zt1 (by omega) (by omega)]; omega)]
        refine P506 _ _ _ mg z1 (z2 + -1 - (z2 + -1 - k)) c8 (c9 + -1 - (z2 + -1 - k)) (c10 + -1 - (z2 + -1 - k)) (by omega) hI3 hn1 (by omega) (by omega) (by omega) (by omega) (by omega) ⟨by omega, by omega, by omega, by omega, by omega⟩ (fun i a b c => ?_) x12 (z2 + -1 - k) p1 p2 (by omega) (by omega)
        have := k2 (k - 1) (by omega)
        rw [c, gj]
        omega
      · rw [if_neg (show ¬ (1 : Int32) < zI (z2 + -1 - (z2 + -1 - k)) by rw [zt1 (by omega) (by omega)]; omega)]
        by_cases hq : 1 ≤ mg
        · rw [if_pos (show (1 : Int32) ≤ zI mg by rw [zl1 (by omega) (by omega)]; exact hq)]
          exact mh_exit hC' hI3 (Or.inl (by omega)) (by omega) ((mx mg (by omega)).2 hq) ⟨by omega, by omega, by omega, by omega, by omega⟩
        · rw [if_neg (show ¬ (1 : Int32) ≤ zI mg by rw [zl1 (by omega) (by omega)]; exact hq)]
          exact mh_exit hC' hI3 (Or.inl (by omega)) (by omega) ((mx mg (by omega)).1 (by omega)) ⟨by omega, by omega, by omega, by omega, by omega⟩
theorem mh_gal (hC : MCtx G H e e2 ts N N2 E t x1 tl ss rb rl) (hU : U < 1000000000) (hU1 : 1 ≤ U) (P400 : MH400 G rk d H e e2 ts N N2 B E f0 t tl ss rb rl U y3 m) : ∀ (f : Nat → Value) (n1 n2 : Nat) (mg z1 z2 c8 c9 c10 : Int), n1 + n2 ≤ m + 1 → MJ G rk f0 B E f t n1 n2 → 1 ≤ n1 → 2 ≤ n2 → n2 ≤ N2 → (n1 + n2 : Int) - 200000 ≤ mg → mg + 3 * (n1 + n2) ≤ U → 2 + 3 * (n1 + n2) ≤ U → HZ B n1 n2 z1 z2 c8 c9 c10 → (∀ x12 x13 : Int, MRes G rk H e ts N B E f0 e2 tl ss rb rl U (G2 (d + 4) 72008 306 [.ref ts, .int (zI B), .int (zI z1), .int (zI y3), .int (zI z2), .ref e, .ref e2, .int (zI 0), .int (zI c8), .int (zI c9), .int (zI c10), .int (zI mg), .int (zI x12), .int (zI x13)] [] (jset H e (1040, N, f)))) := by
  have hC' := hC
  obtain ⟨hG, hGe, hGt, hN, hN2, -, m_t, m_s, ne1, ne2, ne3, hE⟩ := hC
  have ne1' := Ne.symm ne1
  have hG1 : ∀ g, Fzn G (jset H e (1040, N, g)) := fun g => hG.arr hGe
  have mx : ∀ z : Int, z ≤ U → (z < 1 → 1 ≤ (1 : Int) ∧ (1 : Int) ≤ U) ∧ (1 ≤ z → 1 ≤ z ∧ z ≤ U) := fun z hz => ⟨fun _ => ⟨by omega, by omega⟩, fun h => ⟨h, hz⟩⟩
  intro f n1 n2 mg z1 z2 c8 c9 c10 hm hI hn1 hn2 hL hmg1 hmg2 hU0 hz
  have hz' := hz
  obtain ⟨b1, b2⟩ := hI.1
  obtain ⟨e1, e2', e3, e4, e5⟩ := hz
  have t8 : c8.toNat = B + n1 - 1 := by omega
  have t9 : c9.toNat = n2 - 1 := by omega
  have t10 : c10.toNat = B + n1 + n2 - 1 := by omega
  have mT : ∀ g, jm (jset H e (1040, N, g)) e2 = some (1040, N2, t) := fun g => (jm_s2 ne1).trans m_t
  intro x12 x13
  have a2 := hI.ok2 (n2 - 1) (Nat.zero_le _) (by omega)
  have r2 := a2.R
  have s2 := fun (κ : AH → Rz) (u : Ph κ) => aSr_in (κ := κ) (u := u) (h := jset H e (1040, N, f)) jm_s1 (a2.ok (hG1 f)) (i := c10) (by omega) (by omega) (by omega)
  rw [t10] at s2
  have mE : jm (jset H e (1040, N, f)) e = some (1040, N, f) := jm_s1
  obtain ⟨k, k1, k2, k3, k4⟩ := c_gal72004 (d := d + 1) (hG1 f) hN mE (b := B) (n := n1) (by omega) hI.ok1 a2 hI.2.2.2.1 (hint := n1 - 1) (by omega)
  have k4' : M2 (d + 4) 72004 [t (n2 - 1), .ref e, .int (zI B), .int (zI z1), .int (zI (z1 - 1))] (jset H e (1040, N, f)) = some (.inl (some (.int (zI k))), jset H e (1040, N, f)) := by
    rw [show z1 - 1 = ((n1 - 1 : Nat) : Int) by omega, e1]
    exact k4
  have hk := fun (κ : Rz) (u : Ph κ) => cmp_K (hG1 f) a2 (κ := κ) (u := u)
  rw [F72008_306]
  simp (disch := first | assumption | omega | decide | exact okF_i | exact okF_r | exact okF_n | exact okF_j | rfl) only [jc_ref, rI_int, rR_ref, rR_null, rJ_long, ckR_ref, ckR_null, ckr_ref, ckr_null, ckW_int, ckW_ref, ckW_null, cI_ok, cR_ok, cR_null, cV_ok, cJ_ok, qH_eq, qD_in, aG_ref, aS_ref, aL_ref, pF_ref, cK_ref, cK_null, zI_lit, zJ_lit, zI_add, zI_sub, zI_mul, zI_neg, zI_eq, zI_lt, zI_le, Int.reduceLT, Int.reduceLE, Int.reduceAdd, Int.reduceSub, Int.reduceMul, Int.reduceNeg, Int.reduceEq, Int.reduceNe, reduceIte, jf_in, pFc_in, aGi, aGb, aSi, aLc_in, cKc_in, nA_in, jm_s1, jm_s2, jm_p1, jm_p2, jm_b, jn_b, jn_s, jn_p, jset_jset, jset_jpush2, ckR_is, ckr_is, rR_is, ckW_is, cR_is, obi2, ckW_int, eq_self, if_true, ref_null, if_false, ne_eq, not_true_eq_false, not_false_eq_true, decide_true, decide_false, decide_not, Bool.true_and, Bool.false_and, Bool.and_true, Bool.and_false, Bool.true_or, Bool.false_or, Bool.or_true, Bool.or_false, Bool.not_true, Bool.not_false, Bool.false_eq_true, bI_t, bI_f, Int.natCast_one, Int.cast_ofNat_Int, Int.natCast_zero, aGc_V, Int.toNat_natCast, or0, or0', or00, or10, or01, or11, o72_0, o72_1, o72_2, o72_3, o72_4, o72_5, o72_6, o72_7, n72, o72s_0, o72s_1, o72s_2, o72s_3, o72s_4, o72s_5, o72s_6, o72s_7]
  rw [F72008_330]
  simp (disch := first | assumption | omega | decide | exact okF_i | exact okF_r | exact okF_n | exact okF_j | rfl) only [jc_ref, rI_int, rR_ref, rR_null, rJ_long, ckR_ref, ckR_null, ckr_ref, ckr_null, ckW_int, ckW_ref, ckW_null, cI_ok, cR_ok, cR_null, cV_ok, cJ_ok, qH_eq, qD_in, aG_ref, aS_ref, aL_ref, pF_ref, cK_ref, cK_null, zI_lit, zJ_lit, zI_add, zI_sub, zI_mul, zI_neg, zI_eq, zI_lt, zI_le, Int.reduceLT, Int.reduceLE, Int.reduceAdd, Int.reduceSub, Int.reduceMul, Int.reduceNeg, Int.reduceEq, Int.reduceNe, reduceIte, jf_in, pFc_in, aGi, aGb, aSi, aLc_in, cKc_in, nA_in, jm_s1, jm_s2, jm_p1, jm_p2, jm_b, jn_b, jn_s, jn_p, jset_jset, jset_jpush2, ckR_is, ckr_is, rR_is, ckW_is, cR_is, obi2, ckW_int, eq_self, if_true, ref_null, if_false, ne_eq, not_true_eq_false, not_false_eq_true, decide_true, decide_false, decide_not, Bool.true_and, Bool.false_and, Bool.and_true, Bool.and_false, Bool.true_or, Bool.false_or, Bool.or_true, Bool.or_false, Bool.not_true, Bool.not_false, Bool.false_eq_true, bI_t, bI_f, Int.natCast_one, Int.cast_ofNat_Int, Int.natCast_zero, aGc_V, Int.toNat_natCast, or0, or0', or00, or10, or01, or11, o72_0, o72_1, o72_2, o72_3, o72_4, o72_5, o72_6, o72_7, n72, o72s_0, o72s_1, o72s_2, o72s_3, o72s_4, o72s_5, o72s_6, o72s_7, mT, t9, hk, k4']
  by_cases hk0 : k = n1
  · rw [if_pos (by omega)]
    refine P400 _ _ _ mg z1 z2 c8 c9 c10 hm hI hn1 hn2 hL hmg1 hmg2 hU0 hz' (fun i a b => ?_) (z1 - k) x13 (by omega) (by omega)
    have := k2 (i - B) (by omega)
    rw [show B + (i - B) = i by omega] at this
    exact this
  · rw [if_neg (by omega)]
    have cpy := acpI (d := d + 3) (sp := c8 - (z1 - k) + 1) (dp := c10 - (z1 - k) + 1) (k := z1 - k) mE mE rfl (by omega) (by omega) (by omega) (by omega) (by omega) (by omega) (by omega)
    obtain ⟨g, hg⟩ : ∃ g, g = jcpy f f (c8 - (z1 - k) + 1).toNat (c10 - (z1 - k) + 1).toNat (z1 - k).toNat := ⟨_, rfl⟩
    rw [← hg] at cpy
    have hI3 := hI.mvF (k := n1 - k) (f2 := g) (by omega) (fun i a b => by
      have := k3 (i - B) (by omega) (by omega)
      rw [show B + (i - B) = i by omega] at this
      omega) (fun i a b => by rw [hg, jcpy, if_pos ⟨by omega, by omega⟩]; congr 1; omega) (fun i a => by rw [hg, jcpy, if_neg (by omega)])
    rw [show n1 - (n1 - k) = k by omega] at hI3
    have Zc : zI z1 - zI k = zI (z1 - k) := by rw [zI_sub]
    have Z1 : zI z1 - zI (z1 - k) = zI (z1 - (z1 - k)) := by rw [zI_sub]
    have Z8 : zI c8 - zI (z1 - k) = zI (c8 - (z1 - k)) := by rw [zI_sub]
    have Z10 : zI c10 - zI (z1 - k) = zI (c10 - (z1 - k)) := by rw [zI_sub]
    rw [cpy, cV_ok, Zc, Z1, Z8, Z10, jset_jset]
    by_cases h2 : k = 0
    · rw [if_pos (show zI (z1 - (z1 - k)) = 0 by rw [zq0 (by omega) (by omega)]; omega)]
      by_cases hq : 1 ≤ mg
      · rw [if_pos (show (1 : Int32) ≤ zI mg by rw [zl1 (by omega) (by omega)]; exact hq)]
        exact mh_exit hC' hI3 (Or.inr h2) (by omega) ((mx mg (by omega)).2 hq) ⟨by omega, by omega, by omega, by omega, by omega⟩
      · rw [if_neg (show ¬ (1 : Int32) ≤ zI mg by rw [zl1 (by omega) (by omega)]; exact hq)]
        exact mh_exit hC' hI3 (Or.inr h2) (by omega) ((mx mg (by omega)).1 (by omega)) ⟨by omega, by omega, by omega, by omega, by omega⟩
    · rw [if_neg (show ¬ zI (z1 - (z1 - k)) = 0 by rw [zq0 (by omega) (by omega)]; omega)]
      refine P400 _ _ _ mg (z1 - (z1 - k)) z2 (c8 - (z1 - k)) c9 (c10 - (z1 - k)) (by omega) hI3 (by omega) hn2 hL (by omega) (by omega) (by omega) ⟨by omega, by omega, by omega, by omega, by omega⟩ (fun i a b => ?_) (z1 - k) x13 (by omega) (by omega)
      have := k2 (i - B) (by omega)
      rw [show B + (i - B) = i by omega] at this
      rw [hg, jcpy, if_neg (by omega)]
      exact this
theorem mh_main (hC : MCtx G H e e2 ts N N2 E t x1 tl ss rb rl) (hU : U < 1000000000) (hU1 : 1 ≤ U) : ∀ m, MHI G rk d H e e2 ts N N2 B E f0 t tl ss rb rl U y3 m := by
  intro m
  induction m with
  | zero => intro f n1 n2 mg z1 z2 c8 c9 c10 h1 h2 h3 h4; omega
  | succ m ih =>
    intro f n1 n2 mg z1 z2 c8 c9 c10 hm hI hn1 hn2 hL hmg1 hmg2 hU0 hz
    exact ⟨mh_one hC hU hU1 ih f n1 n2 mg z1 z2 c8 c9 c10 hm hI hn1 hn2 hL hmg1 hmg2 hU0 hz, mh_gal hC hU hU1 (mh_400 hC hU hU1 (mh_506 hC hU hU1 ih)) f n1 n2 mg z1 z2 c8 c9 c10 hm hI hn1 hn2 hL hmg1 hmg2 hU0 hz⟩
end
end
