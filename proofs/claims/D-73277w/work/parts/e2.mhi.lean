/-! sort: mergeHi as a whole -/
-- jc_ref, rI_int, rR_ref, rR_null, rJ_long, ckR_ref, ckR_null, ckr_ref, ckr_null, ckW_int, ckW_ref, ckW_null, cI_ok, cR_ok, cR_null, cV_ok, cJ_ok, qH_eq, qD_in, aG_ref, aS_ref, aL_ref, pF_ref, cK_ref, cK_null, zI_lit, zJ_lit, zI_add, zI_sub, zI_mul, zI_neg, zI_eq, zI_lt, zI_le, Int.reduceLT, Int.reduceLE, Int.reduceAdd, Int.reduceSub, Int.reduceMul, Int.reduceNeg, Int.reduceEq, Int.reduceNe, reduceIte, jf_in, pFc_in, aGi, aGb, aSi, aLc_in, cKc_in, nA_in, jm_s1, jm_s2, jm_p1, jm_p2, jm_b, jn_b, jn_s, jn_p, jset_jset, jset_jpush2, ckR_is, ckr_is, rR_is, ckW_is, cR_is, obi2, ckW_int, eq_self, if_true, ref_null, if_false, ne_eq, not_true_eq_false, not_false_eq_true, decide_true, decide_false, decide_not, Bool.true_and, Bool.false_and, Bool.and_true, Bool.and_false, Bool.true_or, Bool.false_or, Bool.or_true, Bool.or_false, Bool.not_true, Bool.not_false, Bool.false_eq_true, bI_t, bI_f, Int.natCast_one, Int.cast_ofNat_Int, Int.natCast_zero, aGc_V, Int.toNat_natCast, or0, or0', o72_0, o72_1, o72_2, o72_3, o72_4, o72_5, o72_6, o72_7, n72, o72s_0, o72s_1, o72s_2, o72s_3, o72s_4, o72s_5, o72s_6, o72s_7 = jc_ref, rI_int, rR_ref, rR_null, rJ_long, ckR_ref, ckR_null, ckr_ref, ckr_null, ckW_int, ckW_ref, ckW_null, cI_ok, cR_ok, cR_null, cV_ok, cJ_ok, qH_eq, qD_in, aG_ref, aS_ref, aL_ref, pF_ref, cK_ref, cK_null, zI_lit, zJ_lit, zI_add, zI_sub, zI_mul, zI_neg, zI_eq, zI_lt, zI_le, Int.reduceLT, Int.reduceLE, Int.reduceAdd, Int.reduceSub, Int.reduceMul, Int.reduceNeg, Int.reduceEq, Int.reduceNe, reduceIte, jf_in, pFc_in, aGi, aGb, aSi, aLc_in, cKc_in, nA_in, jm_s1, jm_s2, jm_p1, jm_p2, jm_b, jn_b, jn_s, jn_p, jset_jset, jset_jpush2, ckR_is, ckr_is, rR_is, ckW_is, cR_is, obi2, ckW_int, eq_self, if_true, ref_null, if_false, ne_eq, not_true_eq_false, not_false_eq_true, decide_true, decide_false, decide_not, Bool.true_and, Bool.false_and, Bool.and_true, Bool.and_false, Bool.true_or, Bool.false_or, Bool.or_true, Bool.or_false, Bool.not_true, Bool.not_false, Bool.false_eq_true, bI_t, bI_f, Int.natCast_one, Int.cast_ofNat_Int, Int.natCast_zero, aGc_V, Int.toNat_natCast, or0, or0', o72_0, o72_1, o72_2, o72_3, o72_4, o72_5, o72_6, o72_7, n72, o72s_0, o72s_1, o72s_2, o72s_3, o72s_4, o72s_5, o72s_6, o72s_7
section
variable {G : Nat → Option Cl} {rk : Value → Int} {d : Nat} {H : AH} {e e2 ts N N2 B c2 n1 n2 E : Nat} {f : Nat → Value} {mg ss U : Int} {rb rl : Value}
theorem c_mhi (h : TSt G H ts e e2 N N2 f mg ss rb rl) (hb : B + n1 = c2) (he : c2 + n2 = E) (hE : E ≤ N) (p1 : 1 ≤ n1) (p2 : 1 ≤ n2) (hn : n2 ≤ N / 2) (hA : OkA G rk f B (E - B)) (s1 : SrtA rk f B n1) (s2 : SrtA rk f c2 n2) (hf : rk (f (E - 1)) ≤ rk (f (c2 - 1))) (hl : ∀ k, B ≤ k → k < c2 → rk (f c2) < rk (f k)) (m1 : 1 ≤ mg) (m2 : mg + 3 * (n1 + n2) ≤ U) (m3 : 2 + 3 * (n1 + n2) ≤ U) (hU : U < 1000000000) :
    ∃ (H2 : AH) (f' : Nat → Value) (mg' : Int) (e3 N3 : Nat), M2 (d + 5) 72008 [.ref ts, .int (zI B), .int (zI n1), .int (zI c2), .int (zI n2)] H = some (.inl none, H2) ∧ TSt G H2 ts e e3 N N3 f' mg' ss rb rl ∧ (1 ≤ mg' ∧ mg' ≤ U) ∧ SrtA rk f' B (E - B) ∧ PmR f f' B (E - B) ∧ Fr H H2 (fun q => q = e ∨ q = ts ∨ q = e2) ∧ GroT H H2 N N2 N3 e2 e3 := by
  obtain ⟨e3, N3, H1, en, hT, hlen, hF, hGr, h3⟩ := c_ens (d := d + 2) h hn p2
  have hT' := hT
  obtain ⟨-, -, -, -, -, -, -, ms0, -⟩ := h
  obtain ⟨hG, ⟨g1, g2, g3⟩, ⟨x1, x2, x3⟩, hN, hq, me, ⟨t0, mt⟩, ms, l1, l2, l3⟩ := hT
  have x1' := Ne.symm x1
  have x2' := Ne.symm x2
  have x3' := Ne.symm x3
  obtain ⟨t, ht⟩ : ∃ t, t = jcpy f t0 c2 0 n2 := ⟨_, rfl⟩
  have cpy1 := acp2 (d := d + 3) (sp := c2) (dp := 0) (k := n2) me mt rfl (by omega) (by omega) (by omega) (by omega)
  rw [← ht] at cpy1
  have cpy1' : M2 (d + 4) 90001 [.ref e, .int (zI c2), .ref e3, .int (zI 0), .int (zI n2)] H1 = some (.inl none, jset H1 e3 (1040, N3, t)) := cpy1
  have tk : ∀ k, k < n2 → t k = f (c2 + k) := fun k hk => by rw [ht, jcpy, if_pos ⟨by omega, by omega⟩]; rfl
  obtain ⟨K, hK⟩ : ∃ K, K = jset H1 e3 (1040, N3, t) := ⟨_, rfl⟩
  have hGK : Fzn G K := by rw [hK]; exact hG.arr g3
  have mKe : jm K e = some (1040, N, f) := by rw [hK]; exact (jm_s2 x1').trans me
  have mKt : jm K e3 = some (1040, N3, t) := by rw [hK]; exact jm_s1
  have mKs : jm K ts = some (72, 8, o72 (.ref e) mg (.ref e3) 0 N3 ss rb rl) := by rw [hK]; exact (jm_s2 x3).trans ms
  have hC : MCtx G K e e3 ts N N3 E t mg N3 ss rb rl := ⟨hGK, g1, g2, by omega, by omega, ⟨f, mKe⟩, mKt, mKs, x1, x2, x3, hE⟩
  have hI : MJ G rk f B E f t n1 n2 := by
    refine ⟨⟨by omega, p2⟩, ?_, fun _ _ => rfl, s1, fun i j a b c => ?_, fun i j a b c => by omega, fun i k a b => by omega, fun i k a b => by omega, fun k a b => ?_, fun x a b => ?_, fun x a b => hA x (by omega) (by omega)⟩
    · have e1 : sg t 0 n2 = sg f c2 n2 := by
        have := sg_sh (f := t) (g := f) (s := c2) n2 0 fun i a b => by rw [tk i (by omega), Nat.add_comm]
        rw [Nat.zero_add] at this; exact this
      have e0 : sg f (B + n1 + n2) (E - (B + n1 + n2)) = [] := by rw [show E - (B + n1 + n2) = 0 by omega]; rfl
      rw [e0, List.append_nil, e1, ← hb, ← sg_add, show n1 + n2 = E - B by omega]
    · rw [tk i (by omega), tk j (by omega)]; exact s2 _ _ (by omega) (by omega) (by omega)
    · rw [tk 0 (by omega), Nat.add_zero]; exact hl k a (by omega)
    · rw [tk x (by omega)]; exact hA _ (by omega) (by omega)
  have a2 := hA (c2 - 1) (by omega) (by omega)
  have r2 := a2.R
  have hI2 := hI.mvF (k := 1) (f2 := ju f (E - 1) (f (c2 - 1))) p1 (fun i a b => by
    rw [show i = c2 - 1 by omega, tk (n2 - 1) (by omega), show c2 + (n2 - 1) = E - 1 by omega]; exact hf) (fun i a b => by rw [show i = E - 1 by omega, juE]; congr 1; omega) (fun i a => juN (by omega))
  have s2' := fun (κ : AH → Rz) (u : Ph κ) => aSr_in (κ := κ) (u := u) mKe (a2.ok hGK) (i := (c2 : Int) + n2 - 1) (by omega) (by omega) (by omega)
  have t8 : ((B : Int) + n1 - 1).toNat = c2 - 1 := by omega
  have t10 : ((c2 : Int) + n2 - 1).toNat = E - 1 := by omega
  rw [t10] at s2'
  have q1 : zI n1 + -1 = zI ((n1 : Int) + -1) := by rw [show (-1 : Int32) = zI (-1) from rfl, zI_add]
  have main : ∃ r, M2 (d + 5) 72008 [.ref ts, .int (zI B), .int (zI n1), .int (zI c2), .int (zI n2)] H = r ∧ MRes G rk K e ts N B E f e3 N3 ss rb rl U r := by
    refine ⟨_, rfl, ?_⟩
    rw [← hK] at cpy1'
    have mE : ∀ c, jm (jset K e c) e = some c := fun c => jm_s1
    have mT : ∀ c, jm (jset K e c) e3 = some (1040, N3, t) := fun c => (jm_s2 x1).trans mKt
    have post : ∀ f' : Nat → Value, MPost K (jset K e (1040, N, f')) e N f' ts (o72 (.ref e) mg (.ref e3) 0 N3 ss rb rl) := fun f' => ⟨jm_s1, (jm_s2 x2).trans mKs, Fr.set (Or.inl rfl), rfl, rfl⟩
    have hGe : ∀ c, Fzn G (jset K e c) := fun c => hGK.arr g1
    rw [Y72008 H (jrecv_in ms0 rfl), F72008_0]
    simp (disch := first | assumption | omega | decide | exact okF_i | exact okF_r | exact okF_n | exact okF_j | rfl) only [jc_ref, rI_int, rR_ref, rR_null, rJ_long, ckR_ref, ckR_null, ckr_ref, ckr_null, ckW_int, ckW_ref, ckW_null, cI_ok, cR_ok, cR_null, cV_ok, cJ_ok, qH_eq, qD_in, aG_ref, aS_ref, aL_ref, pF_ref, cK_ref, cK_null, zI_lit, zJ_lit, zI_add, zI_sub, zI_mul, zI_neg, zI_eq, zI_lt, zI_le, Int.reduceLT, Int.reduceLE, Int.reduceAdd, Int.reduceSub, Int.reduceMul, Int.reduceNeg, Int.reduceEq, Int.reduceNe, reduceIte, jf_in, pFc_in, aGi, aGb, aSi, aLc_in, cKc_in, nA_in, jm_s1, jm_s2, jm_p1, jm_p2, jm_b, jn_b, jn_s, jn_p, jset_jset, jset_jpush2, ckR_is, ckr_is, rR_is, ckW_is, cR_is, obi2, ckW_int, eq_self, if_true, ref_null, if_false, ne_eq, not_true_eq_false, not_false_eq_true, decide_true, decide_false, decide_not, Bool.true_and, Bool.false_and, Bool.and_true, Bool.and_false, Bool.true_or, Bool.false_or, Bool.or_true, Bool.or_false, Bool.not_true, Bool.not_false, Bool.false_eq_true, bI_t, bI_f, Int.natCast_one, Int.cast_ofNat_Int, Int.natCast_zero, aGc_V, Int.toNat_natCast, or0, or0', o72_0, o72_1, o72_2, o72_3, o72_4, o72_5, o72_6, o72_7, n72, o72s_0, o72s_1, o72s_2, o72s_3, o72s_4, o72s_5, o72s_6, o72s_7]
    rw [F72008_30]
    simp (disch := first | assumption | omega | decide | exact okF_i | exact okF_r | exact okF_n | exact okF_j | rfl) only [jc_ref, rI_int, rR_ref, rR_null, rJ_long, ckR_ref, ckR_null, ckr_ref, ckr_null, ckW_int, ckW_ref, ckW_null, cI_ok, cR_ok, cR_null, cV_ok, cJ_ok, qH_eq, qD_in, aG_ref, aS_ref, aL_ref, pF_ref, cK_ref, cK_null, zI_lit, zJ_lit, zI_add, zI_sub, zI_mul, zI_neg, zI_eq, zI_lt, zI_le, Int.reduceLT, Int.reduceLE, Int.reduceAdd, Int.reduceSub, Int.reduceMul, Int.reduceNeg, Int.reduceEq, Int.reduceNe, reduceIte, jf_in, pFc_in, aGi, aGb, aSi, aLc_in, cKc_in, nA_in, jm_s1, jm_s2, jm_p1, jm_p2, jm_b, jn_b, jn_s, jn_p, jset_jset, jset_jpush2, ckR_is, ckr_is, rR_is, ckW_is, cR_is, obi2, ckW_int, eq_self, if_true, ref_null, if_false, ne_eq, not_true_eq_false, not_false_eq_true, decide_true, decide_false, decide_not, Bool.true_and, Bool.false_and, Bool.and_true, Bool.and_false, Bool.true_or, Bool.false_or, Bool.or_true, Bool.or_false, Bool.not_true, Bool.not_false, Bool.false_eq_true, bI_t, bI_f, Int.natCast_one, Int.cast_ofNat_Int, Int.natCast_zero, aGc_V, Int.toNat_natCast, or0, or0', o72_0, o72_1, o72_2, o72_3, o72_4, o72_5, o72_6, o72_7, n72, o72s_0, o72s_1, o72s_2, o72s_3, o72s_4, o72s_5, o72s_6, o72s_7, ms0, en, ms, cpy1', mKe, t8]
    rw [s2', q1]
    by_cases c1 : n1 - 1 = 0
    · rw [if_pos (show zI ((n1 : Int) + -1) = 0 by rw [zq0 (by omega) (by omega)]; omega)]
      have cpy := acpI (d := d + 3) (sp := 0) (dp := (c2 : Int) + n2 - 1 + -1 - (n2 - 1)) (k := n2) (mT (1040, N, ju f (E - 1) (f (c2 - 1)))) (mE _) rfl (by omega) (by omega) (by omega) (by omega) (by omega) (by omega) (by omega)
      obtain ⟨g, hg⟩ : ∃ g, g = jcpy t (ju f (E - 1) (f (c2 - 1))) (0 : Int).toNat ((c2 : Int) + n2 - 1 + -1 - (n2 - 1)).toNat ((n2 : Nat) : Int).toNat := ⟨_, rfl⟩
      rw [← hg] at cpy
      simp (disch := first | assumption | omega | decide | exact okF_i | exact okF_r | exact okF_n | exact okF_j | rfl) only [jc_ref, rI_int, rR_ref, rR_null, rJ_long, ckR_ref, ckR_null, ckr_ref, ckr_null, ckW_int, ckW_ref, ckW_null, cI_ok, cR_ok, cR_null, cV_ok, cJ_ok, qH_eq, qD_in, aG_ref, aS_ref, aL_ref, pF_ref, cK_ref, cK_null, zI_lit, zJ_lit, zI_add, zI_sub, zI_mul, zI_neg, zI_eq, zI_lt, zI_le, Int.reduceLT, Int.reduceLE, Int.reduceAdd, Int.reduceSub, Int.reduceMul, Int.reduceNeg, Int.reduceEq, Int.reduceNe, reduceIte, jf_in, pFc_in, aGi, aGb, aSi, aLc_in, cKc_in, nA_in, jm_s1, jm_s2, jm_p1, jm_p2, jm_b, jn_b, jn_s, jn_p, jset_jset, jset_jpush2, ckR_is, ckr_is, rR_is, ckW_is, cR_is, obi2, ckW_int, eq_self, if_true, ref_null, if_false, ne_eq, not_true_eq_false, not_false_eq_true, decide_true, decide_false, decide_not, Bool.true_and, Bool.false_and, Bool.and_true, Bool.and_false, Bool.true_or, Bool.false_or, Bool.or_true, Bool.or_false, Bool.not_true, Bool.not_false, Bool.false_eq_true, bI_t, bI_f, Int.natCast_one, Int.cast_ofNat_Int, Int.natCast_zero, aGc_V, Int.toNat_natCast, or0, or0', o72_0, o72_1, o72_2, o72_3, o72_4, o72_5, o72_6, o72_7, n72, o72s_0, o72s_1, o72s_2, o72s_3, o72s_4, o72s_5, o72s_6, o72s_7, cpy]
      rw [c1] at hI2
      exact ⟨_, _, mg, rfl, post _, ⟨m1, by omega⟩, hI2.fin (fun i a b => by rw [hg, jcpy, if_pos ⟨by omega, by omega⟩]; congr 1; show 0 + _ = _; omega) (fun i a => by rw [hg, jcpy, if_neg (by omega)])⟩
    · rw [if_neg (show ¬ zI ((n1 : Int) + -1) = 0 by rw [zq0 (by omega) (by omega)]; omega)]
      by_cases c3 : n2 = 1
      · rw [if_pos (show zI (n2 : Int) = 1 by rw [c3]; rfl)]
        have cpy := acpI (d := d + 3) (sp := (B : Int) + n1 - 1 + -1 - (n1 + -1) + 1) (dp := (c2 : Int) + n2 - 1 + -1 - (n1 + -1) + 1) (k := (n1 : Int) + -1) (mE (1040, N, ju f (E - 1) (f (c2 - 1)))) (mE _) rfl (by omega) (by omega) (by omega) (by omega) (by omega) (by omega) (by omega)
        obtain ⟨g, hg⟩ : ∃ g, g = jcpy (ju f (E - 1) (f (c2 - 1))) (ju f (E - 1) (f (c2 - 1))) ((B : Int) + n1 - 1 + -1 - (n1 + -1) + 1).toNat ((c2 : Int) + n2 - 1 + -1 - (n1 + -1) + 1).toNat ((n1 : Int) + -1).toNat := ⟨_, rfl⟩
        rw [← hg] at cpy
        have hI3 := hI2.mvF (k := n1 - 1) (f2 := g) (Nat.le_refl _) (fun i a b => by
          have := hl i (by omega) (by omega)
          rw [juN (by omega), tk (n2 - 1) (by omega), show c2 + (n2 - 1) = c2 by omega]
          omega) (fun i a b => by rw [hg, jcpy, if_pos ⟨by omega, by omega⟩]; congr 1; omega) (fun i a => by rw [hg, jcpy, if_neg (by omega)])
        rw [Nat.sub_self] at hI3
        have at0 := hI3.ok2 0 (Nat.le_refl _) (by omega)
        have rt0 := at0.R
        have t9 : ((n2 : Int) - 1).toNat = 0 := by omega
        have t9' : ((0 : Int) + n2 - 1).toNat = 0 := by omega
        have s4 := fun (κ : AH → Rz) (u : Ph κ) => aSr_in (κ := κ) (u := u) (h := jset K e (1040, N, g)) jm_s1 (at0.ok (hGe _)) (i := (c2 : Int) + n2 - 1 + -1 - (n1 + -1)) (by omega) (by omega) (by omega)
        simp (disch := first | assumption | omega | decide | exact okF_i | exact okF_r | exact okF_n | exact okF_j | rfl) only [jc_ref, rI_int, rR_ref, rR_null, rJ_long, ckR_ref, ckR_null, ckr_ref, ckr_null, ckW_int, ckW_ref, ckW_null, cI_ok, cR_ok, cR_null, cV_ok, cJ_ok, qH_eq, qD_in, aG_ref, aS_ref, aL_ref, pF_ref, cK_ref, cK_null, zI_lit, zJ_lit, zI_add, zI_sub, zI_mul, zI_neg, zI_eq, zI_lt, zI_le, Int.reduceLT, Int.reduceLE, Int.reduceAdd, Int.reduceSub, Int.reduceMul, Int.reduceNeg, Int.reduceEq, Int.reduceNe, reduceIte, jf_in, pFc_in, aGi, aGb, aSi, aLc_in, cKc_in, nA_in, jm_s1, jm_s2, jm_p1, jm_p2, jm_b, jn_b, jn_s, jn_p, jset_jset, jset_jpush2, ckR_is, ckr_is, rR_is, ckW_is, cR_is, obi2, ckW_int, eq_self, if_true, ref_null, if_false, ne_eq, not_true_eq_false, not_false_eq_true, decide_true, decide_false, decide_not, Bool.true_and, Bool.false_and, Bool.and_true, Bool.and_false, Bool.true_or, Bool.false_or, Bool.or_true, Bool.or_false, Bool.not_true, Bool.not_false, Bool.false_eq_true, bI_t, bI_f, Int.natCast_one, Int.cast_ofNat_Int, Int.natCast_zero, aGc_V, Int.toNat_natCast, or0, or0', o72_0, o72_1, o72_2, o72_3, o72_4, o72_5, o72_6, o72_7, n72, o72s_0, o72s_1, o72s_2, o72s_3, o72s_4, o72s_5, o72s_6, o72s_7, cpy, mKt, t9', s4]
        exact ⟨_, _, mg, rfl, post _, ⟨m1, by omega⟩, hI3.fin (fun i a b => by rw [show i = ((c2 : Int) + n2 - 1 + -1 - (n1 + -1)).toNat by omega, juE]; congr 1; omega) (fun i a => juN (by omega))⟩
      · rw [if_neg (show ¬ zI (n2 : Int) = 1 by rw [show (1 : Int32) = zI 1 from rfl, zI_eq (by omega) (by omega) (by omega) (by omega)]; omega)]
        simp (disch := first | assumption | omega | decide | exact okF_i | exact okF_r | exact okF_n | exact okF_j | rfl) only [jc_ref, rI_int, rR_ref, rR_null, rJ_long, ckR_ref, ckR_null, ckr_ref, ckr_null, ckW_int, ckW_ref, ckW_null, cI_ok, cR_ok, cR_null, cV_ok, cJ_ok, qH_eq, qD_in, aG_ref, aS_ref, aL_ref, pF_ref, cK_ref, cK_null, zI_lit, zJ_lit, zI_add, zI_sub, zI_mul, zI_neg, zI_eq, zI_lt, zI_le, Int.reduceLT, Int.reduceLE, Int.reduceAdd, Int.reduceSub, Int.reduceMul, Int.reduceNeg, Int.reduceEq, Int.reduceNe, reduceIte, jf_in, pFc_in, aGi, aGb, aSi, aLc_in, cKc_in, nA_in, jm_s1, jm_s2, jm_p1, jm_p2, jm_b, jn_b, jn_s, jn_p, jset_jset, jset_jpush2, ckR_is, ckr_is, rR_is, ckW_is, cR_is, obi2, ckW_int, eq_self, if_true, ref_null, if_false, ne_eq, not_true_eq_false, not_false_eq_true, decide_true, decide_false, decide_not, Bool.true_and, Bool.false_and, Bool.and_true, Bool.and_false, Bool.true_or, Bool.false_or, Bool.or_true, Bool.or_false, Bool.not_true, Bool.not_false, Bool.false_eq_true, bI_t, bI_f, Int.natCast_one, Int.cast_ofNat_Int, Int.natCast_zero, aGc_V, Int.toNat_natCast, or0, or0', o72_0, o72_1, o72_2, o72_3, o72_4, o72_5, o72_6, o72_7, n72, o72s_0, o72s_1, o72s_2, o72s_3, o72s_4, o72s_5, o72s_6, o72s_7, mKs]
        rw [F72008_179]
        have := (mh_main (d := d) hC hU (by omega) (y3 := c2) (n1 - 1 + n2) _ _ _ mg ((n1 : Int) + -1) n2 ((B : Int) + n1 - 1 + -1) ((0 : Int) + n2 - 1) ((c2 : Int) + n2 - 1 + -1) (Nat.le_refl _) hI2 (by omega) (by omega) (by omega) (by omega) (by omega) (by omega) ⟨by omega, by omega, by omega, by omega, by omega⟩).1 0 0 (by omega) (by omega) (by omega) (by omega)
        simp (disch := first | assumption | omega | decide | exact okF_i | exact okF_r | exact okF_n | exact okF_j | rfl) only [jc_ref, rI_int, rR_ref, rR_null, rJ_long, ckR_ref, ckR_null, ckr_ref, ckr_null, ckW_int, ckW_ref, ckW_null, cI_ok, cR_ok, cR_null, cV_ok, cJ_ok, qH_eq, qD_in, aG_ref, aS_ref, aL_ref, pF_ref, cK_ref, cK_null, zI_lit, zJ_lit, zI_add, zI_sub, zI_mul, zI_neg, zI_eq, zI_lt, zI_le, Int.reduceLT, Int.reduceLE, Int.reduceAdd, Int.reduceSub, Int.reduceMul, Int.reduceNeg, Int.reduceEq, Int.reduceNe, reduceIte, jf_in, pFc_in, aGi, aGb, aSi, aLc_in, cKc_in, nA_in, jm_s1, jm_s2, jm_p1, jm_p2, jm_b, jn_b, jn_s, jn_p, jset_jset, jset_jpush2, ckR_is, ckr_is, rR_is, ckW_is, cR_is, obi2, ckW_int, eq_self, if_true, ref_null, if_false, ne_eq, not_true_eq_false, not_false_eq_true, decide_true, decide_false, decide_not, Bool.true_and, Bool.false_and, Bool.and_true, Bool.and_false, Bool.true_or, Bool.false_or, Bool.or_true, Bool.or_false, Bool.not_true, Bool.not_false, Bool.false_eq_true, bI_t, bI_f, Int.natCast_one, Int.cast_ofNat_Int, Int.natCast_zero, aGc_V, Int.toNat_natCast, or0, or0', o72_0, o72_1, o72_2, o72_3, o72_4, o72_5, o72_6, o72_7, n72, o72s_0, o72s_1, o72s_2, o72s_3, o72s_4, o72s_5, o72s_6, o72s_7]
        exact this
  obtain ⟨r, hr, hM⟩ := main
  rw [hK] at hM
  obtain ⟨H2, f', mg', w1, w2, w3, w4, w5, w6, w7, w8⟩ := MRes.tst hT' hM hF h3
  refine ⟨H2, f', mg', e3, N3, hr.trans w1, w2, w3, w4, w5, w6, ?_⟩
  unfold GroT at hGr ⊢
  rw [w7, w8]
  exact hGr
end
