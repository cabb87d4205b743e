/-! sort: mergeLo as a whole -/
-- jc_ref, rI_int, rR_ref, rR_null, rJ_long, ckR_ref, ckR_null, ckr_ref, ckr_null, ckW_int, ckW_ref, ckW_null, cI_ok, cR_ok, cR_null, cV_ok, cJ_ok, qH_eq, qD_in, aG_ref, aS_ref, aL_ref, pF_ref, cK_ref, cK_null, zI_lit, zJ_lit, zI_add, zI_sub, zI_mul, zI_neg, zI_eq, zI_lt, zI_le, Int.reduceLT, Int.reduceLE, Int.reduceAdd, Int.reduceSub, Int.reduceMul, Int.reduceNeg, Int.reduceEq, Int.reduceNe, reduceIte, jf_in, pFc_in, aGi, aGb, aSi, aLc_in, cKc_in, nA_in, jm_s1, jm_s2, jm_p1, jm_p2, jm_b, jn_b, jn_s, jn_p, jset_jset, jset_jpush2, ckR_is, ckr_is, rR_is, ckW_is, cR_is, obi2, ckW_int, eq_self, if_true, ref_null, if_false, ne_eq, not_true_eq_false, not_false_eq_true, decide_true, decide_false, decide_not, Bool.true_and, Bool.false_and, Bool.and_true, Bool.and_false, Bool.true_or, Bool.false_or, Bool.or_true, Bool.or_false, Bool.not_true, Bool.not_false, Bool.false_eq_true, bI_t, bI_f, Int.natCast_one, Int.cast_ofNat_Int, Int.natCast_zero, aGc_V, Int.toNat_natCast, or0, or0', o72_0, o72_1, o72_2, o72_3, o72_4, o72_5, o72_6, o72_7, n72, o72s_0, o72s_1, o72s_2, o72s_3, o72s_4, o72s_5, o72s_6, o72s_7 = jc_ref, rI_int, rR_ref, rR_null, rJ_long, ckR_ref, ckR_null, ckr_ref, ckr_null, ckW_int, ckW_ref, ckW_null, cI_ok, cR_ok, cR_null, cV_ok, cJ_ok, qH_eq, qD_in, aG_ref, aS_ref, aL_ref, pF_ref, cK_ref, cK_null, zI_lit, zJ_lit, zI_add, zI_sub, zI_mul, zI_neg, zI_eq, zI_lt, zI_le, Int.reduceLT, Int.reduceLE, Int.reduceAdd, Int.reduceSub, Int.reduceMul, Int.reduceNeg, Int.reduceEq, Int.reduceNe, reduceIte, jf_in, pFc_in, aGi, aGb, aSi, aLc_in, cKc_in, nA_in, jm_s1, jm_s2, jm_p1, jm_p2, jm_b, jn_b, jn_s, jn_p, jset_jset, jset_jpush2, ckR_is, ckr_is, rR_is, ckW_is, cR_is, obi2, ckW_int, eq_self, if_true, ref_null, if_false, ne_eq, not_true_eq_false, not_false_eq_true, decide_true, decide_false, decide_not, Bool.true_and, Bool.false_and, Bool.and_true, Bool.and_false, Bool.true_or, Bool.false_or, Bool.or_true, Bool.or_false, Bool.not_true, Bool.not_false, Bool.false_eq_true, bI_t, bI_f, Int.natCast_one, Int.cast_ofNat_Int, Int.natCast_zero, aGc_V, Int.toNat_natCast, or0, or0', o72_0, o72_1, o72_2, o72_3, o72_4, o72_5, o72_6, o72_7, n72, o72s_0, o72s_1, o72s_2, o72s_3, o72s_4, o72s_5, o72s_6, o72s_7
section
variable {G : Nat → Option Cl} {rk : Value → Int} {d : Nat} {H : AH} {e e2 ts N N2 B c2 n1 n2 E : Nat} {f : Nat → Value} {mg ss U : Int} {rb rl : Value}
theorem MRes.tst {H H1 : AH} {e2 e3 N3 : Nat} {f0 t : Nat → Value} {r : Rz} (hT : TSt G H1 ts e e3 N N3 f0 mg ss rb rl) (h : MRes G rk (jset H1 e3 (1040, N3, t)) e ts N B E f0 e3 N3 ss rb rl U r) (hF : Fr H H1 (fun q => q = ts)) (h3 : e3 = e2 ∨ e3 = H.1) :
    ∃ (H2 : AH) (f' : Nat → Value) (mg' : Int), r = some (.inl none, H2) ∧ TSt G H2 ts e e3 N N3 f' mg' ss rb rl ∧ (1 ≤ mg' ∧ mg' ≤ U) ∧ SrtA rk f' B (E - B) ∧ PmR f0 f' B (E - B) ∧ Fr H H2 (fun q => q = e ∨ q = ts ∨ q = e2) ∧ H2.1 = H1.1 ∧ H2.2.1 = H1.2.1 := by
  obtain ⟨H2, f', mg', q1, ⟨p1, p2, p3, p4, p5⟩, q2, q3, q4⟩ := h
  obtain ⟨hG, ⟨g1, g2, g3⟩, ⟨x1, x2, x3⟩, hN, hq, m1, ⟨t0, m2⟩, m3, l1, l2, l3⟩ := hT
  have f1 : Fr H1 (jset H1 e3 (1040, N3, t)) (fun q => q = e3) := Fr.set rfl
  have hG2 : Fzn G H2 := (hG.fr f1 (fun q hq => by rw [hq]; exact g3)).fr p3 (fun q hq => by rcases hq with rfl | rfl <;> assumption)
  refine ⟨H2, f', mg', q1, ⟨hG2, ⟨g1, g2, g3⟩, ⟨x1, x2, x3⟩, hN, hq, p1, ⟨t, ?_⟩, p2, ?_, ?_, ?_⟩, q2, q3, q4, ?_, p4, p5⟩
  · rw [p3.2.2 e3 l3 (fun z => z.elim (fun z => x1 z) (fun z => x3 z.symm))]; exact jm_s1
  · rw [p4]; exact l1
  · rw [p4]; exact l2
  · rw [p4]; exact l3
  · refine (hF.mono (fun q _ z => Or.inr (Or.inl z))).new ((f1.mono (fun q hq z => ?_)).tr (p3.mono fun q hq z => ?_))
    · rcases h3 with h3 | h3
      · exact Or.inl (Or.inr (Or.inr (z.trans h3)))
      · exact Or.inr (by rw [z, h3]; exact Nat.le_refl _)
    · rcases z with z | z
      · exact Or.inl (Or.inl z)
      · exact Or.inl (Or.inr (Or.inl z))
theorem c_mlo (h : TSt G H ts e e2 N N2 f mg ss rb rl) (hb : B + n1 = c2) (he : c2 + n2 = E) (hE : E ≤ N) (p1 : 1 ≤ n1) (p2 : 1 ≤ n2) (hn : n1 ≤ N / 2) (hA : OkA G rk f B (E - B)) (s1 : SrtA rk f B n1) (s2 : SrtA rk f c2 n2) (hf : rk (f c2) ≤ rk (f B)) (hl : ∀ k, c2 ≤ k → k < E → rk (f k) < rk (f (c2 - 1))) (m1 : 1 ≤ mg) (m2 : mg + 3 * (n1 + n2) ≤ U) (m3 : 2 + 3 * (n1 + n2) ≤ U) (hU : U < 1000000000) :
    ∃ (H2 : AH) (f' : Nat → Value) (mg' : Int) (e3 N3 : Nat), M2 (d + 5) 72009 [.ref ts, .int (zI B), .int (zI n1), .int (zI c2), .int (zI n2)] H = some (.inl none, H2) ∧ TSt G H2 ts e e3 N N3 f' mg' ss rb rl ∧ (1 ≤ mg' ∧ mg' ≤ U) ∧ SrtA rk f' B (E - B) ∧ PmR f f' B (E - B) ∧ Fr H H2 (fun q => q = e ∨ q = ts ∨ q = e2) ∧ GroT H H2 N N2 N3 e2 e3 := by
  obtain ⟨e3, N3, H1, en, hT, hlen, hF, hGr, h3⟩ := c_ens (d := d + 2) h hn p1
  have hT' := hT
  obtain ⟨-, -, -, -, -, -, -, ms0, -⟩ := h
  obtain ⟨hG, ⟨g1, g2, g3⟩, ⟨x1, x2, x3⟩, hN, hq, me, ⟨t0, mt⟩, ms, l1, l2, l3⟩ := hT
  have x1' := Ne.symm x1
  have x2' := Ne.symm x2
  have x3' := Ne.symm x3
  obtain ⟨t, ht⟩ : ∃ t, t = jcpy f t0 B 0 n1 := ⟨_, rfl⟩
  have cpy1 := acp2 (d := d + 3) (sp := B) (dp := 0) (k := n1) me mt rfl (by omega) (by omega) (by omega) (by omega)
  rw [← ht] at cpy1
  have cpy1' : M2 (d + 4) 90001 [.ref e, .int (zI B), .ref e3, .int (zI 0), .int (zI n1)] H1 = some (.inl none, jset H1 e3 (1040, N3, t)) := cpy1
  have tk : ∀ k, k < n1 → t k = f (B + k) := fun k hk => by rw [ht, jcpy, if_pos ⟨by omega, by omega⟩]; rfl
  obtain ⟨K, hK⟩ : ∃ K, K = jset H1 e3 (1040, N3, t) := ⟨_, rfl⟩
  have hGK : Fzn G K := by rw [hK]; exact hG.arr g3
  have mKe : jm K e = some (1040, N, f) := by rw [hK]; exact (jm_s2 x1').trans me
  have mKt : jm K e3 = some (1040, N3, t) := by rw [hK]; exact jm_s1
  have mKs : jm K ts = some (72, 8, o72 (.ref e) mg (.ref e3) 0 N3 ss rb rl) := by rw [hK]; exact (jm_s2 x3).trans ms
  have hC : MCtx G K e e3 ts N N3 E t mg N3 ss rb rl := ⟨hGK, g1, g2, by omega, by omega, ⟨f, mKe⟩, mKt, mKs, x1, x2, x3, hE⟩
  have hI : MI G rk f B E f t B 0 n1 c2 n2 := by
    refine ⟨⟨Nat.le_refl _, hb, he, p1⟩, ?_, fun _ _ => rfl, fun i j a b c => by omega, fun i j a b c => ?_, s2, fun i k a b => by omega, fun i k a b => by omega, fun k a b => ?_, fun x a b => ?_, fun x a b => hA x (by omega) (by omega)⟩
    · have e1 : sg t 0 n1 = sg f B n1 := by
        have := sg_sh (f := t) (g := f) (s := B) n1 0 fun i a b => by rw [tk i (by omega), Nat.add_comm]
        rw [Nat.zero_add] at this; exact this
      rw [Nat.sub_self, e1, ← hb, ← sg_add, show n1 + n2 = E - B by omega]
      exact List.Perm.refl _
    · rw [tk i (by omega), tk j (by omega)]; exact s1 _ _ (by omega) (by omega) (by omega)
    · rw [tk _ (by omega), show B + (0 + n1 - 1) = c2 - 1 by omega]; exact hl k a b
    · rw [tk x (by omega)]; exact hA _ (by omega) (by omega)
  have a2 := hA c2 (by omega) (by omega)
  have r2 := a2.R
  have hI2 := hI.mvR (k := 1) (f2 := ju f B (f c2)) p2 (fun i a b => by
    rw [show i = c2 by omega, tk 0 (by omega)]; exact hf) (fun i a b => by rw [show i = B by omega, juE, Nat.sub_self]; rfl) (fun i a => juN (by omega))
  have s2' := fun (κ : AH → Rz) (u : Ph κ) => aSr_in (κ := κ) (u := u) mKe (a2.ok hGK) (i := B) (by omega) (by omega) (by omega)
  have q2 : zI n2 + -1 = zI ((n2 - 1 : Nat) : Int) := by rw [show (-1 : Int32) = zI (-1) from rfl, zI_add, show (n2 : Int) + -1 = ((n2 - 1 : Nat) : Int) by omega]
  have qB : zI B + 1 = zI ((B + 1 : Nat) : Int) := by rw [show (1 : Int32) = zI 1 from rfl, zI_add]; rfl
  have qc : zI c2 + 1 = zI ((c2 + 1 : Nat) : Int) := by rw [show (1 : Int32) = zI 1 from rfl, zI_add]; rfl
  have main : ∃ r, M2 (d + 5) 72009 [.ref ts, .int (zI B), .int (zI n1), .int (zI c2), .int (zI n2)] H = r ∧ MRes G rk K e ts N B E f e3 N3 ss rb rl U r := by
    refine ⟨_, rfl, ?_⟩
    rw [← hK] at cpy1'
    have mE : ∀ c, jm (jset K e c) e = some c := fun c => jm_s1
    have mT : ∀ c, jm (jset K e c) e3 = some (1040, N3, t) := fun c => (jm_s2 x1).trans mKt
    have post : ∀ f' : Nat → Value, MPost K (jset K e (1040, N, f')) e N f' ts (o72 (.ref e) mg (.ref e3) 0 N3 ss rb rl) := fun f' => ⟨jm_s1, (jm_s2 x2).trans mKs, Fr.set (Or.inl rfl), rfl, rfl⟩
    have hGe : ∀ c, Fzn G (jset K e c) := fun c => hGK.arr g1
    rw [Y72009 H (jrecv_in ms0 rfl), F72009_0]
    simp (disch := first | assumption | omega | decide | exact okF_i | exact okF_r | exact okF_n | exact okF_j | rfl) only [jc_ref, rI_int, rR_ref, rR_null, rJ_long, ckR_ref, ckR_null, ckr_ref, ckr_null, ckW_int, ckW_ref, ckW_null, cI_ok, cR_ok, cR_null, cV_ok, cJ_ok, qH_eq, qD_in, aG_ref, aS_ref, aL_ref, pF_ref, cK_ref, cK_null, zI_lit, zJ_lit, zI_add, zI_sub, zI_mul, zI_neg, zI_eq, zI_lt, zI_le, Int.reduceLT, Int.reduceLE, Int.reduceAdd, Int.reduceSub, Int.reduceMul, Int.reduceNeg, Int.reduceEq, Int.reduceNe, reduceIte, jf_in, pFc_in, aGi, aGb, aSi, aLc_in, cKc_in, nA_in, jm_s1, jm_s2, jm_p1, jm_p2, jm_b, jn_b, jn_s, jn_p, jset_jset, jset_jpush2, ckR_is, ckr_is, rR_is, ckW_is, cR_is, obi2, ckW_int, eq_self, if_true, ref_null, if_false, ne_eq, not_true_eq_false, not_false_eq_true, decide_true, decide_false, decide_not, Bool.true_and, Bool.false_and, Bool.and_true, Bool.and_false, Bool.true_or, Bool.false_or, Bool.or_true, Bool.or_false, Bool.not_true, Bool.not_false, Bool.false_eq_true, bI_t, bI_f, Int.natCast_one, Int.cast_ofNat_Int, Int.natCast_zero, aGc_V, Int.toNat_natCast, or0, or0', o72_0, o72_1, o72_2, o72_3, o72_4, o72_5, o72_6, o72_7, n72, o72s_0, o72s_1, o72s_2, o72s_3, o72s_4, o72s_5, o72s_6, o72s_7]
    rw [F72009_30]
    simp (disch := first | assumption | omega | decide | exact okF_i | exact okF_r | exact okF_n | exact okF_j | rfl) only [jc_ref, rI_int, rR_ref, rR_null, rJ_long, ckR_ref, ckR_null, ckr_ref, ckr_null, ckW_int, ckW_ref, ckW_null, cI_ok, cR_ok, cR_null, cV_ok, cJ_ok, qH_eq, qD_in, aG_ref, aS_ref, aL_ref, pF_ref, cK_ref, cK_null, zI_lit, zJ_lit, zI_add, zI_sub, zI_mul, zI_neg, zI_eq, zI_lt, zI_le, Int.reduceLT, Int.reduceLE, Int.reduceAdd, Int.reduceSub, Int.reduceMul, Int.reduceNeg, Int.reduceEq, Int.reduceNe, reduceIte, jf_in, pFc_in, aGi, aGb, aSi, aLc_in, cKc_in, nA_in, jm_s1, jm_s2, jm_p1, jm_p2, jm_b, jn_b, jn_s, jn_p, jset_jset, jset_jpush2, ckR_is, ckr_is, rR_is, ckW_is, cR_is, obi2, ckW_int, eq_self, if_true, ref_null, if_false, ne_eq, not_true_eq_false, not_false_eq_true, decide_true, decide_false, decide_not, Bool.true_and, Bool.false_and, Bool.and_true, Bool.and_false, Bool.true_or, Bool.false_or, Bool.or_true, Bool.or_false, Bool.not_true, Bool.not_false, Bool.false_eq_true, bI_t, bI_f, Int.natCast_one, Int.cast_ofNat_Int, Int.natCast_zero, aGc_V, Int.toNat_natCast, or0, or0', o72_0, o72_1, o72_2, o72_3, o72_4, o72_5, o72_6, o72_7, n72, o72s_0, o72s_1, o72s_2, o72s_3, o72s_4, o72s_5, o72s_6, o72s_7, ms0, en, ms, cpy1', mKe]
    rw [s2', Int.toNat_natCast, q2, qB]
    by_cases c1 : n2 - 1 = 0
    · rw [if_pos (show zI ((n2 - 1 : Nat) : Int) = 0 by rw [c1]; rfl)]
      have cpy := acp2 (d := d + 3) (sp := 0) (dp := B + 1) (k := n1) (mT (1040, N, ju f B (f c2))) (mE _) rfl (by omega) (by omega) (by omega) (by omega)
      have cpy' : M2 (d + 4) 90001 [.ref e3, .int (zI 0), .ref e, .int (zI ((B + 1 : Nat) : Int)), .int (zI n1)] (jset K e (1040, N, ju f B (f c2))) = some (.inl none, jset (jset K e (1040, N, ju f B (f c2))) e (1040, N, jcpy t (ju f B (f c2)) 0 (B + 1) n1)) := cpy
      rw [cpy', cV_ok, jset_jset]
      rw [c1] at hI2
      exact ⟨_, _, mg, rfl, post _, ⟨m1, by omega⟩, hI2.fin (fun i a b => by rw [jcpy, if_pos ⟨a, b⟩]) (fun i a => by rw [jcpy, if_neg (by omega)])⟩
    · rw [if_neg (show ¬ zI ((n2 - 1 : Nat) : Int) = 0 by rw [zq0 (by omega) (by omega)]; omega)]
      by_cases c3 : n1 = 1
      · rw [if_pos (show zI (n1 : Int) = 1 by rw [c3]; rfl), qc]
        have cpy := acp2 (d := d + 3) (sp := c2 + 1) (dp := B + 1) (k := n2 - 1) (mE (1040, N, ju f B (f c2))) (mE _) rfl (by omega) (by omega) (by omega) (by omega)
        obtain ⟨g, hg⟩ : ∃ g, g = jcpy (ju f B (f c2)) (ju f B (f c2)) (c2 + 1) (B + 1) (n2 - 1) := ⟨_, rfl⟩
        rw [← hg] at cpy
        have hI3 := hI2.mvR (k := n2 - 1) (f2 := g) (Nat.le_refl _) (fun i a b => by
          have := hl i (by omega) (by omega)
          rw [juN (by omega), tk 0 (by omega), show B + 0 = c2 - 1 by omega]
          omega) (fun i a b => by rw [hg, jcpy, if_pos ⟨a, b⟩]) (fun i a => by rw [hg, jcpy, if_neg (by omega)])
        rw [Nat.sub_self] at hI3
        have at0 := hI3.ok1 0 (Nat.le_refl _) (by omega)
        have rt0 := at0.R
        have s4 := fun (κ : AH → Rz) (u : Ph κ) => aSr_in (κ := κ) (u := u) (h := jset K e (1040, N, g)) jm_s1 (at0.ok (hGe _)) (i := ((B + 1 + (n2 - 1) : Nat) : Int)) (by omega) (by omega) (by omega)
        have qd : zI ((B + 1 : Nat) : Int) + zI ((n2 - 1 : Nat) : Int) = zI ((B + 1 + (n2 - 1) : Nat) : Int) := by rw [zI_add]; rfl
        rw [cpy, cV_ok, qd]
        simp (disch := first | assumption | omega | decide | exact okF_i | exact okF_r | exact okF_n | exact okF_j | rfl) only [jc_ref, rI_int, rR_ref, rR_null, rJ_long, ckR_ref, ckR_null, ckr_ref, ckr_null, ckW_int, ckW_ref, ckW_null, cI_ok, cR_ok, cR_null, cV_ok, cJ_ok, qH_eq, qD_in, aG_ref, aS_ref, aL_ref, pF_ref, cK_ref, cK_null, zI_lit, zJ_lit, zI_add, zI_sub, zI_mul, zI_neg, zI_eq, zI_lt, zI_le, Int.reduceLT, Int.reduceLE, Int.reduceAdd, Int.reduceSub, Int.reduceMul, Int.reduceNeg, Int.reduceEq, Int.reduceNe, reduceIte, jf_in, pFc_in, aGi, aGb, aSi, aLc_in, cKc_in, nA_in, jm_s1, jm_s2, jm_p1, jm_p2, jm_b, jn_b, jn_s, jn_p, jset_jset, jset_jpush2, ckR_is, ckr_is, rR_is, ckW_is, cR_is, obi2, ckW_int, eq_self, if_true, ref_null, if_false, ne_eq, not_true_eq_false, not_false_eq_true, decide_true, decide_false, decide_not, Bool.true_and, Bool.false_and, Bool.and_true, Bool.and_false, Bool.true_or, Bool.false_or, Bool.or_true, Bool.or_false, Bool.not_true, Bool.not_false, Bool.false_eq_true, bI_t, bI_f, Int.natCast_one, Int.cast_ofNat_Int, Int.natCast_zero, aGc_V, Int.toNat_natCast, or0, or0', o72_0, o72_1, o72_2, o72_3, o72_4, o72_5, o72_6, o72_7, n72, o72s_0, o72s_1, o72s_2, o72s_3, o72s_4, o72s_5, o72s_6, o72s_7, mKt, Int.toNat_zero]
        rw [s4, Int.toNat_natCast, jset_jset]
        exact ⟨_, _, mg, rfl, post _, ⟨m1, by omega⟩, hI3.fin (fun i a b => by rw [show i = B + 1 + (n2 - 1) by omega, juE, Nat.sub_self]) (fun i a => juN (by omega))⟩
      · rw [if_neg (show ¬ zI (n1 : Int) = 1 by rw [show (1 : Int32) = zI 1 from rfl, zI_eq (by omega) (by omega) (by omega) (by omega)]; omega), qc]
        simp (disch := first | assumption | omega | decide | exact okF_i | exact okF_r | exact okF_n | exact okF_j | rfl) only [jc_ref, rI_int, rR_ref, rR_null, rJ_long, ckR_ref, ckR_null, ckr_ref, ckr_null, ckW_int, ckW_ref, ckW_null, cI_ok, cR_ok, cR_null, cV_ok, cJ_ok, qH_eq, qD_in, aG_ref, aS_ref, aL_ref, pF_ref, cK_ref, cK_null, zI_lit, zJ_lit, zI_add, zI_sub, zI_mul, zI_neg, zI_eq, zI_lt, zI_le, Int.reduceLT, Int.reduceLE, Int.reduceAdd, Int.reduceSub, Int.reduceMul, Int.reduceNeg, Int.reduceEq, Int.reduceNe, reduceIte, jf_in, pFc_in, aGi, aGb, aSi, aLc_in, cKc_in, nA_in, jm_s1, jm_s2, jm_p1, jm_p2, jm_b, jn_b, jn_s, jn_p, jset_jset, jset_jpush2, ckR_is, ckr_is, rR_is, ckW_is, cR_is, obi2, ckW_int, eq_self, if_true, ref_null, if_false, ne_eq, not_true_eq_false, not_false_eq_true, decide_true, decide_false, decide_not, Bool.true_and, Bool.false_and, Bool.and_true, Bool.and_false, Bool.true_or, Bool.false_or, Bool.or_true, Bool.or_false, Bool.not_true, Bool.not_false, Bool.false_eq_true, bI_t, bI_f, Int.natCast_one, Int.cast_ofNat_Int, Int.natCast_zero, aGc_V, Int.toNat_natCast, or0, or0', o72_0, o72_1, o72_2, o72_3, o72_4, o72_5, o72_6, o72_7, n72, o72s_0, o72s_1, o72s_2, o72s_3, o72s_4, o72s_5, o72s_6, o72s_7, mKs]
        rw [F72009_141]
        have := (ml_main (d := d) hC hU (by omega) (y1 := B) (y3 := c2) (n1 + (n2 - 1)) _ _ _ _ _ _ mg (Nat.le_refl _) hI2 (by omega) (by omega) (by omega) (by omega) (by omega) (by omega) hU).1 0 0 (by omega) (by omega) (by omega) (by omega)
        simp (disch := first | assumption | omega | decide | exact okF_i | exact okF_r | exact okF_n | exact okF_j | rfl) only [jc_ref, rI_int, rR_ref, rR_null, rJ_long, ckR_ref, ckR_null, ckr_ref, ckr_null, ckW_int, ckW_ref, ckW_null, cI_ok, cR_ok, cR_null, cV_ok, cJ_ok, qH_eq, qD_in, aG_ref, aS_ref, aL_ref, pF_ref, cK_ref, cK_null, zI_lit, zJ_lit, zI_add, zI_sub, zI_mul, zI_neg, zI_eq, zI_lt, zI_le, Int.reduceLT, Int.reduceLE, Int.reduceAdd, Int.reduceSub, Int.reduceMul, Int.reduceNeg, Int.reduceEq, Int.reduceNe, reduceIte, jf_in, pFc_in, aGi, aGb, aSi, aLc_in, cKc_in, nA_in, jm_s1, jm_s2, jm_p1, jm_p2, jm_b, jn_b, jn_s, jn_p, jset_jset, jset_jpush2, ckR_is, ckr_is, rR_is, ckW_is, cR_is, obi2, ckW_int, eq_self, if_true, ref_null, if_false, ne_eq, not_true_eq_false, not_false_eq_true, decide_true, decide_false, decide_not, Bool.true_and, Bool.false_and, Bool.and_true, Bool.and_false, Bool.true_or, Bool.false_or, Bool.or_true, Bool.or_false, Bool.not_true, Bool.not_false, Bool.false_eq_true, bI_t, bI_f, Int.natCast_one, Int.cast_ofNat_Int, Int.natCast_zero, aGc_V, Int.toNat_natCast, or0, or0', o72_0, o72_1, o72_2, o72_3, o72_4, o72_5, o72_6, o72_7, n72, o72s_0, o72s_1, o72s_2, o72s_3, o72s_4, o72s_5, o72s_6, o72s_7]
        exact this
  obtain ⟨r, hr, hM⟩ := main
  rw [hK] at hM
  obtain ⟨H2, f', mg', w1, w2, w3, w4, w5, w6, w7, w8⟩ := MRes.tst hT' hM hF h3
  refine ⟨H2, f', mg', e3, N3, hr.trans w1, w2, w3, w4, w5, w6, ?_⟩
  unfold GroT at hGr ⊢
  rw [w7, w8]
  exact hGr
end
