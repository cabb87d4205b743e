/-! the component's reader of schemas: a line, all lines -/
-- jc_ref, rI_int, rR_ref, rR_null, rJ_long, ckR_ref, ckR_null, ckr_ref, ckr_null, ckW_int, ckW_ref, ckW_null, cI_ok, cR_ok, cR_null, cV_ok, cJ_ok, qH_eq, qD_in, aG_ref, aS_ref, aL_ref, pF_ref, cK_ref, cK_null, zI_lit, zJ_lit, zI_add, zI_sub, zI_mul, zI_neg, zI_eq, zI_lt, zI_le, Int.reduceLT, Int.reduceLE, Int.reduceAdd, Int.reduceSub, Int.reduceMul, Int.reduceNeg, Int.reduceEq, Int.reduceNe, reduceIte, jf_in, pFc_in, aGi, aGb, aSi, aLc_in, cKc_in, nA_in, jm_s1, jm_s2, jm_p1, jm_p2, jm_b, jn_b, jn_s, jn_p, jset_jset, jset_jpush2, ckR_is, ckr_is, rR_is, ckW_is, cR_is, obi2, ckW_int, eq_self, if_true, ref_null, if_false, ne_eq, not_true_eq_false, not_false_eq_true, decide_true, decide_false, decide_not, Bool.true_and, Bool.false_and, Bool.and_true, Bool.and_false, Bool.true_or, Bool.false_or, Bool.or_true, Bool.or_false, Bool.not_true, Bool.not_false, Bool.false_eq_true, bI_t, bI_f, Int.natCast_one, Int.cast_ofNat_Int, Int.natCast_zero, ju_self, ju_ne = jc_ref, rI_int, rR_ref, rR_null, rJ_long, ckR_ref, ckR_null, ckr_ref, ckr_null, ckW_int, ckW_ref, ckW_null, cI_ok, cR_ok, cR_null, cV_ok, cJ_ok, qH_eq, qD_in, aG_ref, aS_ref, aL_ref, pF_ref, cK_ref, cK_null, zI_lit, zJ_lit, zI_add, zI_sub, zI_mul, zI_neg, zI_eq, zI_lt, zI_le, Int.reduceLT, Int.reduceLE, Int.reduceAdd, Int.reduceSub, Int.reduceMul, Int.reduceNeg, Int.reduceEq, Int.reduceNe, reduceIte, jf_in, pFc_in, aGi, aGb, aSi, aLc_in, cKc_in, nA_in, jm_s1, jm_s2, jm_p1, jm_p2, jm_b, jn_b, jn_s, jn_p, jset_jset, jset_jpush2, ckR_is, ckr_is, rR_is, ckW_is, cR_is, obi2, ckW_int, eq_self, if_true, ref_null, if_false, ne_eq, not_true_eq_false, not_false_eq_true, decide_true, decide_false, decide_not, Bool.true_and, Bool.false_and, Bool.and_true, Bool.and_false, Bool.true_or, Bool.false_or, Bool.or_true, Bool.or_false, Bool.not_true, Bool.not_false, Bool.false_eq_true, bI_t, bI_f, Int.natCast_one, Int.cast_ofNat_Int, Int.natCast_zero, ju_self, ju_ne
section
variable {d : Nat} {H H2 : AH} {a b e e1 e2 q n tp c s c2 s2 tg w : Nat} {k m ln t tt but v one two o cc sg col : Int} {B P P0 C : Nat → Prop} {S S' nm nm' g : Int → Int} {bt : Int → Nat} {z l p : Int} {x y : Value} {f : Nat → Value} {F : Nat → Option Cl}
theorem CRm.vd {α : Type} {r : Except Er α} {R : Rz} {K : α → Option Value → AH → Prop} {Kl : Int → Option Value → AH → Prop} (h : CRm g z l r R H P c s K Kl) (hK : ∀ v w H2, K v w H2 → w = none) (hL : ∀ q w H2, Kl q w H2 → w = none) : CRm g z l r (zcV R (fun h => some (.inl none, h)) ()) H P c s K Kl := by
  obtain ⟨H2, h1, h2, h3, h4⟩ := h
  refine ⟨H2, h1, h2, h3, ?_⟩
  cases r with
  | error e =>
    rcases h4 with ⟨x, h5, h6⟩ | ⟨w, p', h5, h6, h7, h8⟩
    · exact Or.inl ⟨x, by rw [h5, cV_th], h6⟩
    · have := hL _ _ _ h8
      subst this
      exact Or.inr ⟨none, p', by rw [h5, cV_ok], h6, h7, h8⟩
  | ok v =>
    obtain ⟨w, h5, h6⟩ := h4
    have := hK _ _ _ h6
    subst this
    exact ⟨none, by rw [h5, cV_ok], h6⟩
theorem rs_line (h : RdC (Bs a q bt (S 0)) H a 9 n tp q g z l x y p) (hM : SchM H a q bt (S 0) (S 0) ln S (nmS nm)) :
    CRm g z l (lineP g z l S nm p) (M2 (d + 13) 9006 [.ref a] H) H (fun u => a ≤ u) 200 1000 (LnK a n tp q g z l x y ln) (LnL a n tp q g z l x y) := by
  obtain ⟨f, mm, e9, f4, al⟩ := rdc9 h
  have rv : (jtRecv 9006).elem 9 = true := rfl
  have oa := hM.1.1.1
  obtain ⟨mi, -⟩ := mvR h
  obtain ⟨w1, a1, b1⟩ := rc_isE h (k := 24) (by omega) (by omega) (nmE (by decide))
  have b1' := (mi (d + 12) _).trans (b1 (d + 10))
  rw [show pk (bsL 24) = wTABLE by decide] at b1'
  obtain ⟨w2, a2, b2⟩ := rc_isE h (k := 25) (by omega) (by omega) (nmE (by decide))
  have b2' := (mi (d + 12) _).trans (b2 (d + 10))
  rw [show pk (bsL 25) = wKEY by decide] at b2'
  obtain ⟨w3, a3, b3⟩ := rc_isE h (k := 26) (by omega) (by omega) (nmE (by decide))
  have b3' := (mi (d + 12) _).trans (b3 (d + 10))
  rw [show pk (bsL 26) = wREF by decide] at b3'
  obtain ⟨w4, a4, b4⟩ := rc_isE h (k := 27) (by omega) (by omega) (nmE (by decide))
  have b4' := (mi (d + 12) _).trans (b4 (d + 10))
  rw [show pk (bsL 27) = wDEFAULT by decide] at b4'
  obtain ⟨w5, a5, b5⟩ := rc_isE h (k := 28) (by omega) (by omega) (nmE (by decide))
  have b5' := (mi (d + 12) _).trans (b5 (d + 10))
  rw [show pk (bsL 28) = wNEED by decide] at b5'
  have lK : ∀ v w H2, LnK a n tp q g z l x y ln v w H2 → w = none := fun v w H2 h => h.1
  have lL : ∀ v w H2, LnL a n tp q g z l x y v w H2 → w = none := fun v w H2 h => h.1
  rw [Y9006 H (jrecv_in mm rv), F9006_0]
  unfold lineP
  cases e1 : isW g z l p wTABLE with
  | true =>
    rw [e1, bZ_t] at b1'
    rw [if_pos rfl]
    have L := (rs_table (d := d) h hM).vd lK lL
    rw [show (zpR (je H 24) _ _ : Rz) = zcV (M2 (d + 12) 9012 [.ref a] H) (fun h27 => some (.inl none, h27)) () by simp (disch := first | assumption | omega | decide | exact okF_i | exact okF_r | exact okF_n | exact okF_j | rfl) only [jc_ref, rI_int, rR_ref, rR_null, rJ_long, ckR_ref, ckR_null, ckr_ref, ckr_null, ckW_int, ckW_ref, ckW_null, cI_ok, cR_ok, cR_null, cV_ok, cJ_ok, qH_eq, qD_in, aG_ref, aS_ref, aL_ref, pF_ref, cK_ref, cK_null, zI_lit, zJ_lit, zI_add, zI_sub, zI_mul, zI_neg, zI_eq, zI_lt, zI_le, Int.reduceLT, Int.reduceLE, Int.reduceAdd, Int.reduceSub, Int.reduceMul, Int.reduceNeg, Int.reduceEq, Int.reduceNe, reduceIte, jf_in, pFc_in, aGi, aGb, aSi, aLc_in, cKc_in, nA_in, jm_s1, jm_s2, jm_p1, jm_p2, jm_b, jn_b, jn_s, jn_p, jset_jset, jset_jpush2, ckR_is, ckr_is, rR_is, ckW_is, cR_is, obi2, ckW_int, eq_self, if_true, ref_null, if_false, ne_eq, not_true_eq_false, not_false_eq_true, decide_true, decide_false, decide_not, Bool.true_and, Bool.false_and, Bool.and_true, Bool.and_false, Bool.true_or, Bool.false_or, Bool.or_true, Bool.or_false, Bool.not_true, Bool.not_false, Bool.false_eq_true, bI_t, bI_f, Int.natCast_one, Int.cast_ofNat_Int, Int.natCast_zero, ju_self, ju_ne, a1, b1']]
    exact L
  | false =>
  rw [e1, bZ_f] at b1'
  rw [if_neg (by decide)]
  cases e2 : isW g z l p wKEY with
  | true =>
    rw [e2, bZ_t] at b2'
    rw [if_pos rfl]
    have L := ((rs_key (d := d) h hM).lm.wk (c' := 200) (s' := 1000) (fun _ z => z) (by omega) (by omega)).vd lK lL
    rw [show (zpR (je H 24) _ _ : Rz) = zcV (M2 (d + 12) 9004 [.ref a] H) (fun h27 => some (.inl none, h27)) () by simp (disch := first | assumption | omega | decide | exact okF_i | exact okF_r | exact okF_n | exact okF_j | rfl) only [jc_ref, rI_int, rR_ref, rR_null, rJ_long, ckR_ref, ckR_null, ckr_ref, ckr_null, ckW_int, ckW_ref, ckW_null, cI_ok, cR_ok, cR_null, cV_ok, cJ_ok, qH_eq, qD_in, aG_ref, aS_ref, aL_ref, pF_ref, cK_ref, cK_null, zI_lit, zJ_lit, zI_add, zI_sub, zI_mul, zI_neg, zI_eq, zI_lt, zI_le, Int.reduceLT, Int.reduceLE, Int.reduceAdd, Int.reduceSub, Int.reduceMul, Int.reduceNeg, Int.reduceEq, Int.reduceNe, reduceIte, jf_in, pFc_in, aGi, aGb, aSi, aLc_in, cKc_in, nA_in, jm_s1, jm_s2, jm_p1, jm_p2, jm_b, jn_b, jn_s, jn_p, jset_jset, jset_jpush2, ckR_is, ckr_is, rR_is, ckW_is, cR_is, obi2, ckW_int, eq_self, if_true, ref_null, if_false, ne_eq, not_true_eq_false, not_false_eq_true, decide_true, decide_false, decide_not, Bool.true_and, Bool.false_and, Bool.and_true, Bool.and_false, Bool.true_or, Bool.false_or, Bool.or_true, Bool.or_false, Bool.not_true, Bool.not_false, Bool.false_eq_true, bI_t, bI_f, Int.natCast_one, Int.cast_ofNat_Int, Int.natCast_zero, ju_self, ju_ne, a1, b1', a2, b2']]
    exact L
  | false =>
  rw [e2, bZ_f] at b2'
  rw [if_neg (by decide)]
  cases e3 : isW g z l p wREF with
  | true =>
    rw [e3, bZ_t] at b3'
    rw [if_pos rfl]
    have L := (((rs_ref (d := d) h hM).lm (g := g) (z := z) (l := l) (Kl := LnL a n tp q g z l x y)).wk (c' := 200) (s' := 1000) (fun _ z => z) (by omega) (by omega)).vd lK lL
    rw [show (zpR (je H 24) _ _ : Rz) = zcV (M2 (d + 12) 9011 [.ref a] H) (fun h27 => some (.inl none, h27)) () by simp (disch := first | assumption | omega | decide | exact okF_i | exact okF_r | exact okF_n | exact okF_j | rfl) only [jc_ref, rI_int, rR_ref, rR_null, rJ_long, ckR_ref, ckR_null, ckr_ref, ckr_null, ckW_int, ckW_ref, ckW_null, cI_ok, cR_ok, cR_null, cV_ok, cJ_ok, qH_eq, qD_in, aG_ref, aS_ref, aL_ref, pF_ref, cK_ref, cK_null, zI_lit, zJ_lit, zI_add, zI_sub, zI_mul, zI_neg, zI_eq, zI_lt, zI_le, Int.reduceLT, Int.reduceLE, Int.reduceAdd, Int.reduceSub, Int.reduceMul, Int.reduceNeg, Int.reduceEq, Int.reduceNe, reduceIte, jf_in, pFc_in, aGi, aGb, aSi, aLc_in, cKc_in, nA_in, jm_s1, jm_s2, jm_p1, jm_p2, jm_b, jn_b, jn_s, jn_p, jset_jset, jset_jpush2, ckR_is, ckr_is, rR_is, ckW_is, cR_is, obi2, ckW_int, eq_self, if_true, ref_null, if_false, ne_eq, not_true_eq_false, not_false_eq_true, decide_true, decide_false, decide_not, Bool.true_and, Bool.false_and, Bool.and_true, Bool.and_false, Bool.true_or, Bool.false_or, Bool.or_true, Bool.or_false, Bool.not_true, Bool.not_false, Bool.false_eq_true, bI_t, bI_f, Int.natCast_one, Int.cast_ofNat_Int, Int.natCast_zero, ju_self, ju_ne, a1, b1', a2, b2', a3, b3']]
    exact L
  | false =>
  rw [e3, bZ_f] at b3'
  rw [if_neg (by decide)]
  cases e4 : isW g z l p wDEFAULT with
  | true =>
    rw [e4, bZ_t] at b4'
    rw [if_pos rfl]
    have L := (((rs_def (d := d + 2) h hM).lm (g := g) (z := z) (l := l) (Kl := LnL a n tp q g z l x y)).wk (c' := 200) (s' := 1000) (fun _ z => z) (by omega) (by omega)).vd lK lL
    rw [show (zpR (je H 24) _ _ : Rz) = zcV (M2 (d + 12) 9002 [.ref a] H) (fun h27 => some (.inl none, h27)) () by simp (disch := first | assumption | omega | decide | exact okF_i | exact okF_r | exact okF_n | exact okF_j | rfl) only [jc_ref, rI_int, rR_ref, rR_null, rJ_long, ckR_ref, ckR_null, ckr_ref, ckr_null, ckW_int, ckW_ref, ckW_null, cI_ok, cR_ok, cR_null, cV_ok, cJ_ok, qH_eq, qD_in, aG_ref, aS_ref, aL_ref, pF_ref, cK_ref, cK_null, zI_lit, zJ_lit, zI_add, zI_sub, zI_mul, zI_neg, zI_eq, zI_lt, zI_le, Int.reduceLT, Int.reduceLE, Int.reduceAdd, Int.reduceSub, Int.reduceMul, Int.reduceNeg, Int.reduceEq, Int.reduceNe, reduceIte, jf_in, pFc_in, aGi, aGb, aSi, aLc_in, cKc_in, nA_in, jm_s1, jm_s2, jm_p1, jm_p2, jm_b, jn_b, jn_s, jn_p, jset_jset, jset_jpush2, ckR_is, ckr_is, rR_is, ckW_is, cR_is, obi2, ckW_int, eq_self, if_true, ref_null, if_false, ne_eq, not_true_eq_false, not_false_eq_true, decide_true, decide_false, decide_not, Bool.true_and, Bool.false_and, Bool.and_true, Bool.and_false, Bool.true_or, Bool.false_or, Bool.or_true, Bool.or_false, Bool.not_true, Bool.not_false, Bool.false_eq_true, bI_t, bI_f, Int.natCast_one, Int.cast_ofNat_Int, Int.natCast_zero, ju_self, ju_ne, a1, b1', a2, b2', a3, b3', a4, b4']]
    exact L
  | false =>
  rw [e4, bZ_f] at b4'
  rw [if_neg (by decide)]
  cases e5 : isW g z l p wNEED with
  | true =>
    rw [e5, bZ_t] at b5'
    rw [if_pos rfl]
    have L := (((rs_need (d := d + 2) h hM).lm (g := g) (z := z) (l := l) (Kl := LnL a n tp q g z l x y)).wk (c' := 200) (s' := 1000) (fun _ z => z) (by omega) (by omega)).vd lK lL
    rw [show (zpR (je H 24) _ _ : Rz) = zcV (M2 (d + 12) 9008 [.ref a] H) (fun h27 => some (.inl none, h27)) () by simp (disch := first | assumption | omega | decide | exact okF_i | exact okF_r | exact okF_n | exact okF_j | rfl) only [jc_ref, rI_int, rR_ref, rR_null, rJ_long, ckR_ref, ckR_null, ckr_ref, ckr_null, ckW_int, ckW_ref, ckW_null, cI_ok, cR_ok, cR_null, cV_ok, cJ_ok, qH_eq, qD_in, aG_ref, aS_ref, aL_ref, pF_ref, cK_ref, cK_null, zI_lit, zJ_lit, zI_add, zI_sub, zI_mul, zI_neg, zI_eq, zI_lt, zI_le, Int.reduceLT, Int.reduceLE, Int.reduceAdd, Int.reduceSub, Int.reduceMul, Int.reduceNeg, Int.reduceEq, Int.reduceNe, reduceIte, jf_in, pFc_in, aGi, aGb, aSi, aLc_in, cKc_in, nA_in, jm_s1, jm_s2, jm_p1, jm_p2, jm_b, jn_b, jn_s, jn_p, jset_jset, jset_jpush2, ckR_is, ckr_is, rR_is, ckW_is, cR_is, obi2, ckW_int, eq_self, if_true, ref_null, if_false, ne_eq, not_true_eq_false, not_false_eq_true, decide_true, decide_false, decide_not, Bool.true_and, Bool.false_and, Bool.and_true, Bool.and_false, Bool.true_or, Bool.false_or, Bool.or_true, Bool.or_false, Bool.not_true, Bool.not_false, Bool.false_eq_true, bI_t, bI_f, Int.natCast_one, Int.cast_ofNat_Int, Int.natCast_zero, ju_self, ju_ne, a1, b1', a2, b2', a3, b3', a4, b4', a5, b5']]
    exact L
  | false =>
  rw [e5, bZ_f] at b5'
  rw [if_neg (by decide)]
  have L := (((rs_chk (d := d) h hM).lm (g := g) (z := z) (l := l) (Kl := LnL a n tp q g z l x y)).wk (c' := 200) (s' := 1000) (fun _ z => z) (by omega) (by omega)).vd lK lL
  rw [show (zpR (je H 24) _ _ : Rz) = zcV (M2 (d + 12) 9000 [.ref a] H) (fun h27 => some (.inl none, h27)) () by simp (disch := first | assumption | omega | decide | exact okF_i | exact okF_r | exact okF_n | exact okF_j | rfl) only [jc_ref, rI_int, rR_ref, rR_null, rJ_long, ckR_ref, ckR_null, ckr_ref, ckr_null, ckW_int, ckW_ref, ckW_null, cI_ok, cR_ok, cR_null, cV_ok, cJ_ok, qH_eq, qD_in, aG_ref, aS_ref, aL_ref, pF_ref, cK_ref, cK_null, zI_lit, zJ_lit, zI_add, zI_sub, zI_mul, zI_neg, zI_eq, zI_lt, zI_le, Int.reduceLT, Int.reduceLE, Int.reduceAdd, Int.reduceSub, Int.reduceMul, Int.reduceNeg, Int.reduceEq, Int.reduceNe, reduceIte, jf_in, pFc_in, aGi, aGb, aSi, aLc_in, cKc_in, nA_in, jm_s1, jm_s2, jm_p1, jm_p2, jm_b, jn_b, jn_s, jn_p, jset_jset, jset_jpush2, ckR_is, ckr_is, rR_is, ckW_is, cR_is, obi2, ckW_int, eq_self, if_true, ref_null, if_false, ne_eq, not_true_eq_false, not_false_eq_true, decide_true, decide_false, decide_not, Bool.true_and, Bool.false_and, Bool.and_true, Bool.and_false, Bool.true_or, Bool.false_or, Bool.or_true, Bool.or_false, Bool.not_true, Bool.not_false, Bool.false_eq_true, bI_t, bI_f, Int.natCast_one, Int.cast_ofNat_Int, Int.natCast_zero, ju_self, ju_ne, a1, b1', a2, b2', a3, b3', a4, b4', a5, b5']]
  exact L
end
