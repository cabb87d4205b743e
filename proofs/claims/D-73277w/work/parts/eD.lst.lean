/-! sort: a list of violations is sorted -/
-- jc_ref, rI_int, rR_ref, rR_null, rJ_long, ckR_ref, ckR_null, ckr_ref, ckr_null, ckW_int, ckW_ref, ckW_null, cI_ok, cR_ok, cR_null, cV_ok, cJ_ok, qH_eq, qD_in, aG_ref, aS_ref, aL_ref, pF_ref, cK_ref, cK_null, zI_lit, zJ_lit, zI_add, zI_sub, zI_mul, zI_neg, zI_eq, zI_lt, zI_le, Int.reduceLT, Int.reduceLE, Int.reduceAdd, Int.reduceSub, Int.reduceMul, Int.reduceNeg, Int.reduceEq, Int.reduceNe, reduceIte, jf_in, pFc_in, aGi, aGb, aSi, aLc_in, cKc_in, nA_in, jm_s1, jm_s2, jm_p1, jm_p2, jm_b, jn_b, jn_s, jn_p, jset_jset, jset_jpush2, ckR_is, ckr_is, rR_is, ckW_is, cR_is, obi2, ckW_int, eq_self, if_true, ref_null, if_false, ne_eq, not_true_eq_false, not_false_eq_true, decide_true, decide_false, decide_not, Bool.true_and, Bool.false_and, Bool.and_true, Bool.and_false, Bool.true_or, Bool.false_or, Bool.or_true, Bool.or_false, Bool.not_true, Bool.not_false, Bool.false_eq_true, bI_t, bI_f, Int.natCast_one, Int.cast_ofNat_Int, Int.natCast_zero, o47_0, o47_1, o47_2, o47_3, n47, o47s_0, o47s_1, o47s_2, o47s_3, o70_0, o70_1, o70_2, n70, o70s_0, o70s_1, o70s_2, o77_0, o77_1, o77_2, o77_3, o77_4, n77, o77s_0, o77s_1, o77s_2, o77s_3, o77s_4 = jc_ref, rI_int, rR_ref, rR_null, rJ_long, ckR_ref, ckR_null, ckr_ref, ckr_null, ckW_int, ckW_ref, ckW_null, cI_ok, cR_ok, cR_null, cV_ok, cJ_ok, qH_eq, qD_in, aG_ref, aS_ref, aL_ref, pF_ref, cK_ref, cK_null, zI_lit, zJ_lit, zI_add, zI_sub, zI_mul, zI_neg, zI_eq, zI_lt, zI_le, Int.reduceLT, Int.reduceLE, Int.reduceAdd, Int.reduceSub, Int.reduceMul, Int.reduceNeg, Int.reduceEq, Int.reduceNe, reduceIte, jf_in, pFc_in, aGi, aGb, aSi, aLc_in, cKc_in, nA_in, jm_s1, jm_s2, jm_p1, jm_p2, jm_b, jn_b, jn_s, jn_p, jset_jset, jset_jpush2, ckR_is, ckr_is, rR_is, ckW_is, cR_is, obi2, ckW_int, eq_self, if_true, ref_null, if_false, ne_eq, not_true_eq_false, not_false_eq_true, decide_true, decide_false, decide_not, Bool.true_and, Bool.false_and, Bool.and_true, Bool.and_false, Bool.true_or, Bool.false_or, Bool.or_true, Bool.or_false, Bool.not_true, Bool.not_false, Bool.false_eq_true, bI_t, bI_f, Int.natCast_one, Int.cast_ofNat_Int, Int.natCast_zero, o47_0, o47_1, o47_2, o47_3, n47, o47s_0, o47s_1, o47s_2, o47s_3, o70_0, o70_1, o70_2, n70, o70s_0, o70s_1, o70s_2, o77_0, o77_1, o77_2, o77_3, o77_4, n77, o77s_0, o77s_1, o77s_2, o77s_3, o77s_4
section
variable {G : Nat → Option Cl} {rk : Value → Int} {d : Nat} {H : AH} {a : Nat} {ns : List Nat} {vs : List Value}
theorem sg_list {g : Nat → Value} {l : List Value} (h : ∀ k, k < l.length → l.getD k .null = g k) : sg g 0 l.length = l := by
  refine List.ext_getElem? fun i => ?_
  by_cases hi : i < l.length
  · rw [sg_at l.length 0 i hi, Nat.zero_add, ← h i hi, List.getD_eq_getElem?_getD, List.getElem?_eq_getElem hi]; rfl
  · rw [List.getElem?_eq_none (by rw [sg_len]; omega), List.getElem?_eq_none (by omega)]
theorem c_asort {e N : Nat} {f : Nat → Value} (hG : Fzn G H) (hGe : G e = none) (hN : N ≤ 1000) (me : jm H e = some (1040, N, f)) (le : e < H.1) (hA : OkA G rk f 0 N) :
    ∃ (H2 : AH) (g : Nat → Value), M2 (d + 11) 45012 [.ref e, .null] H = some (.inl none, H2) ∧ jm H2 e = some (1040, N, g) ∧ SrtA rk g 0 N ∧ PmR f g 0 N ∧ Fr H H2 (fun q => q = e) ∧ H2.1 ≤ H.1 + 5 ∧ H2.2.1 ≤ H.2.1 + N + 28 := by
  obtain ⟨H2, g, z1, z2⟩ := c_sort (d := d) hG hGe hN me le hA
  refine ⟨H2, g, ?_, z2⟩
  have e1 : M2 (d + 10) 45013 [.ref e] H = some (.inl none, H2) := by
    rw [Y45013 H rfl, F45013_0]
    simp (disch := first | assumption | omega | decide | exact okF_i | exact okF_r | exact okF_n | exact okF_j | rfl) only [jc_ref, rI_int, rR_ref, rR_null, rJ_long, ckR_ref, ckR_null, ckr_ref, ckr_null, ckW_int, ckW_ref, ckW_null, cI_ok, cR_ok, cR_null, cV_ok, cJ_ok, qH_eq, qD_in, aG_ref, aS_ref, aL_ref, pF_ref, cK_ref, cK_null, zI_lit, zJ_lit, zI_add, zI_sub, zI_mul, zI_neg, zI_eq, zI_lt, zI_le, Int.reduceLT, Int.reduceLE, Int.reduceAdd, Int.reduceSub, Int.reduceMul, Int.reduceNeg, Int.reduceEq, Int.reduceNe, reduceIte, jf_in, pFc_in, aGi, aGb, aSi, aLc_in, cKc_in, nA_in, jm_s1, jm_s2, jm_p1, jm_p2, jm_b, jn_b, jn_s, jn_p, jset_jset, jset_jpush2, ckR_is, ckr_is, rR_is, ckW_is, cR_is, obi2, ckW_int, eq_self, if_true, ref_null, if_false, ne_eq, not_true_eq_false, not_false_eq_true, decide_true, decide_false, decide_not, Bool.true_and, Bool.false_and, Bool.and_true, Bool.and_false, Bool.true_or, Bool.false_or, Bool.or_true, Bool.or_false, Bool.not_true, Bool.not_false, Bool.false_eq_true, bI_t, bI_f, Int.natCast_one, Int.cast_ofNat_Int, Int.natCast_zero, o47_0, o47_1, o47_2, o47_3, n47, o47s_0, o47s_1, o47s_2, o47s_3, o70_0, o70_1, o70_2, n70, o70s_0, o70s_1, o70s_2, o77_0, o77_1, o77_2, o77_3, o77_4, n77, o77s_0, o77s_1, o77s_2, o77s_3, o77s_4, me, z1]
  rw [Y45012 H rfl rfl, F45012_0]
  simp (disch := first | assumption | omega | decide | exact okF_i | exact okF_r | exact okF_n | exact okF_j | rfl) only [jc_ref, rI_int, rR_ref, rR_null, rJ_long, ckR_ref, ckR_null, ckr_ref, ckr_null, ckW_int, ckW_ref, ckW_null, cI_ok, cR_ok, cR_null, cV_ok, cJ_ok, qH_eq, qD_in, aG_ref, aS_ref, aL_ref, pF_ref, cK_ref, cK_null, zI_lit, zJ_lit, zI_add, zI_sub, zI_mul, zI_neg, zI_eq, zI_lt, zI_le, Int.reduceLT, Int.reduceLE, Int.reduceAdd, Int.reduceSub, Int.reduceMul, Int.reduceNeg, Int.reduceEq, Int.reduceNe, reduceIte, jf_in, pFc_in, aGi, aGb, aSi, aLc_in, cKc_in, nA_in, jm_s1, jm_s2, jm_p1, jm_p2, jm_b, jn_b, jn_s, jn_p, jset_jset, jset_jpush2, ckR_is, ckr_is, rR_is, ckW_is, cR_is, obi2, ckW_int, eq_self, if_true, ref_null, if_false, ne_eq, not_true_eq_false, not_false_eq_true, decide_true, decide_false, decide_not, Bool.true_and, Bool.false_and, Bool.and_true, Bool.and_false, Bool.true_or, Bool.false_or, Bool.or_true, Bool.or_false, Bool.not_true, Bool.not_false, Bool.false_eq_true, bI_t, bI_f, Int.natCast_one, Int.cast_ofNat_Int, Int.natCast_zero, o47_0, o47_1, o47_2, o47_3, n47, o47s_0, o47s_1, o47s_2, o47s_3, o70_0, o70_1, o70_2, n70, o70s_0, o70s_1, o70s_2, o77_0, o77_1, o77_2, o77_3, o77_4, n77, o77s_0, o77s_1, o77s_2, o77s_3, o77s_4, e1]
theorem c_lsort (h : LLat H a ns vs) (ha : a < H.1) (hG : Fzn G H) (hA : ∀ v ∈ vs, Cmp G v (rk v)) (hl : vs.length ≤ 1000) :
    ∃ (H2 : AH) (zs : List Value), M2 (d + 13) 71000 [.ref a] H = some (.inl none, H2) ∧ LLat H2 a ns zs ∧ zs.Perm vs ∧ zs.Pairwise (fun x y => rk x ≤ rk y) ∧ Fr H H2 (fun q => q ∈ ns) ∧ H2.1 ≤ H.1 + 7 ∧ H2.2.1 ≤ H.2.1 + 2 * vs.length + 33 := by
  obtain ⟨g0, a1, a2⟩ := ll_arr (d := d + 10) h ha (fun v hv => (hA v hv).ok hG)
  have gh : G H.1 = none := by
    cases hh : G H.1 with
    | none => rfl
    | some c => exact absurd (hG.lt hh) (Nat.lt_irrefl _)
  have hG1 : Fzn G (jpush H (1040, vs.length, g0)) := hG.f0 Fr.push
  have e0 : sg g0 0 vs.length = vs := sg_list fun k hk => (a2 k hk).symm
  have ok0 : OkA G rk g0 0 vs.length := fun i _ hi => by
    rw [Nat.zero_add] at hi
    rw [a2 i hi]
    exact hA _ (getD_in hi)
  obtain ⟨H2, g, b1, b2, b3, b4, b5, b6, b7⟩ := c_asort (d := d) (rk := rk) hG1 gh hl jm_p1 (Nat.lt_succ_self _) ok0
  have fr2 : Fr H H2 (fun _ => False) := Fr.push.new (b5.mono fun q _ z => Or.inr (by rw [z]; exact Nat.le_refl _))
  have h2 := h.fr fr2 ha (fun z => z) (fun _ _ z => z)
  have ha2 : a < H2.1 := Nat.lt_of_lt_of_le ha fr2.1
  obtain ⟨mc, h1⟩ := id h2.1
  obtain ⟨mc0, hma⟩ := id h.1
  have it := ll_iter (d := d + 7) h2 ha2 h1
  have f3 : Fr H2 (jpush H2 (77, 5, o77 .null (ndV ns 0) 0 mc (.ref a))) (fun _ => False) := Fr.push
  have h3 := h2.fr f3 ha2 (fun z => z) (fun _ _ z => z)
  have na : a ≠ H2.1 := Nat.ne_of_lt ha2
  have el : H.1 < H2.1 := b5.1
  have ne : H.1 ≠ H2.1 := Nat.ne_of_lt el
  have hgR : ∀ k, k < vs.length → isR (g k) = true := fun k hk => (b4.mem (P := fun v => Cmp G v (rk v)) ok0 k (Nat.zero_le _) (by omega)).R
  obtain ⟨H4, zs, c1, c2, c3, c4, c5, c6, c7⟩ := ls_loop (d := d + 8) (v1 := .null) (q := H2.1) (mc := mc) (e := H.1) hgR vs.length 0 (jpush H2 (77, 5, o77 .null (ndV ns 0) 0 mc (.ref a))) vs .null jno (by omega) rfl h3 (Nat.lt_succ_of_lt ha2) (Nat.lt_succ_self _) ((jm_p2 na).trans h1) rfl jm_p1 ((jm_p2 ne).trans b2)
  have ez : sg g 0 vs.length = zs := by
    rw [← c3]
    exact sg_list fun k hk => by rw [c4 k (by omega), if_pos (Nat.zero_le _)]
  refine ⟨H4, zs, ?_, c2, ?_, ?_, ?_, ?_, ?_⟩
  · have m1 : MvH (d + 11) 9148 [.ref a] H = M2 (d + 11) 47014 [.ref a] H := by simp only [MvH, hma]; rfl
    have m2 : MvH (d + 11) 9149 [.ref a] H2 = M2 (d + 11) 42000 [.ref a] H2 := by simp only [MvH, h1]; rfl
    have m0 : MvH (d + 12) 9146 [.ref a, .null] H = M2 (d + 12) 79000 [.ref a, .null] H := by simp only [MvH, hma]; rfl
    have c1' : G2 (d + 11) 79000 30 [.ref a, .null, .ref H.1, .ref H2.1, .ref H.1, .int (zI vs.length), .int (zI 0), jno] [] (jpush H2 (77, 5, o77 .null (ndV ns 0) 0 mc (.ref a))) = some (.inl none, H4) := c1
    have e1 : M2 (d + 12) 79000 [.ref a, .null] H = some (.inl none, H4) := by
      rw [Y79000 H rfl (jrecv_in hma rfl), F79000_0]
      simp (disch := first | assumption | omega | decide | exact okF_i | exact okF_r | exact okF_n | exact okF_j | rfl) only [jc_ref, rI_int, rR_ref, rR_null, rJ_long, ckR_ref, ckR_null, ckr_ref, ckr_null, ckW_int, ckW_ref, ckW_null, cI_ok, cR_ok, cR_null, cV_ok, cJ_ok, qH_eq, qD_in, aG_ref, aS_ref, aL_ref, pF_ref, cK_ref, cK_null, zI_lit, zJ_lit, zI_add, zI_sub, zI_mul, zI_neg, zI_eq, zI_lt, zI_le, Int.reduceLT, Int.reduceLE, Int.reduceAdd, Int.reduceSub, Int.reduceMul, Int.reduceNeg, Int.reduceEq, Int.reduceNe, reduceIte, jf_in, pFc_in, aGi, aGb, aSi, aLc_in, cKc_in, nA_in, jm_s1, jm_s2, jm_p1, jm_p2, jm_b, jn_b, jn_s, jn_p, jset_jset, jset_jpush2, ckR_is, ckr_is, rR_is, ckW_is, cR_is, obi2, ckW_int, eq_self, if_true, ref_null, if_false, ne_eq, not_true_eq_false, not_false_eq_true, decide_true, decide_false, decide_not, Bool.true_and, Bool.false_and, Bool.and_true, Bool.and_false, Bool.true_or, Bool.false_or, Bool.or_true, Bool.or_false, Bool.not_true, Bool.not_false, Bool.false_eq_true, bI_t, bI_f, Int.natCast_one, Int.cast_ofNat_Int, Int.natCast_zero, o47_0, o47_1, o47_2, o47_3, n47, o47s_0, o47s_1, o47s_2, o47s_3, o70_0, o70_1, o70_2, n70, o70s_0, o70s_1, o70s_2, o77_0, o77_1, o77_2, o77_3, o77_4, n77, o77s_0, o77s_1, o77s_2, o77s_3, o77s_4, m1, a1, b1, m2, it, b2]
      exact c1'
    rw [Y71000 H rfl, F71000_0]
    simp (disch := first | assumption | omega | decide | exact okF_i | exact okF_r | exact okF_n | exact okF_j | rfl) only [jc_ref, rI_int, rR_ref, rR_null, rJ_long, ckR_ref, ckR_null, ckr_ref, ckr_null, ckW_int, ckW_ref, ckW_null, cI_ok, cR_ok, cR_null, cV_ok, cJ_ok, qH_eq, qD_in, aG_ref, aS_ref, aL_ref, pF_ref, cK_ref, cK_null, zI_lit, zJ_lit, zI_add, zI_sub, zI_mul, zI_neg, zI_eq, zI_lt, zI_le, Int.reduceLT, Int.reduceLE, Int.reduceAdd, Int.reduceSub, Int.reduceMul, Int.reduceNeg, Int.reduceEq, Int.reduceNe, reduceIte, jf_in, pFc_in, aGi, aGb, aSi, aLc_in, cKc_in, nA_in, jm_s1, jm_s2, jm_p1, jm_p2, jm_b, jn_b, jn_s, jn_p, jset_jset, jset_jpush2, ckR_is, ckr_is, rR_is, ckW_is, cR_is, obi2, ckW_int, eq_self, if_true, ref_null, if_false, ne_eq, not_true_eq_false, not_false_eq_true, decide_true, decide_false, decide_not, Bool.true_and, Bool.false_and, Bool.and_true, Bool.and_false, Bool.true_or, Bool.false_or, Bool.or_true, Bool.or_false, Bool.not_true, Bool.not_false, Bool.false_eq_true, bI_t, bI_f, Int.natCast_one, Int.cast_ofNat_Int, Int.natCast_zero, o47_0, o47_1, o47_2, o47_3, n47, o47s_0, o47s_1, o47s_2, o47s_3, o70_0, o70_1, o70_2, n70, o70s_0, o70s_1, o70s_2, o77_0, o77_1, o77_2, o77_3, o77_4, n77, o77s_0, o77s_1, o77s_2, o77s_3, o77s_4, m0, e1]
  · have := b4.1
    rw [e0, ez] at this
    exact this
  · rw [List.pairwise_iff_getElem]
    intro i j hi hj hij
    have gt : ∀ (i : Nat) (hi : i < zs.length), zs[i] = g i := fun i hi => by
      have := c4 i (by omega)
      rw [if_pos (Nat.zero_le _), List.getD_eq_getElem?_getD, List.getElem?_eq_getElem hi] at this
      exact this
    rw [gt i hi, gt j hj]
    exact b3 i j (Nat.zero_le _) (by omega) (by omega)
  · exact ((fr2.tr f3).mono (fun _ _ z => z.elim)).new (c5.mono fun q _ z => z.elim (fun z => Or.inr (by rw [z]; exact fr2.1)) Or.inl)
  · have : H2.1 ≤ H.1 + 1 + 5 := b6
    rw [c6]
    show H2.1 + 1 ≤ _
    omega
  · have : H2.2.1 ≤ H.2.1 + vs.length + vs.length + 28 := b7
    rw [c7]
    show H2.2.1 + 5 ≤ _
    omega
end
