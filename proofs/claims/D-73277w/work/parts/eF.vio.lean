/-! the list of violations, in order -/
-- jc_ref, rI_int, rR_ref, rR_null, rJ_long, ckR_ref, ckR_null, ckr_ref, ckr_null, ckW_int, ckW_ref, ckW_null, cI_ok, cR_ok, cR_null, cV_ok, cJ_ok, qH_eq, qD_in, aG_ref, aS_ref, aL_ref, pF_ref, cK_ref, cK_null, zI_lit, zJ_lit, zI_add, zI_sub, zI_mul, zI_neg, zI_eq, zI_lt, zI_le, Int.reduceLT, Int.reduceLE, Int.reduceAdd, Int.reduceSub, Int.reduceMul, Int.reduceNeg, Int.reduceEq, Int.reduceNe, reduceIte, jf_in, pFc_in, aGi, aGb, aSi, aLc_in, cKc_in, nA_in, jm_s1, jm_s2, jm_p1, jm_p2, jm_b, jn_b, jn_s, jn_p, jset_jset, jset_jpush2, ckR_is, ckr_is, rR_is, ckW_is, cR_is, obi2, ckW_int, eq_self, if_true, ref_null, if_false, ne_eq, not_true_eq_false, not_false_eq_true, decide_true, decide_false, decide_not, Bool.true_and, Bool.false_and, Bool.and_true, Bool.and_false, Bool.true_or, Bool.false_or, Bool.or_true, Bool.or_false, Bool.not_true, Bool.not_false, Bool.false_eq_true, bI_t, bI_f, Int.natCast_one, Int.cast_ofNat_Int, Int.natCast_zero, o23_0, o23_1, o23_2, o12_0, o12_1, o13_0, o13_1, o13_2, o13_3, o13_4, o13_5, o13_6, o14_0, o14_1, o14_2, o14_3, o14_4, o14_5, o3_0, o3_1, o3_2, o3_3, o3_4, o11_0, o11_1, o11_2, o11_3, o4_0, o4_1, o4_2, o4_3, o4_4, o4_5, o4_6, o24_0, o24_1, o24_2, o24_3, n24, o24s_0, o24s_1, o24s_2, o24s_3 = jc_ref, rI_int, rR_ref, rR_null, rJ_long, ckR_ref, ckR_null, ckr_ref, ckr_null, ckW_int, ckW_ref, ckW_null, cI_ok, cR_ok, cR_null, cV_ok, cJ_ok, qH_eq, qD_in, aG_ref, aS_ref, aL_ref, pF_ref, cK_ref, cK_null, zI_lit, zJ_lit, zI_add, zI_sub, zI_mul, zI_neg, zI_eq, zI_lt, zI_le, Int.reduceLT, Int.reduceLE, Int.reduceAdd, Int.reduceSub, Int.reduceMul, Int.reduceNeg, Int.reduceEq, Int.reduceNe, reduceIte, jf_in, pFc_in, aGi, aGb, aSi, aLc_in, cKc_in, nA_in, jm_s1, jm_s2, jm_p1, jm_p2, jm_b, jn_b, jn_s, jn_p, jset_jset, jset_jpush2, ckR_is, ckr_is, rR_is, ckW_is, cR_is, obi2, ckW_int, eq_self, if_true, ref_null, if_false, ne_eq, not_true_eq_false, not_false_eq_true, decide_true, decide_false, decide_not, Bool.true_and, Bool.false_and, Bool.and_true, Bool.and_false, Bool.true_or, Bool.false_or, Bool.or_true, Bool.or_false, Bool.not_true, Bool.not_false, Bool.false_eq_true, bI_t, bI_f, Int.natCast_one, Int.cast_ofNat_Int, Int.natCast_zero, o23_0, o23_1, o23_2, o12_0, o12_1, o13_0, o13_1, o13_2, o13_3, o13_4, o13_5, o13_6, o14_0, o14_1, o14_2, o14_3, o14_4, o14_5, o3_0, o3_1, o3_2, o3_3, o3_4, o11_0, o11_1, o11_2, o11_3, o4_0, o4_1, o4_2, o4_3, o4_4, o4_5, o4_6, o24_0, o24_1, o24_2, o24_3, n24, o24s_0, o24s_1, o24s_2, o24s_3
/-- a value that is a violation x -/
def RelV (S : Int → Int) (H : AH) (v : Value) (x : Vi) : Prop := ∃ b : Nat, v = .ref b ∧ b < H.1 ∧ jm H b = some (24, 4, o24 x.1 (S (249 + x.2.2)) x.2.1 x.2.2) ∧ (1 ≤ x.1 ∧ x.1 ≤ 4) ∧ (0 ≤ S (249 + x.2.2) ∧ S (249 + x.2.2) < 4) ∧ (0 ≤ x.2.1 ∧ x.2.1 < 8) ∧ (0 ≤ x.2.2 ∧ x.2.2 < 99)
theorem RelV.un {S : Int → Int} {H : AH} {v : Value} {x y : Vi} (h1 : RelV S H v x) (h2 : RelV S H v y) : y = x := by
  obtain ⟨b, rfl, -, m, a1, a2, a3, a4⟩ := h1
  obtain ⟨c, hc, -, m2, b1, b2, b3, b4⟩ := h2
  cases hc
  rw [m] at m2
  simp only [Option.some.injEq, Prod.mk.injEq, true_and] at m2
  have e0 := congrFun m2 0
  have e2 := congrFun m2 2
  have e3 := congrFun m2 3
  simp only [o24_0, o24_2, o24_3, Value.int.injEq] at e0 e2 e3
  exact vi_ext (zI_inj e0 (by omega) (by omega) (by omega) (by omega)).symm (zI_inj e2 (by omega) (by omega) (by omega) (by omega)).symm (zI_inj e3 (by omega) (by omega) (by omega) (by omega)).symm
noncomputable def vOf (S : Int → Int) (H : AH) (v : Value) : Vi := @dite _ (∃ x, RelV S H v x) (Classical.propDecidable _) (fun h => h.choose) (fun _ => (0, 0, 0))
theorem vOf_eq {S : Int → Int} {H : AH} {v : Value} {x : Vi} (h : RelV S H v x) : vOf S H v = x := by
  unfold vOf
  have hx : ∃ x, RelV S H v x := ⟨x, h⟩
  rw [dif_pos hx]
  exact h.un hx.choose_spec
def G24 (H : AH) (q : Nat) : Option Cl := match jm H q with
  | some (t, c) => if t = 24 ∧ q < H.1 then some (t, c) else none
  | none => none
theorem G24_in {H : AH} {q : Nat} {c : Nat × (Nat → Value)} (h : jm H q = some (24, c)) (hq : q < H.1) : G24 H q = some (24, c) := by
  unfold G24
  rw [h]
  show (if 24 = 24 ∧ q < H.1 then some (24, c) else none) = _
  rw [if_pos ⟨rfl, hq⟩]
theorem G24_F {H : AH} : Fzn (G24 H) H := fun q c h => by
  unfold G24 at h
  cases hm : jm H q with
  | none => rw [hm] at h; cases h
  | some x =>
    obtain ⟨t, x⟩ := x
    rw [hm] at h
    simp only [] at h
    by_cases hc : t = 24 ∧ q < H.1
    · rw [if_pos hc] at h; exact ⟨h, hc.2⟩
    · rw [if_neg hc] at h; cases h
/-- a list of violations at q, all its cells from lo on -/
def VLat (S : Int → Int) (H : AH) (lo q : Nat) (xs : List Vi) : Prop := ∃ (ns : List Nat) (vs : List Value), LLat H q ns vs ∧ (lo ≤ q ∧ q < H.1) ∧ (∀ p ∈ ns, lo ≤ p) ∧ vs.length = xs.length ∧ (∀ (i : Nat) (x : Vi), xs[i]? = some x → ∃ b : Nat, vs[i]? = some (.ref b) ∧ b < H.1 ∧ lo ≤ b ∧ jm H b = some (24, 4, o24 x.1 (S (249 + x.2.2)) x.2.1 x.2.2))
section
variable {F : Nat → Option Cl} {d : Nat} {H H0 H2 : AH} {a q lo : Nat} {S nm : Int → Int} {ra : Int → Nat} {xs : List Vi}
theorem VLat.fr (h : VLat S H lo q xs) {P : Nat → Prop} (f : Fr H H2 P) (hp : ∀ x, P x → x < lo) : VLat S H2 lo q xs := by
  obtain ⟨ns, vs, l, ⟨q1, q2⟩, n1, e, hx⟩ := h
  refine ⟨ns, vs, l.fr f q2 (fun z => absurd (hp _ z) (by omega)) (fun p hp2 z => absurd (hp _ z) (by have := n1 p hp2; omega)), ⟨q1, Nat.lt_of_lt_of_le q2 f.1⟩, n1, e, fun i x hi => ?_⟩
  obtain ⟨b, b1, b2, b3, b4⟩ := hx i x hi
  exact ⟨b, b1, Nat.lt_of_lt_of_le b2 f.1, b3, (f.2.2 b b2 (fun z => absurd (hp _ z) (by omega))).trans b4⟩
theorem c_viol (W : StW S) (hF : Fzn F H0) (hS : SchF F q S nm) (hQ : StoQ F H0 a q S ra) {late : Bool} :
    ∃ H2, M2 (d + 14) 4012 [.ref a, .int (zI (bZ late))] H0 = some (.inl (some (.ref H0.1)), H2) ∧ VLat S H2 H0.1 H0.1 (violS S late) ∧ Fr H0 H2 (fun _ => False) ∧ H2.1 ≤ H0.1 + 8 + 2 * (violS S late).length ∧ H2.2.1 ≤ H0.2.1 + 37 + 9 * (violS S late).length := by
  obtain ⟨H1, a1, fr, ns, vs, v1, v2, v3, v4, v5, v6⟩ := c_viol0 (d := d + 6) W hF hS hQ (late := late)
  have xl : (lstV S late (alv S 150 99 0)).length = (violS S late).length := (viol_perm W).length_eq
  have xm := violS_le W (late := late)
  have l2 := v1.2.1
  -- each value is a violation
  have rel : ∀ (i : Nat) (x : Vi), (lstV S late (alv S 150 99 0))[i]? = some x → ∃ v, vs[i]? = some v ∧ RelV S H1 v x := fun i x hi => by
    obtain ⟨b, b1, b2, b3, b4⟩ := v4 i x hi
    have rg := ((mem_lst W).mp (List.mem_of_getElem? hi)).rg W
    exact ⟨.ref b, b1, b, rfl, b2, b4, rg⟩
  have mapv : vs.map (vOf S H1) = lstV S late (alv S 150 99 0) := by
    refine List.ext_getElem (by rw [List.length_map, v3]) fun i p r => ?_
    obtain ⟨v, e1, e2⟩ := rel i _ (List.getElem?_eq_getElem r)
    rw [List.getElem_map]
    rw [List.getElem?_eq_getElem (by rw [v3]; exact r)] at e1
    rw [Option.some.inj e1]
    exact vOf_eq e2
  have relm : ∀ v ∈ vs, RelV S H1 v (vOf S H1 v) := fun v hv => by
    obtain ⟨i, hi⟩ := List.getElem?_of_mem hv
    have il : i < vs.length := by
      by_cases c : i < vs.length
      · exact c
      · rw [List.getElem?_eq_none (by omega)] at hi; cases hi
    obtain ⟨w, e1, e2⟩ := rel i _ (List.getElem?_eq_getElem (by rw [← v3]; exact il))
    rw [hi] at e1
    cases e1
    rw [vOf_eq e2]
    exact e2
  have hA : ∀ v ∈ vs, Cmp (G24 H1) v (rkV S (vOf S H1 v)) := fun v hv => by
    obtain ⟨b, e1, e2, e3, e4, e5, e6, e7⟩ := relm v hv
    exact ⟨b, _, _, _, _, e1, G24_in e3 e2, e4, e5, e6, e7, rfl⟩
  have al : H0.1 < H1.1 := by omega
  obtain ⟨H2, zs, s1, s2, s3, s4, s5, s6, s7⟩ := c_lsort (d := d) (rk := fun v => rkV S (vOf S H1 v)) v1 al G24_F hA (by omega)
  have ys : zs.map (vOf S H1) = violS S late := by
    refine viol_uniq W ?_ ?_
    · rw [← mapv]; exact s3.map _
    · rw [List.pairwise_map]; exact s4
  have zl : zs.length = (violS S late).length := by rw [← ys, List.length_map]
  refine ⟨H2, ?_, ⟨ns, zs, s2, ⟨Nat.le_refl _, Nat.lt_of_lt_of_le al s5.1⟩, v2, zl, fun i x hi => ?_⟩, fr.new (s5.mono fun p _ z => Or.inr (v2 p z)), ?_, ?_⟩
  · rw [a1, s1]
    rfl
  · have il : i < zs.length := by
      by_cases c : i < zs.length
      · exact c
      · rw [List.getElem?_eq_none (by omega)] at hi; cases hi
    rw [← ys, List.getElem?_map, List.getElem?_eq_getElem il] at hi
    have hm : zs[i] ∈ vs := s3.mem_iff.mp (List.getElem_mem il)
    obtain ⟨b, e1, e2, e3, e4⟩ := relm _ hm
    have ex : vOf S H1 zs[i] = x := Option.some.inj hi
    rw [ex] at e3
    obtain ⟨j, hj⟩ := List.getElem?_of_mem hm
    have jl : j < vs.length := by
      by_cases c : j < vs.length
      · exact c
      · rw [List.getElem?_eq_none (by omega)] at hj; cases hj
    obtain ⟨b', f1, f2, f3, -⟩ := v4 j _ (List.getElem?_eq_getElem (by rw [← v3]; exact jl))
    rw [hj, e1] at f1
    cases f1
    refine ⟨b, by rw [List.getElem?_eq_getElem il, e1], Nat.lt_of_lt_of_le e2 s5.1, f3, ?_⟩
    refine (s5.2.2 b e2 fun z => ?_).trans e3
    obtain ⟨k, hk⟩ := List.getElem?_of_mem z
    have := (v1.2.2.2.2.2 k b hk).1
    rw [e3] at this
    cases this
  · rw [← xl]; omega
  · rw [← xl]; rw [v3] at s7; omega
end
