/-! the component's reader of sentences: an operand's front -/
-- jc_ref, rI_int, rR_ref, rR_null, rJ_long, ckR_ref, ckR_null, ckr_ref, ckr_null, ckW_int, ckW_ref, ckW_null, cI_ok, cR_ok, cR_null, cV_ok, cJ_ok, qH_eq, qD_in, aG_ref, aS_ref, aL_ref, pF_ref, cK_ref, cK_null, zI_lit, zJ_lit, zI_add, zI_sub, zI_mul, zI_neg, zI_eq, zI_lt, zI_le, Int.reduceLT, Int.reduceLE, Int.reduceAdd, Int.reduceSub, Int.reduceMul, Int.reduceNeg, Int.reduceEq, Int.reduceNe, reduceIte, jf_in, pFc_in, aGi, aGb, aSi, aLc_in, cKc_in, nA_in, jm_s1, jm_s2, jm_p1, jm_p2, jm_b, jn_b, jn_s, jn_p, jset_jset, jset_jpush2, ckR_is, ckr_is, rR_is, ckW_is, cR_is, obi2, ckW_int, eq_self, if_true, ref_null, if_false, ne_eq, not_true_eq_false, not_false_eq_true, decide_true, decide_false, decide_not, Bool.true_and, Bool.false_and, Bool.and_true, Bool.and_false, Bool.true_or, Bool.false_or, Bool.or_true, Bool.or_false, Bool.not_true, Bool.not_false, Bool.false_eq_true, bI_t, bI_f, Int.natCast_one, Int.cast_ofNat_Int, Int.natCast_zero, ju_self, ju_ne = jc_ref, rI_int, rR_ref, rR_null, rJ_long, ckR_ref, ckR_null, ckr_ref, ckr_null, ckW_int, ckW_ref, ckW_null, cI_ok, cR_ok, cR_null, cV_ok, cJ_ok, qH_eq, qD_in, aG_ref, aS_ref, aL_ref, pF_ref, cK_ref, cK_null, zI_lit, zJ_lit, zI_add, zI_sub, zI_mul, zI_neg, zI_eq, zI_lt, zI_le, Int.reduceLT, Int.reduceLE, Int.reduceAdd, Int.reduceSub, Int.reduceMul, Int.reduceNeg, Int.reduceEq, Int.reduceNe, reduceIte, jf_in, pFc_in, aGi, aGb, aSi, aLc_in, cKc_in, nA_in, jm_s1, jm_s2, jm_p1, jm_p2, jm_b, jn_b, jn_s, jn_p, jset_jset, jset_jpush2, ckR_is, ckr_is, rR_is, ckW_is, cR_is, obi2, ckW_int, eq_self, if_true, ref_null, if_false, ne_eq, not_true_eq_false, not_false_eq_true, decide_true, decide_false, decide_not, Bool.true_and, Bool.false_and, Bool.and_true, Bool.and_false, Bool.true_or, Bool.false_or, Bool.or_true, Bool.or_false, Bool.not_true, Bool.not_false, Bool.false_eq_true, bI_t, bI_f, Int.natCast_one, Int.cast_ofNat_Int, Int.natCast_zero, ju_self, ju_ne
section
variable {d : Nat} {H H2 : AH} {a b q n t tp sc e1 e2 : Nat} {z l p v : Int} {f : Nat → Value} {g : Int → Int} {B C : Nat → Prop} {x y : Value} {S nm : Int → Int}
/-- a word is a column's name in some table: by the twin's pack -/
theorem pk_any {w : Int} (W : ScW S) : anyF (fun t => decide (skZ S nm w t ≠ -1)) (S 0).toNat 0 = decide (pkZ S nm w ≠ 0) := by
  have e := pkZ_eq (nm := nm) (w := w) W
  have r0 := pkD_rg (nm := nm) (w := w) (t := 0) W (by omega) (by omega)
  have r1 := pkD_rg (nm := nm) (w := w) (t := 1) W (by omega) (by omega)
  have r2 := pkD_rg (nm := nm) (w := w) (t := 2) W (by omega) (by omega)
  have r3 := pkD_rg (nm := nm) (w := w) (t := 3) W (by omega) (by omega)
  have W0 := W.1
  have un : ∀ t, t < S 0 → pkD S nm w t = skZ S nm w t + 1 := fun t ht => by unfold pkD; rw [if_pos ht]
  have vn : ∀ t, ¬ t < S 0 → pkD S nm w t = 0 := fun t ht => by unfold pkD; rw [if_neg ht]
  have key : ∀ (j : Nat) (t : Int), t + j = S 0 → 0 ≤ t → (anyF (fun t => decide (skZ S nm w t ≠ -1)) j t = true ↔ ∃ u, t ≤ u ∧ u < S 0 ∧ pkD S nm w u ≠ 0) := by
    intro j
    induction j with
    | zero =>
      intro t ht t0
      refine ⟨fun h => absurd (show false = true from h) (by decide), fun ⟨u, u0, u1, _⟩ => by omega⟩
    | succ j ih =>
      intro t ht t0
      have i := ih (t + 1) (by omega) (by omega)
      have st : anyF (fun t => decide (skZ S nm w t ≠ -1)) (j + 1) t = (decide (skZ S nm w t ≠ -1) || anyF (fun t => decide (skZ S nm w t ≠ -1)) j (t + 1)) := rfl
      rw [st, Bool.or_eq_true, i, decide_eq_true_eq]
      clear i
      have ut := un t (by omega)
      refine ⟨fun h => ?_, fun ⟨u, u0, u1, u2⟩ => ?_⟩
      · rcases h with h | ⟨u, u0, u1, u2⟩
        · exact ⟨t, by omega, by omega, by omega⟩
        · exact ⟨u, by omega, u1, u2⟩
      · by_cases c : u = t
        · subst c; exact Or.inl (by omega)
        · exact Or.inr ⟨u, by omega, u1, u2⟩
  have k0 := key (S 0).toNat 0 (by omega) (by omega)
  cases h : anyF (fun t => decide (skZ S nm w t ≠ -1)) (S 0).toNat 0 with
  | true =>
    obtain ⟨u, u0, u1, u2⟩ := k0.mp h
    symm
    rw [decide_eq_true_eq]
    rcases (show u = 0 ∨ u = 1 ∨ u = 2 ∨ u = 3 by omega) with c | c | c | c <;> subst c <;> omega
  | false =>
    symm
    rw [decide_eq_false_iff_not]
    intro ne
    have al : ∀ u, 0 ≤ u → pkD S nm w u = 0 := fun u u0 => by
      by_cases c : u < S 0
      · by_cases c2 : pkD S nm w u = 0
        · exact c2
        · rw [k0.mpr ⟨u, u0, c, c2⟩] at h; cases h
      · exact vn u c
    have b0 := al 0 (by omega)
    have b1 := al 1 (by omega)
    have b2 := al 2 (by omega)
    have b3 := al 3 (by omega)
    clear k0 al
    omega
set_option maxRecDepth 8000 in
/-- is the word at hand a column's name in some table -/
theorem sn_any (h : RdC B H a 29 n tp sc g z l x y p) (hS : SchP C H sc S nm) (W : ScW S) (hn : isNm g z l p = true) : ∃ H2, M2 (d + 4) 29002 [.ref a] H = some (.inl (some (.int (zI (bZ (decide (pkZ S nm (wdv g z p) ≠ 0)))))), H2) ∧ Fr H H2 (fun _ => False) ∧ H2.1 = H.1 + 1 ∧ H2.2.1 = H.2.1 + 4 := by
  obtain ⟨f, mm, -, -, f4, f5, f7, -, -, -, -, w, f9, fw⟩ := h.fs
  obtain ⟨s, s1, s2, s3, s4⟩ := fw (isNm_k hn)
  obtain ⟨n', f', qt, cap, mc, lst, h1, h2, h3, h4, h5, h6, h7⟩ := hS.ns
  have al := h.2.2.1 a h.2.1
  have W0 := W.1
  have it0 := h_iter (d := d + 2) h3
  obtain ⟨H0, hH0⟩ : ∃ H0, H0 = jpush H (67, 4, oIt 0 (-1) mc qt) := ⟨_, rfl⟩
  have e9 : ([9, 15, 27, 29] : List Nat).elem 29 = true := rfl
  have e3 : ([3] : List Nat).elem 3 = true := rfl
  have e11 : ([11] : List Nat).elem 11 = true := rfl
  have rv : (jtRecv 29002).elem 29 = true := rfl
  have key : ∀ (m : Nat) (t lr : Int) (v2 : Value) (H' : AH), t + m = S 0 → 0 ≤ t → -1 ≤ lr → lr < 100 → H' = jset H0 H.1 (67, 4, oIt t lr mc qt) →
      ∃ t' lr', G2 (d + 3) 29002 11 [.ref a, .ref H.1, v2] [] H' = some (.inl (some (.int (zI (bZ (anyF (fun t => decide (skZ S nm (wdv g z p) t ≠ -1)) m t))))), jset H0 H.1 (67, 4, oIt t' lr' mc qt)) := by
    intro m
    induction m with
    | zero =>
      intro t lr v2 H' ht t0 l0 l1 hH'
      have fr : Fr H H' (fun _ => False) := by rw [hH', hH0]; exact Fr.new (P := fun _ => False) Fr.rf (Fr.push.tr (Fr.set (Or.inr (Nat.le_refl _))))
      have mi : jm H' H.1 = some (67, 4, oIt t lr mc qt) := by rw [hH']; exact jm_s1
      have N := hS H' (fr.mono fun _ _ u => u.elim)
      have ne1 : sc ≠ H.1 := fun e => by
        obtain ⟨n2, f2, qt2, cap2, mc2, lst2, k1, -⟩ := N
        rw [e, mi] at k1
        simp only [Option.some.injEq, Prod.mk.injEq] at k1
        omega
      have m1 : jm H' sc = some (3, n', f') := by rw [hH', jm_s2 ne1, hH0, jm_p2 ne1]; exact h1
      have ne2 : qt ≠ H.1 := fun e => by
        obtain ⟨n2, f2, qt2, cap2, mc2, lst2, k1, k2, k3, -⟩ := N
        rw [m1] at k1
        simp only [Option.some.injEq, Prod.mk.injEq] at k1
        obtain ⟨-, -, rfl⟩ := k1
        rw [h2] at k2
        cases k2
        rw [e, mi] at k3
        simp only [Option.some.injEq, Prod.mk.injEq, cAL] at k3
        omega
      have m3 : jm H' qt = some (cAL cap mc lst) := by rw [hH', jm_s2 ne2, hH0, jm_p2 ne2]; exact h3
      have hh := h_has (d := d + 2) mi t0 (by omega) l0 (by omega) m3 (by omega)
      rw [decide_eq_false (by omega : ¬ t ≠ (lst.length : Int))] at hh
      have e1 : MvH (d + 3) 9102 [.ref H.1] H' = M2 (d + 3) 67001 [.ref H.1] H' := by simp only [MvH, mi]; rfl
      refine ⟨t, lr, ?_⟩
      rw [F29002_11, ← hH']
      simp (disch := first | assumption | omega | decide | exact okF_i | exact okF_r | exact okF_n | exact okF_j | rfl) only [jc_ref, rI_int, rR_ref, rR_null, rJ_long, ckR_ref, ckR_null, ckr_ref, ckr_null, ckW_int, ckW_ref, ckW_null, cI_ok, cR_ok, cR_null, cV_ok, cJ_ok, qH_eq, qD_in, aG_ref, aS_ref, aL_ref, pF_ref, cK_ref, cK_null, zI_lit, zJ_lit, zI_add, zI_sub, zI_mul, zI_neg, zI_eq, zI_lt, zI_le, Int.reduceLT, Int.reduceLE, Int.reduceAdd, Int.reduceSub, Int.reduceMul, Int.reduceNeg, Int.reduceEq, Int.reduceNe, reduceIte, jf_in, pFc_in, aGi, aGb, aSi, aLc_in, cKc_in, nA_in, jm_s1, jm_s2, jm_p1, jm_p2, jm_b, jn_b, jn_s, jn_p, jset_jset, jset_jpush2, ckR_is, ckr_is, rR_is, ckW_is, cR_is, obi2, ckW_int, eq_self, if_true, ref_null, if_false, ne_eq, not_true_eq_false, not_false_eq_true, decide_true, decide_false, decide_not, Bool.true_and, Bool.false_and, Bool.and_true, Bool.and_false, Bool.true_or, Bool.false_or, Bool.or_true, Bool.or_false, Bool.not_true, Bool.not_false, Bool.false_eq_true, bI_t, bI_f, Int.natCast_one, Int.cast_ofNat_Int, Int.natCast_zero, ju_self, ju_ne, e1, hh]
      rfl
    | succ m ih =>
      intro t lr v2 H' ht t0 l0 l1 hH'
      have fr : Fr H H' (fun _ => False) := by rw [hH', hH0]; exact Fr.new (P := fun _ => False) Fr.rf (Fr.push.tr (Fr.set (Or.inr (Nat.le_refl _))))
      have mi : jm H' H.1 = some (67, 4, oIt t lr mc qt) := by rw [hH']; exact jm_s1
      have N := hS H' (fr.mono fun _ _ u => u.elim)
      have ne1 : sc ≠ H.1 := fun e => by
        obtain ⟨n2, f2, qt2, cap2, mc2, lst2, k1, -⟩ := N
        rw [e, mi] at k1
        simp only [Option.some.injEq, Prod.mk.injEq] at k1
        omega
      have m1 : jm H' sc = some (3, n', f') := by rw [hH', jm_s2 ne1, hH0, jm_p2 ne1]; exact h1
      have ne2 : qt ≠ H.1 := fun e => by
        obtain ⟨n2, f2, qt2, cap2, mc2, lst2, k1, k2, k3, -⟩ := N
        rw [m1] at k1
        simp only [Option.some.injEq, Prod.mk.injEq] at k1
        obtain ⟨-, -, rfl⟩ := k1
        rw [h2] at k2
        cases k2
        rw [e, mi] at k3
        simp only [Option.some.injEq, Prod.mk.injEq, cAL] at k3
        omega
      have m3 : jm H' qt = some (cAL cap mc lst) := by rw [hH', jm_s2 ne2, hH0, jm_p2 ne2]; exact h3
      have hh := h_has (d := d + 2) mi t0 (by omega) l0 (by omega) m3 (by omega)
      rw [decide_eq_true (by omega : t ≠ (lst.length : Int))] at hh
      have hx := h_next (d := d + 2) mi t0 (by omega) l0 (by omega) m3 (by omega) (by omega)
      have e1 : MvH (d + 3) 9102 [.ref H.1] H' = M2 (d + 3) 67001 [.ref H.1] H' := by simp only [MvH, mi]; rfl
      have e2 : MvH (d + 3) 9103 [.ref H.1] H' = M2 (d + 3) 67002 [.ref H.1] H' := by simp only [MvH, mi]; rfl
      obtain ⟨H3, hH3⟩ : ∃ H3, H3 = jset H' H.1 (67, 4, oIt (t + 1) t mc qt) := ⟨_, rfl⟩
      rw [← hH3] at hx
      have hH3' : H3 = jset H0 H.1 (67, 4, oIt (t + 1) t mc qt) := by rw [hH3, hH', jset_jset]
      have fr3 : Fr H H3 (fun _ => False) := by rw [hH3', hH0]; exact Fr.new (P := fun _ => False) Fr.rf (Fr.push.tr (Fr.set (Or.inr (Nat.le_refl _))))
      have N3 := hS H3 (fr3.mono fun _ _ u => u.elim)
      obtain ⟨n2, f2, qt2, cap2, mc2, lst2, k1, k2, k3, -, -, -, k7⟩ := N3
      have m13 : jm H3 sc = some (3, n', f') := by rw [hH3', jm_s2 ne1, hH0, jm_p2 ne1]; exact h1
      have m33 : jm H3 qt = some (cAL cap mc lst) := by rw [hH3', jm_s2 ne2, hH0, jm_p2 ne2]; exact h3
      rw [m13] at k1
      simp only [Option.some.injEq, Prod.mk.injEq, true_and] at k1
      obtain ⟨-, rfl⟩ := k1
      rw [h2] at k2
      cases k2
      rw [m33] at k3
      obtain ⟨-, -, rfl⟩ := cAL_inj (Option.some.inj k3)
      obtain ⟨b, b1, b2⟩ := k7 t t0 (by omega)
      rw [b1] at hx
      obtain ⟨mb, fb, qn, qc, t1, t2, t3⟩ := id b2
      have k := h.no fr3
      obtain ⟨f3, mm3, -, -, -, -, -, -, -, -, -, w3, f93, fw3⟩ := k.fs
      obtain ⟨s', u1, -, u3, u4⟩ := fw3 (isNm_k hn)
      have cf := c_colFind (d := d + 1) b2 u1 u3
      rw [show fnd (fun c => decide (nm (4 + 4 * t + c) = pk s')) (S (4 + t)).toNat 0 = skZ S nm (wdv g z p) t by rw [u4]; rfl] at cf
      have st : anyF (fun t => decide (skZ S nm (wdv g z p) t ≠ -1)) (m + 1) t = (decide (skZ S nm (wdv g z p) t ≠ -1) || anyF (fun t => decide (skZ S nm (wdv g z p) t ≠ -1)) m (t + 1)) := rfl
      rw [F29002_11, st]
      by_cases c : skZ S nm (wdv g z p) t = -1
      · obtain ⟨t', lr', IH⟩ := ih (t + 1) t (.ref b) H3 (by omega) (by omega) (by omega) (by omega) hH3'
        rw [decide_eq_false (fun u => u c), Bool.false_or]
        rw [c] at cf
        refine ⟨t', lr', ?_⟩
        rw [← IH]
        simp (disch := first | assumption | omega | decide | exact okF_i | exact okF_r | exact okF_n | exact okF_j | rfl) only [jc_ref, rI_int, rR_ref, rR_null, rJ_long, ckR_ref, ckR_null, ckr_ref, ckr_null, ckW_int, ckW_ref, ckW_null, cI_ok, cR_ok, cR_null, cV_ok, cJ_ok, qH_eq, qD_in, aG_ref, aS_ref, aL_ref, pF_ref, cK_ref, cK_null, zI_lit, zJ_lit, zI_add, zI_sub, zI_mul, zI_neg, zI_eq, zI_lt, zI_le, Int.reduceLT, Int.reduceLE, Int.reduceAdd, Int.reduceSub, Int.reduceMul, Int.reduceNeg, Int.reduceEq, Int.reduceNe, reduceIte, jf_in, pFc_in, aGi, aGb, aSi, aLc_in, cKc_in, nA_in, jm_s1, jm_s2, jm_p1, jm_p2, jm_b, jn_b, jn_s, jn_p, jset_jset, jset_jpush2, ckR_is, ckr_is, rR_is, ckW_is, cR_is, obi2, ckW_int, eq_self, if_true, ref_null, if_false, ne_eq, not_true_eq_false, not_false_eq_true, decide_true, decide_false, decide_not, Bool.true_and, Bool.false_and, Bool.and_true, Bool.and_false, Bool.true_or, Bool.false_or, Bool.or_true, Bool.or_false, Bool.not_true, Bool.not_false, Bool.false_eq_true, bI_t, bI_f, Int.natCast_one, Int.cast_ofNat_Int, Int.natCast_zero, ju_self, ju_ne, e1, hh, e2, hx, t1, mm3, f93, cf]
      · rw [decide_eq_true c, Bool.true_or]
        refine ⟨t + 1, t, ?_⟩
        rw [← hH3']
        have sr := skZ_rg (nm := nm) (w := wdv g z p) (t := t) (W.2 t t0 (by omega)).2
        generalize skZ S nm (wdv g z p) t = v at cf sr c
        simp (disch := first | assumption | omega | decide | exact okF_i | exact okF_r | exact okF_n | exact okF_j | rfl) only [jc_ref, rI_int, rR_ref, rR_null, rJ_long, ckR_ref, ckR_null, ckr_ref, ckr_null, ckW_int, ckW_ref, ckW_null, cI_ok, cR_ok, cR_null, cV_ok, cJ_ok, qH_eq, qD_in, aG_ref, aS_ref, aL_ref, pF_ref, cK_ref, cK_null, zI_lit, zJ_lit, zI_add, zI_sub, zI_mul, zI_neg, zI_eq, zI_lt, zI_le, Int.reduceLT, Int.reduceLE, Int.reduceAdd, Int.reduceSub, Int.reduceMul, Int.reduceNeg, Int.reduceEq, Int.reduceNe, reduceIte, jf_in, pFc_in, aGi, aGb, aSi, aLc_in, cKc_in, nA_in, jm_s1, jm_s2, jm_p1, jm_p2, jm_b, jn_b, jn_s, jn_p, jset_jset, jset_jpush2, ckR_is, ckr_is, rR_is, ckW_is, cR_is, obi2, ckW_int, eq_self, if_true, ref_null, if_false, ne_eq, not_true_eq_false, not_false_eq_true, decide_true, decide_false, decide_not, Bool.true_and, Bool.false_and, Bool.and_true, Bool.and_false, Bool.true_or, Bool.false_or, Bool.or_true, Bool.or_false, Bool.not_true, Bool.not_false, Bool.false_eq_true, bI_t, bI_f, Int.natCast_one, Int.cast_ofNat_Int, Int.natCast_zero, ju_self, ju_ne, e1, hh, e2, hx, t1, mm3, f93, cf, c]
        rfl
  obtain ⟨t', lr', K⟩ := key (S 0).toNat 0 (-1) jno H0 (by omega) (by omega) (by omega) (by omega) (by rw [hH0]; exact (jset_same jm_p1).symm)
  rw [pk_any W] at K
  refine ⟨jset H0 H.1 (67, 4, oIt t' lr' mc qt), ?_, by rw [hH0]; exact Fr.new (P := fun _ => False) Fr.rf (Fr.push.tr (Fr.set (Or.inr (Nat.le_refl _)))), by rw [hH0]; rfl, by rw [hH0]; rfl⟩
  rw [Y29002 H (jrecv_in mm rv), F29002_0, ← K]
  simp (disch := first | assumption | omega | decide | exact okF_i | exact okF_r | exact okF_n | exact okF_j | rfl) only [jc_ref, rI_int, rR_ref, rR_null, rJ_long, ckR_ref, ckR_null, ckr_ref, ckr_null, ckW_int, ckW_ref, ckW_null, cI_ok, cR_ok, cR_null, cV_ok, cJ_ok, qH_eq, qD_in, aG_ref, aS_ref, aL_ref, pF_ref, cK_ref, cK_null, zI_lit, zJ_lit, zI_add, zI_sub, zI_mul, zI_neg, zI_eq, zI_lt, zI_le, Int.reduceLT, Int.reduceLE, Int.reduceAdd, Int.reduceSub, Int.reduceMul, Int.reduceNeg, Int.reduceEq, Int.reduceNe, reduceIte, jf_in, pFc_in, aGi, aGb, aSi, aLc_in, cKc_in, nA_in, jm_s1, jm_s2, jm_p1, jm_p2, jm_b, jn_b, jn_s, jn_p, jset_jset, jset_jpush2, ckR_is, ckr_is, rR_is, ckW_is, cR_is, obi2, ckW_int, eq_self, if_true, ref_null, if_false, ne_eq, not_true_eq_false, not_false_eq_true, decide_true, decide_false, decide_not, Bool.true_and, Bool.false_and, Bool.and_true, Bool.and_false, Bool.true_or, Bool.false_or, Bool.or_true, Bool.or_false, Bool.not_true, Bool.not_false, Bool.false_eq_true, bI_t, bI_f, Int.natCast_one, Int.cast_ofNat_Int, Int.natCast_zero, ju_self, ju_ne, mm, f4, h1, h2, it0, ← hH0]
end
