/-! the component's reader of schemas: tables, read -/
-- jc_ref, rI_int, rR_ref, rR_null, rJ_long, ckR_ref, ckR_null, ckr_ref, ckr_null, ckW_int, ckW_ref, ckW_null, cI_ok, cR_ok, cR_null, cV_ok, cJ_ok, qH_eq, qD_in, aG_ref, aS_ref, aL_ref, pF_ref, cK_ref, cK_null, zI_lit, zJ_lit, zI_add, zI_sub, zI_mul, zI_neg, zI_eq, zI_lt, zI_le, Int.reduceLT, Int.reduceLE, Int.reduceAdd, Int.reduceSub, Int.reduceMul, Int.reduceNeg, Int.reduceEq, Int.reduceNe, reduceIte, jf_in, pFc_in, aGi, aGb, aSi, aLc_in, cKc_in, nA_in, jm_s1, jm_s2, jm_p1, jm_p2, jm_b, jn_b, jn_s, jn_p, jset_jset, jset_jpush2, ckR_is, ckr_is, rR_is, ckW_is, cR_is, obi2, ckW_int, eq_self, if_true, ref_null, if_false, ne_eq, not_true_eq_false, not_false_eq_true, decide_true, decide_false, decide_not, Bool.true_and, Bool.false_and, Bool.and_true, Bool.and_false, Bool.true_or, Bool.false_or, Bool.or_true, Bool.or_false, Bool.not_true, Bool.not_false, Bool.false_eq_true, bI_t, bI_f, Int.natCast_one, Int.cast_ofNat_Int, Int.natCast_zero, ju_self, ju_ne = jc_ref, rI_int, rR_ref, rR_null, rJ_long, ckR_ref, ckR_null, ckr_ref, ckr_null, ckW_int, ckW_ref, ckW_null, cI_ok, cR_ok, cR_null, cV_ok, cJ_ok, qH_eq, qD_in, aG_ref, aS_ref, aL_ref, pF_ref, cK_ref, cK_null, zI_lit, zJ_lit, zI_add, zI_sub, zI_mul, zI_neg, zI_eq, zI_lt, zI_le, Int.reduceLT, Int.reduceLE, Int.reduceAdd, Int.reduceSub, Int.reduceMul, Int.reduceNeg, Int.reduceEq, Int.reduceNe, reduceIte, jf_in, pFc_in, aGi, aGb, aSi, aLc_in, cKc_in, nA_in, jm_s1, jm_s2, jm_p1, jm_p2, jm_b, jn_b, jn_s, jn_p, jset_jset, jset_jpush2, ckR_is, ckr_is, rR_is, ckW_is, cR_is, obi2, ckW_int, eq_self, if_true, ref_null, if_false, ne_eq, not_true_eq_false, not_false_eq_true, decide_true, decide_false, decide_not, Bool.true_and, Bool.false_and, Bool.and_true, Bool.and_false, Bool.true_or, Bool.false_or, Bool.or_true, Bool.or_false, Bool.not_true, Bool.not_false, Bool.false_eq_true, bI_t, bI_f, Int.natCast_one, Int.cast_ofNat_Int, Int.natCast_zero, ju_self, ju_ne
section
variable {d : Nat} {H H2 : AH} {a b e e1 e2 q n tp c s c2 s2 tg w : Nat} {k m ln t tt but v one two o cc sg col : Int} {B P P0 C : Nat → Prop} {S S' nm nm' g : Int → Int} {bt : Int → Nat} {z l p : Int} {x y : Value} {f : Nat → Value} {F : Nat → Option Cl}
theorem isNm_is {v : Int} (h : isNm g z l p = true) : isS g z l p v = false := isS_kd (isNm_k h)
/-- columns of a table, one after another -/
theorem tb_loop (k0 : 0 ≤ k) (k4 : k < 4) : ∀ (fu : Nat) (S nm : Int → Int) (p : Int) (H : AH), RdC (Bs a q bt (k + 1)) H a 9 n tp q g z l x y p → SchM H a q bt k (k + 1) ln S (nmS nm) → S 0 = k → fu + S (4 + k) = 6 → (S (4 + k) = 0 → isNm g z l p = true) →
    CRm g z l (colLoop g z l fu S nm k p) (G2 (d + 11) 9012 74 [.ref a, .ref (bt k)] [] H) H (fun u => a ≤ u) (20 * fu) (120 * fu) (LnK a n tp q g z l x y ln) (LnL a n tp q g z l x y) := by
  intro fu
  induction fu with
  | zero =>
    intro S nm p H h hM h0 hf hn
    have c4 := hM.2.2.2.2.2.2.2.2.1.2.2.1 k k0 k4
    omega
  | succ fu ih =>
    intro S nm p H h hM h0 hf hn
    obtain ⟨o, m1, m2, m3, m4, m5, m6, m7, W⟩ := id hM
    have c4 := W.1.2.2.1 k k0 k4
    have oa := o.1.1
    have ob := o.1.2
    have okk := o.2.1 k k0 (by omega)
    obtain ⟨-, -, -, -, -, mm0, -⟩ := mvR h
    obtain ⟨H1, i1, i2, i3, i4⟩ := rc_isName (d := d + 6) h
    have i1' := (mm0 (d + 11)).trans i1
    have h1 := h.no i2
    have M1 := hM.fr (i2.mono fun _ _ z => z.elim)
    obtain ⟨f1, mf, -, -, f4, f5, -, -, -, -, -, w9, f9, s9⟩ := h1.fs
    have o1 := M1.1
    have m11 := M1.2.1
    have e9 : ([9, 15, 27, 29] : List Nat).elem 9 = true := rfl
    rw [F9012_74]
    unfold colLoop
    cases hnm : isNm g z l p with
    | false =>
      rw [hnm, bZ_f] at i1'
      have nz : S (4 + k) ≠ 0 := fun z => by rw [hn z] at hnm; cases hnm
      -- the table goes into the list
      obtain ⟨⟨qn, tb, -⟩, -⟩ := M1.2.2.2.2.2.2.1 k k0 (by omega)
      obtain ⟨H2, j1, j2, j3, j4, j5⟩ := M1.2.2.1.add (by omega) tb (by show (11 : Nat) < 1000; omega)
      have j1' := j1 (d + 10)
      have oa1 := o1.1.1
      have h2 := h1.fr j2 (fun u _ z => Or.inr (Or.inl (by omega))) (by omega)
      have F2 : Fr H H2 (fun u => a ≤ u) := (i2.mono fun _ _ z => z.elim).tr (j2.mono fun u _ z => by omega)
      have run : zcI (MvH (d + 11) 9118 [.ref a] H) (fun x1 h2 => if x1 = 0 then (zpR (jf (jc h2 (.ref a)) [9, 15, 27, 29] 4) (fun r3 => zpR (jf (jc h2 r3) [3] 1) (fun r4 => zcI (M2 (d + 11) 43000 [r4, .ref (bt k)] h2) (fun x5 h6 => some (.inl none, h6)) ()) ()) ()) else (zpR (jf (jc h2 (.ref a)) [9, 15, 27, 29] 9) (fun r7 => zcI (M2 (d + 11) 11000 [.ref (bt k), r7] h2) (fun x8 h9 => if x8 = (-1) then (G2 (d + 11) 9012 99 [.ref a, .ref (bt k)] [.int 1, .ref a] h9) else (G2 (d + 11) 9012 99 [.ref a, .ref (bt k)] [.int 0, .ref a] h9)) ()) ())) () = (some (.inl none, H2) : Rz) := by
        simp (disch := first | assumption | omega | decide | exact okF_i | exact okF_r | exact okF_n | exact okF_j | rfl) only [jc_ref, rI_int, rR_ref, rR_null, rJ_long, ckR_ref, ckR_null, ckr_ref, ckr_null, ckW_int, ckW_ref, ckW_null, cI_ok, cR_ok, cR_null, cV_ok, cJ_ok, qH_eq, qD_in, aG_ref, aS_ref, aL_ref, pF_ref, cK_ref, cK_null, zI_lit, zJ_lit, zI_add, zI_sub, zI_mul, zI_neg, zI_eq, zI_lt, zI_le, Int.reduceLT, Int.reduceLE, Int.reduceAdd, Int.reduceSub, Int.reduceMul, Int.reduceNeg, Int.reduceEq, Int.reduceNe, reduceIte, jf_in, pFc_in, aGi, aGb, aSi, aLc_in, cKc_in, nA_in, jm_s1, jm_s2, jm_p1, jm_p2, jm_b, jn_b, jn_s, jn_p, jset_jset, jset_jpush2, ckR_is, ckr_is, rR_is, ckW_is, cR_is, obi2, ckW_int, eq_self, if_true, ref_null, if_false, ne_eq, not_true_eq_false, not_false_eq_true, decide_true, decide_false, decide_not, Bool.true_and, Bool.false_and, Bool.and_true, Bool.and_false, Bool.true_or, Bool.false_or, Bool.or_true, Bool.or_false, Bool.not_true, Bool.not_false, Bool.false_eq_true, bI_t, bI_f, Int.natCast_one, Int.cast_ofNat_Int, Int.natCast_zero, ju_self, ju_ne, o3_0, o3_1, o3_2, o3_3, o3_4, i1', mf, f4, m11, j1']
      by_cases hs : isS g z l p 59 = true
      · rw [if_pos ⟨nz, hs⟩]
        have W' := W_tab W (by omega) (by rw [h0]; exact nz)
        rw [h0] at W' ⊢
        refine ⟨H2, F2, by omega, by omega, none, run, rfl, bt, ?_⟩
        show RdC (Bs a q bt (fset S 0 (k + 1) 0)) H2 a 9 n tp q g z l x y p ∧ SchM H2 a q bt (fset S 0 (k + 1) 0) (fset S 0 (k + 1) 0) ln (fset S 0 (k + 1)) (nmS nm)
        rw [fset_eq]
        exact ⟨h2, M1.finT k0 k4 j2 (j5 _ (fun _ _ _ _ z => z) rfl) W' fun i hi => fset_ne hi⟩
      · rw [if_neg (fun z => hs z.2), if_pos rfl]
        exact ⟨H2, F2, by omega, by omega, Or.inr ⟨none, p, run, Bool.eq_false_iff.mpr hs, rfl, rfl, _, h2⟩⟩
    | true =>
      rw [hnm, bZ_t] at i1'
      have is0 := isNm_is (v := 59) hnm
      rw [if_neg (fun z => by rw [is0] at z; cases z.2), if_neg (by decide)]
      obtain ⟨sw, s1, s2, s3, s4⟩ := s9 (isNm_k hnm)
      have tM := M1.2.2.2.2.2.2.1 k k0 (by omega)
      have cf := c_colFind (d := d + 9) (tM.tn Fz_F c4.2) s1 s3
      have fr := fnd_rg (f := fun c => decide (nmS nm (4 + 4 * k + c) = pk sw)) (S (4 + k)).toNat 0
      have ef : fnd (fun c => decide (nm (24 + 4 * k + c) = wdv g z p)) (S (4 + k)).toNat 0 = fnd (fun c => decide (nmS nm (4 + 4 * k + c) = pk sw)) (S (4 + k)).toNat 0 := by
        congr 1
        funext c
        rw [nmS_at, s4, show 20 + (4 + 4 * k + c) = 24 + 4 * k + c by omega]
      rw [ef]
      generalize fnd (fun c => decide (nmS nm (4 + 4 * k + c) = pk sw)) (S (4 + k)).toNat 0 = vf at cf fr ⊢
      obtain ⟨-, mn1, -, -, -, -, -, mg1, -⟩ := mvR h1
      have nd3 := fun b => rc_need (d := d + 6) h1 (b := b) (k := 3) (by omega) (by omega)
      have nd4 := fun b => rc_need (d := d + 6) h1 (b := b) (k := 4) (by omega) (by omega)
      by_cases cv : 0 ≤ vf
      · rw [if_pos cv]
        have n3 := nd3 false
        rw [if_neg (by decide), bZ_f] at n3
        obtain ⟨H2, r1, r2, r3, r4, r5⟩ := n3
        have r1' := (mn1 (d + 11) _ _).trans r1
        have nv : ¬ vf = -1 := by omega
        refine ⟨H2, (i2.tr r2).mono fun _ _ u => u.elim, by omega, by omega, Or.inl ⟨H1.1, ?_, r5⟩⟩
        simp (disch := first | assumption | omega | decide | exact okF_i | exact okF_r | exact okF_n | exact okF_j | rfl) only [jc_ref, rI_int, rR_ref, rR_null, rJ_long, ckR_ref, ckR_null, ckr_ref, ckr_null, ckW_int, ckW_ref, ckW_null, cI_ok, cR_ok, cR_null, cV_ok, cJ_ok, qH_eq, qD_in, aG_ref, aS_ref, aL_ref, pF_ref, cK_ref, cK_null, zI_lit, zJ_lit, zI_add, zI_sub, zI_mul, zI_neg, zI_eq, zI_lt, zI_le, Int.reduceLT, Int.reduceLE, Int.reduceAdd, Int.reduceSub, Int.reduceMul, Int.reduceNeg, Int.reduceEq, Int.reduceNe, reduceIte, jf_in, pFc_in, aGi, aGb, aSi, aLc_in, cKc_in, nA_in, jm_s1, jm_s2, jm_p1, jm_p2, jm_b, jn_b, jn_s, jn_p, jset_jset, jset_jpush2, ckR_is, ckr_is, rR_is, ckW_is, cR_is, obi2, ckW_int, eq_self, if_true, ref_null, if_false, ne_eq, not_true_eq_false, not_false_eq_true, decide_true, decide_false, decide_not, Bool.true_and, Bool.false_and, Bool.and_true, Bool.and_false, Bool.true_or, Bool.false_or, Bool.or_true, Bool.or_false, Bool.not_true, Bool.not_false, Bool.false_eq_true, bI_t, bI_f, Int.natCast_one, Int.cast_ofNat_Int, Int.natCast_zero, ju_self, ju_ne, i1', mf, f9, cf, nv, F9012_99, r1', cV_th]
      · rw [if_neg cv]
        have ev : vf = -1 := by omega
        subst ev
        have n3 := nd3 true
        rw [if_pos rfl, bZ_t] at n3
        have n3' := (mn1 (d + 11) _ _).trans n3
        obtain ⟨⟨qn, tb, snm⟩, tc, td, tw⟩ := id tM
        have sz := tc.sz (d := d + 10)
        by_cases c44 : S (4 + k) = 4
        · rw [if_pos c44]
          have n4 := nd4 false
          rw [if_neg (by decide), bZ_f] at n4
          obtain ⟨H2, r1, r2, r3, r4, r5⟩ := n4
          have r1' := (mn1 (d + 11) _ _).trans r1
          refine ⟨H2, (i2.tr r2).mono fun _ _ u => u.elim, by omega, by omega, Or.inl ⟨H1.1, ?_, r5⟩⟩
          have le : (4 : Int) ≤ S (4 + k) := by omega
          simp (disch := first | assumption | omega | decide | exact okF_i | exact okF_r | exact okF_n | exact okF_j | rfl) only [jc_ref, rI_int, rR_ref, rR_null, rJ_long, ckR_ref, ckR_null, ckr_ref, ckr_null, ckW_int, ckW_ref, ckW_null, cI_ok, cR_ok, cR_null, cV_ok, cJ_ok, qH_eq, qD_in, aG_ref, aS_ref, aL_ref, pF_ref, cK_ref, cK_null, zI_lit, zJ_lit, zI_add, zI_sub, zI_mul, zI_neg, zI_eq, zI_lt, zI_le, Int.reduceLT, Int.reduceLE, Int.reduceAdd, Int.reduceSub, Int.reduceMul, Int.reduceNeg, Int.reduceEq, Int.reduceNe, reduceIte, jf_in, pFc_in, aGi, aGb, aSi, aLc_in, cKc_in, nA_in, jm_s1, jm_s2, jm_p1, jm_p2, jm_b, jn_b, jn_s, jn_p, jset_jset, jset_jpush2, ckR_is, ckr_is, rR_is, ckW_is, cR_is, obi2, ckW_int, eq_self, if_true, ref_null, if_false, ne_eq, not_true_eq_false, not_false_eq_true, decide_true, decide_false, decide_not, Bool.true_and, Bool.false_and, Bool.and_true, Bool.and_false, Bool.true_or, Bool.false_or, Bool.or_true, Bool.or_false, Bool.not_true, Bool.not_false, Bool.false_eq_true, bI_t, bI_f, Int.natCast_one, Int.cast_ofNat_Int, Int.natCast_zero, ju_self, ju_ne, o11_0, o11_1, o11_2, o11_3, i1', mf, f9, cf, F9012_99, n3', tb, sz, c44, r1', cV_th]
        · rw [if_neg c44]
          have n4 := nd4 true
          rw [if_pos rfl, bZ_t] at n4
          have n4' := (mn1 (d + 11) _ _).trans n4
          -- the word goes into the list
          have hw : ∃ cw, jm H1 w9 = some cw ∧ cw.1 < 1000 := by
            obtain ⟨t, e, te, f, g', ⟨x1, x2⟩, -⟩ := s1
            refine ⟨_, x1, ?_⟩
            rcases x2.1 with e | e <;> (show t < 1000; omega)
          obtain ⟨cw, hw1, hw2⟩ := hw
          obtain ⟨H2, j1, j2, j3, j4, j5⟩ := tc.add (by omega) hw1 hw2
          have j1' := j1 (d + 10)
          have ou := M1.1.out k0 (by omega : k < k + 1) (i := 1) (by omega)
          have h2 := h1.fr j2 (fun u _ z => Or.inr (Or.inr ⟨k, k0, by omega, by omega⟩)) (by omega)
          obtain ⟨-, -, -, -, -, -, -, mg2, -⟩ := mvR h2
          obtain ⟨H3, g1, g2, g3, g4, h3⟩ := rc_go (d := d + 9) h2
          have g1' := (mg2 (d + 11)).trans g1
          have W' := W_col W (by omega) (v := S (4 + k) + 1) (by omega) (by omega)
          rw [h0] at W'
          have sb : Sub (Fz (Bs a q bt (k + 1)) H1) (Fz (Bs a q bt (k + 1)) H2) := Fz_sub j2 fun u _ z => Or.inr (Or.inr ⟨k, k0, by omega, by omega⟩)
          have om : ∀ i, i < 4 → i ≠ 1 → jm H2 (bt k + i) = jm H1 (bt k + i) := fun i i0 i1 => j2.2.2 _ (M1.1.out k0 (by omega) i0).1 (by omega)
          have en : ∀ i, i ≠ 4 + 4 * k + S (4 + k) → nmS (fset nm (24 + 4 * k + S (4 + k)) (wdv g z p)) i = nmS nm i := fun i hi => by rw [nmS_at, fset_ne (by omega), nmS_at]
          have M2' : SchM H2 a q bt k (k + 1) ln (fset S (4 + k) (S (4 + k) + 1)) (nmS (fset nm (24 + 4 * k + S (4 + k)) (wdv g z p))) := by
            refine M1.upT (tt := k) j2 k0 (by omega) (fun u z => Or.inr (by omega)) W' (fun i hi => fset_ne (by omega)) (fun t' n1 z0 z1 => ⟨fset_ne (by omega), fun c' c0 c1 => ⟨fset_ne (by omega), fset_ne (by omega)⟩⟩) (fun t' n1 z0 z1 => ⟨en _ (by omega), fun c' c0 c1 => en _ (by omega)⟩) ?_ (by omega)
            obtain ⟨sq, q1, q2, q3⟩ := snm
            obtain ⟨gd, gd1, gd2⟩ := td
            obtain ⟨bs, bs1, bs2⟩ := tw
            refine ⟨⟨qn, (om 0 (by omega) (by omega)).trans tb, sq, q1.sub sb, q2, by rw [en _ (by omega)]; exact q3⟩, ?_, ⟨gd, (om 2 (by omega) (by omega)).trans gd1, fun c' c0 c1 => by rw [fset_ne (by omega)]; exact gd2 c' c0 c1⟩, bs, (om 3 (by omega) (by omega)).trans bs1, fun c' c0 c1 => by rw [fset_ne (by omega)]; exact bs2 c' c0 c1⟩
            rw [fset_eq]
            refine j5 _ (fun i u z0 z1 ⟨sx, x1, x2, x3⟩ => ⟨sx, x1.sub sb, x2, by rw [en _ (by omega)]; exact x3⟩) ⟨sw, s2.sub sb, s3, ?_⟩
            rw [nmS_at, show 20 + (4 + 4 * k + S (4 + k)) = 24 + 4 * k + S (4 + k) by omega, fset_eq, s4]
          have M3 := M2'.fr g2
          have IH := ih (fset S (4 + k) (S (4 + k) + 1)) (fset nm (24 + 4 * k + S (4 + k)) (wdv g z p)) (nxt g z l p) H3 h3 M3 (by rw [fset_ne (by omega)]; exact h0) (by rw [fset_eq]; omega) (fun z => by rw [fset_eq] at z; omega)
          have F3 : Fr H H3 (fun u => a ≤ u) := ((i2.mono fun _ _ z => z.elim).tr (j2.mono fun u _ z => by omega)).tr (g2.mono fun u _ z => by omega)
          have run : zcI (MvH (d + 11) 9118 [.ref a] H) (fun x1 h2 => if x1 = 0 then (zpR (jf (jc h2 (.ref a)) [9, 15, 27, 29] 4) (fun r3 => zpR (jf (jc h2 r3) [3] 1) (fun r4 => zcI (M2 (d + 11) 43000 [r4, .ref (bt k)] h2) (fun x5 h6 => some (.inl none, h6)) ()) ()) ()) else (zpR (jf (jc h2 (.ref a)) [9, 15, 27, 29] 9) (fun r7 => zcI (M2 (d + 11) 11000 [.ref (bt k), r7] h2) (fun x8 h9 => if x8 = (-1) then (G2 (d + 11) 9012 99 [.ref a, .ref (bt k)] [.int 1, .ref a] h9) else (G2 (d + 11) 9012 99 [.ref a, .ref (bt k)] [.int 0, .ref a] h9)) ()) ())) () = G2 (d + 11) 9012 74 [.ref a, .ref (bt k)] [] H3 := by
            have le : ¬ (4 : Int) ≤ S (4 + k) := by omega
            have c3 : S (4 + k) ≤ 3 := by omega
            simp (disch := first | assumption | omega | decide | exact okF_i | exact okF_r | exact okF_n | exact okF_j | rfl) only [jc_ref, rI_int, rR_ref, rR_null, rJ_long, ckR_ref, ckR_null, ckr_ref, ckr_null, ckW_int, ckW_ref, ckW_null, cI_ok, cR_ok, cR_null, cV_ok, cJ_ok, qH_eq, qD_in, aG_ref, aS_ref, aL_ref, pF_ref, cK_ref, cK_null, zI_lit, zJ_lit, zI_add, zI_sub, zI_mul, zI_neg, zI_eq, zI_lt, zI_le, Int.reduceLT, Int.reduceLE, Int.reduceAdd, Int.reduceSub, Int.reduceMul, Int.reduceNeg, Int.reduceEq, Int.reduceNe, reduceIte, jf_in, pFc_in, aGi, aGb, aSi, aLc_in, cKc_in, nA_in, jm_s1, jm_s2, jm_p1, jm_p2, jm_b, jn_b, jn_s, jn_p, jset_jset, jset_jpush2, ckR_is, ckr_is, rR_is, ckW_is, cR_is, obi2, ckW_int, eq_self, if_true, ref_null, if_false, ne_eq, not_true_eq_false, not_false_eq_true, decide_true, decide_false, decide_not, Bool.true_and, Bool.false_and, Bool.and_true, Bool.and_false, Bool.true_or, Bool.false_or, Bool.or_true, Bool.or_false, Bool.not_true, Bool.not_false, Bool.false_eq_true, bI_t, bI_f, Int.natCast_one, Int.cast_ofNat_Int, Int.natCast_zero, ju_self, ju_ne, o11_0, o11_1, o11_2, o11_3, i1', mf, f9, cf, F9012_99, n3', tb, sz, le, n4', j1', g1']
          rw [run]
          exact CRm.wk (CRm.stp (c := 20) (s := 120) F3 (fun _ z => z) (by omega) (by omega) IH) (fun _ z => z) (by omega) (by omega)
end
