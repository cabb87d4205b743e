/-! the component's reader of schemas: a table, a line -/
-- jc_ref, rI_int, rR_ref, rR_null, rJ_long, ckR_ref, ckR_null, ckr_ref, ckr_null, ckW_int, ckW_ref, ckW_null, cI_ok, cR_ok, cR_null, cV_ok, cJ_ok, qH_eq, qD_in, aG_ref, aS_ref, aL_ref, pF_ref, cK_ref, cK_null, zI_lit, zJ_lit, zI_add, zI_sub, zI_mul, zI_neg, zI_eq, zI_lt, zI_le, Int.reduceLT, Int.reduceLE, Int.reduceAdd, Int.reduceSub, Int.reduceMul, Int.reduceNeg, Int.reduceEq, Int.reduceNe, reduceIte, jf_in, pFc_in, aGi, aGb, aSi, aLc_in, cKc_in, nA_in, jm_s1, jm_s2, jm_p1, jm_p2, jm_b, jn_b, jn_s, jn_p, jset_jset, jset_jpush2, ckR_is, ckr_is, rR_is, ckW_is, cR_is, obi2, ckW_int, eq_self, if_true, ref_null, if_false, ne_eq, not_true_eq_false, not_false_eq_true, decide_true, decide_false, decide_not, Bool.true_and, Bool.false_and, Bool.and_true, Bool.and_false, Bool.true_or, Bool.false_or, Bool.or_true, Bool.or_false, Bool.not_true, Bool.not_false, Bool.false_eq_true, bI_t, bI_f, Int.natCast_one, Int.cast_ofNat_Int, Int.natCast_zero, ju_self, ju_ne = jc_ref, rI_int, rR_ref, rR_null, rJ_long, ckR_ref, ckR_null, ckr_ref, ckr_null, ckW_int, ckW_ref, ckW_null, cI_ok, cR_ok, cR_null, cV_ok, cJ_ok, qH_eq, qD_in, aG_ref, aS_ref, aL_ref, pF_ref, cK_ref, cK_null, zI_lit, zJ_lit, zI_add, zI_sub, zI_mul, zI_neg, zI_eq, zI_lt, zI_le, Int.reduceLT, Int.reduceLE, Int.reduceAdd, Int.reduceSub, Int.reduceMul, Int.reduceNeg, Int.reduceEq, Int.reduceNe, reduceIte, jf_in, pFc_in, aGi, aGb, aSi, aLc_in, cKc_in, nA_in, jm_s1, jm_s2, jm_p1, jm_p2, jm_b, jn_b, jn_s, jn_p, jset_jset, jset_jpush2, ckR_is, ckr_is, rR_is, ckW_is, cR_is, obi2, ckW_int, eq_self, if_true, ref_null, if_false, ne_eq, not_true_eq_false, not_false_eq_true, decide_true, decide_false, decide_not, Bool.true_and, Bool.false_and, Bool.and_true, Bool.and_false, Bool.true_or, Bool.false_or, Bool.or_true, Bool.or_false, Bool.not_true, Bool.not_false, Bool.false_eq_true, bI_t, bI_f, Int.natCast_one, Int.cast_ofNat_Int, Int.natCast_zero, ju_self, ju_ne
section
variable {d : Nat} {H H2 : AH} {a b e e1 e2 q n tp c s c2 s2 tg w : Nat} {k m ln t tt but v one two o cc sg col : Int} {B P P0 C : Nat → Prop} {S S' nm nm' g : Int → Int} {bt : Int → Nat} {z l p : Int} {x y : Value} {f : Nat → Value} {F : Nat → Option Cl}
theorem rs_table (h : RdC (Bs a q bt (S 0)) H a 9 n tp q g z l x y p) (hM : SchM H a q bt (S 0) (S 0) ln S (nmS nm)) :
    CRm g z l (tableP g z l S nm p) (M2 (d + 12) 9012 [.ref a] H) H (fun u => a ≤ u) 200 1000 (LnK a n tp q g z l x y ln) (LnL a n tp q g z l x y) := by
  obtain ⟨ord, h1, h2, h3, h4, h5, h6, h7, W⟩ := id hM
  obtain ⟨b1, b2, b3, b4, b5, b6⟩ := W.1
  obtain ⟨f, mm, e9, f4, al⟩ := rdc9 h
  have rv : (jtRecv 9012).elem 9 = true := rfl
  have sz := h2.sz (d := d + 10)
  have oa := ord.1.1
  have ob := ord.1.2
  obtain ⟨H1, a1, a2, a3, a4⟩ := rs_room (d := d + 5) h (v := S 0) (mx := 4) (by omega) (by omega) (by omega) (by omega)
  rw [Y9012 H (jrecv_in mm rv), F9012_0]
  unfold tableP
  by_cases c4 : S 0 = 4
  · rw [if_pos (by omega)] at a4
    rw [if_pos c4]
    obtain ⟨u, r1, r2⟩ := a4
    refine ⟨H1, a1.mono fun u _ z => by omega, by omega, by omega, Or.inl ⟨u, ?_, r2⟩⟩
    simp (disch := first | assumption | omega | decide | exact okF_i | exact okF_r | exact okF_n | exact okF_j | rfl) only [jc_ref, rI_int, rR_ref, rR_null, rJ_long, ckR_ref, ckR_null, ckr_ref, ckr_null, ckW_int, ckW_ref, ckW_null, cI_ok, cR_ok, cR_null, cV_ok, cJ_ok, qH_eq, qD_in, aG_ref, aS_ref, aL_ref, pF_ref, cK_ref, cK_null, zI_lit, zJ_lit, zI_add, zI_sub, zI_mul, zI_neg, zI_eq, zI_lt, zI_le, Int.reduceLT, Int.reduceLE, Int.reduceAdd, Int.reduceSub, Int.reduceMul, Int.reduceNeg, Int.reduceEq, Int.reduceNe, reduceIte, jf_in, pFc_in, aGi, aGb, aSi, aLc_in, cKc_in, nA_in, jm_s1, jm_s2, jm_p1, jm_p2, jm_b, jn_b, jn_s, jn_p, jset_jset, jset_jpush2, ckR_is, ckr_is, rR_is, ckW_is, cR_is, obi2, ckW_int, eq_self, if_true, ref_null, if_false, ne_eq, not_true_eq_false, not_false_eq_true, decide_true, decide_false, decide_not, Bool.true_and, Bool.false_and, Bool.and_true, Bool.and_false, Bool.true_or, Bool.false_or, Bool.or_true, Bool.or_false, Bool.not_true, Bool.not_false, Bool.false_eq_true, bI_t, bI_f, Int.natCast_one, Int.cast_ofNat_Int, Int.natCast_zero, ju_self, ju_ne, o3_0, o3_1, o3_2, o3_3, o3_4, mm, f4, h1, sz, r1, cV_th]
  rw [if_neg (by omega)] at a4
  rw [if_neg c4]
  obtain ⟨w, r1, rfl, k1⟩ := a4
  have M1 := hM.fr a1
  obtain ⟨-, -, -, -, -, mm1, -⟩ := mvR k1
  obtain ⟨H2, i1, i2, i3, i4⟩ := rc_isName (d := d + 6) k1
  have i1' := (mm1 (d + 11)).trans i1
  have k2 := k1.no i2
  have M2' := M1.fr (i2.mono fun _ _ z => z.elim)
  have F2 : Fr H H2 (fun u => u = a) := a1.tr (i2.mono fun _ _ z => z.elim)
  obtain ⟨f2, mf, -, -, f24, -, -, -, -, -, -, w9, f9, s9⟩ := k2.fs
  obtain ⟨-, mn2, -, -, -, -, -, mg2, -⟩ := mvR k2
  have nd1 := fun b => rc_need (d := d + 6) k2 (b := b) (k := 1) (by omega) (by omega)
  have nd3 := fun b => rc_need (d := d + 6) k2 (b := b) (k := 3) (by omega) (by omega)
  cases hnm : isNm g z l (nxt g z l p) with
  | false =>
    rw [hnm, bZ_f] at i1'
    rw [if_pos rfl]
    have n1 := nd1 false
    rw [if_neg (by decide), bZ_f] at n1
    obtain ⟨H3, s1, s2, s3, s4, s5⟩ := n1
    have s1' := (mn2 (d + 11) _ _).trans s1
    refine ⟨H3, (F2.tr (s2.mono fun _ _ z => z.elim)).mono fun u _ z => by omega, by omega, by omega, Or.inl ⟨H2.1, ?_, s5⟩⟩
    simp (disch := first | assumption | omega | decide | exact okF_i | exact okF_r | exact okF_n | exact okF_j | rfl) only [jc_ref, rI_int, rR_ref, rR_null, rJ_long, ckR_ref, ckR_null, ckr_ref, ckr_null, ckW_int, ckW_ref, ckW_null, cI_ok, cR_ok, cR_null, cV_ok, cJ_ok, qH_eq, qD_in, aG_ref, aS_ref, aL_ref, pF_ref, cK_ref, cK_null, zI_lit, zJ_lit, zI_add, zI_sub, zI_mul, zI_neg, zI_eq, zI_lt, zI_le, Int.reduceLT, Int.reduceLE, Int.reduceAdd, Int.reduceSub, Int.reduceMul, Int.reduceNeg, Int.reduceEq, Int.reduceNe, reduceIte, jf_in, pFc_in, aGi, aGb, aSi, aLc_in, cKc_in, nA_in, jm_s1, jm_s2, jm_p1, jm_p2, jm_b, jn_b, jn_s, jn_p, jset_jset, jset_jpush2, ckR_is, ckr_is, rR_is, ckW_is, cR_is, obi2, ckW_int, eq_self, if_true, ref_null, if_false, ne_eq, not_true_eq_false, not_false_eq_true, decide_true, decide_false, decide_not, Bool.true_and, Bool.false_and, Bool.and_true, Bool.and_false, Bool.true_or, Bool.false_or, Bool.or_true, Bool.or_false, Bool.not_true, Bool.not_false, Bool.false_eq_true, bI_t, bI_f, Int.natCast_one, Int.cast_ofNat_Int, Int.natCast_zero, ju_self, ju_ne, o3_0, o3_1, o3_2, o3_3, o3_4, mm, f4, h1, sz, r1, i1', s1', cV_th]
  | true =>
  rw [hnm, bZ_t] at i1'
  rw [if_neg (by decide)]
  have n1 := nd1 true
  rw [if_pos rfl, bZ_t] at n1
  have n1' := (mn2 (d + 11) _ _).trans n1
  obtain ⟨sw, s1, s2, s3, s4⟩ := s9 (isNm_k hnm)
  have tf := c_tabFind (d := d + 8) (M2'.ns (Int.le_refl _)) s1 s3
  have fr := fnd_rg (f := fun t => decide (nmS nm t = pk sw)) (S 0).toNat 0
  have ef : fnd (fun k => decide (nm (20 + k) = wdv g z (nxt g z l p))) (S 0).toNat 0 = fnd (fun t => decide (nmS nm t = pk sw)) (S 0).toNat 0 := by
    congr 1
    funext c
    rw [nmS_at, s4]
  rw [ef]
  generalize fnd (fun t => decide (nmS nm t = pk sw)) (S 0).toNat 0 = vf at tf fr ⊢
  by_cases cv : 0 ≤ vf
  · rw [if_pos cv]
    have n3 := nd3 false
    rw [if_neg (by decide), bZ_f] at n3
    obtain ⟨H3, t1, t2, t3, t4, t5⟩ := n3
    have t1' := (mn2 (d + 11) _ _).trans t1
    have nv : ¬ vf = -1 := by omega
    refine ⟨H3, (F2.tr (t2.mono fun _ _ z => z.elim)).mono fun u _ z => by omega, by omega, by omega, Or.inl ⟨H2.1, ?_, t5⟩⟩
    simp (disch := first | assumption | omega | decide | exact okF_i | exact okF_r | exact okF_n | exact okF_j | rfl) only [jc_ref, rI_int, rR_ref, rR_null, rJ_long, ckR_ref, ckR_null, ckr_ref, ckr_null, ckW_int, ckW_ref, ckW_null, cI_ok, cR_ok, cR_null, cV_ok, cJ_ok, qH_eq, qD_in, aG_ref, aS_ref, aL_ref, pF_ref, cK_ref, cK_null, zI_lit, zJ_lit, zI_add, zI_sub, zI_mul, zI_neg, zI_eq, zI_lt, zI_le, Int.reduceLT, Int.reduceLE, Int.reduceAdd, Int.reduceSub, Int.reduceMul, Int.reduceNeg, Int.reduceEq, Int.reduceNe, reduceIte, jf_in, pFc_in, aGi, aGb, aSi, aLc_in, cKc_in, nA_in, jm_s1, jm_s2, jm_p1, jm_p2, jm_b, jn_b, jn_s, jn_p, jset_jset, jset_jpush2, ckR_is, ckr_is, rR_is, ckW_is, cR_is, obi2, ckW_int, eq_self, if_true, ref_null, if_false, ne_eq, not_true_eq_false, not_false_eq_true, decide_true, decide_false, decide_not, Bool.true_and, Bool.false_and, Bool.and_true, Bool.and_false, Bool.true_or, Bool.false_or, Bool.or_true, Bool.or_false, Bool.not_true, Bool.not_false, Bool.false_eq_true, bI_t, bI_f, Int.natCast_one, Int.cast_ofNat_Int, Int.natCast_zero, ju_self, ju_ne, o3_0, o3_1, o3_2, o3_3, o3_4, mm, f4, h1, sz, r1, i1', n1', mf, f24, f9, tf, nv, F9012_45, t1', cV_th]
  rw [if_neg cv]
  have ev : vf = -1 := by omega
  subst ev
  have n3 := nd3 true
  rw [if_pos rfl, bZ_t] at n3
  have n3' := (mn2 (d + 11) _ _).trans n3
  -- the table
  obtain ⟨H3, hH3⟩ : ∃ H3, H3 = jpush H2 (11, 4, o11 .null .null .null .null) := ⟨_, rfl⟩
  have m3 : jm H3 H2.1 = some (11, 4, o11 .null .null .null .null) := by rw [hH3]; exact jm_p1
  have f3 : Fr H2 H3 (fun _ => False) := by rw [hH3]; exact Fr.push
  have n3x : H3.1 = H2.1 + 1 ∧ H3.2.1 = H2.2.1 + 4 := by rw [hH3]; exact ⟨rfl, rfl⟩
  obtain ⟨H4, j1, j2, j3, j4, j5, j6, j7, j8⟩ := ck_11900 (d := d + 9) (w := w9) m3 n3x.1.symm
  have al2 : a < H2.1 := Nat.lt_of_lt_of_le al F2.1
  have mf3 : jm H3 a = some (9, n, f2) := (f3.2.2 _ al2 fun z => z).trans mf
  have f24' : Fr H2 H4 (fun _ => False) := f3.new (j2.mono fun u _ z => Or.inr (by omega))
  obtain ⟨S', hS'⟩ : ∃ S', S' = fset S (4 + S 0) 0 := ⟨_, rfl⟩
  obtain ⟨nm', hnm'⟩ : ∃ nm', nm' = fset nm (20 + S 0) (wdv g z (nxt g z l p)) := ⟨_, rfl⟩
  rw [← hS', ← hnm']
  have W' : HsW S' := by rw [hS']; exact W_col W (by omega) (Int.le_refl _) (by omega)
  have ee : ∀ i, i ≠ 4 + S 0 → S' i = S i := fun i hi => by rw [hS']; exact fset_ne hi
  have e4 : S' (4 + S 0) = 0 := by rw [hS']; exact fset_eq
  have M4 : SchM H4 a q (fun t => if t = S 0 then H2.1 else bt t) (S 0) (S 0 + 1) ln S' (nmS nm') := M2'.newT (w := w9) b2.1 (by omega) f24' (by omega) W' e4 ee j5 j6 j7 j8 s2 s3 (by rw [hnm', nmS_at, fset_eq, s4]) fun i hi => by rw [hnm', nmS_at, fset_ne (by omega), nmS_at]
  have k4 : RdC (Bs a q (fun t => if t = S 0 then H2.1 else bt t) (S 0 + 1)) H4 a 9 n tp q g z l x y (nxt g z l p) := by
    refine k2.more f24' (fun _ _ z => z.elim) (fun z => z) (fun u hu => ?_) fun u hu => ?_
    · rcases hu with z | z | ⟨t, t0, t1, t2, t3⟩
      · exact Or.inl (Or.inl z)
      · exact Or.inl (Or.inr (Or.inl z))
      · replace t2 : (if t = S 0 then H2.1 else bt t) ≤ u := t2
        replace t3 : u < (if t = S 0 then H2.1 else bt t) + 4 := t3
        by_cases c : t = S 0
        · rw [if_pos c] at t2 t3
          exact Or.inr (by omega)
        · rw [if_neg c] at t2 t3
          exact Or.inl (Or.inr (Or.inr ⟨t, t0, by omega, t2, t3⟩))
    · rcases hu with z | z | ⟨t, t0, t1, t2, t3⟩
      · exact Or.inl z
      · exact Or.inr (Or.inl z)
      · have c : t ≠ S 0 := by omega
        refine Or.inr (Or.inr ⟨t, t0, by omega, ?_, ?_⟩)
        · show (if t = S 0 then H2.1 else bt t) ≤ u
          rw [if_neg c]; exact t2
        · show u < (if t = S 0 then H2.1 else bt t) + 4
          rw [if_neg c]; exact t3
  obtain ⟨-, -, -, -, -, -, -, mg4, -⟩ := mvR k4
  obtain ⟨H5, g1, g2, g3, g4, k5⟩ := rc_go (d := d + 9) k4
  have g1' := (mg4 (d + 11)).trans g1
  have M5 := M4.fr g2
  obtain ⟨-, -, -, -, -, mm5, -⟩ := mvR k5
  obtain ⟨H6, l1, l2, l3, l4⟩ := rc_isName (d := d + 6) k5
  have l1' := (mm5 (d + 11)).trans l1
  have k6 := k5.no l2
  have M6 := M5.fr (l2.mono fun _ _ z => z.elim)
  obtain ⟨-, mn6, -⟩ := mvR k6
  have nd6 := fun b => rc_need (d := d + 6) k6 (b := b) (k := 1) (by omega) (by omega)
  have F6 : Fr H H6 (fun u => a ≤ u) := (((F2.tr (f24'.mono fun _ _ z => z.elim)).tr g2).tr (l2.mono fun _ _ z => z.elim)).mono fun u _ z => by omega
  have eb0 : (if S 0 = S 0 then H2.1 else bt (S 0)) = H2.1 := if_pos rfl
  have eS0 : S' 0 = S 0 := ee 0 (by omega)
  cases hn2 : isNm g z l (nxt g z l (nxt g z l p)) with
  | false =>
    rw [hn2, bZ_f] at l1'
    have n6 := nd6 false
    rw [if_neg (by decide), bZ_f] at n6
    obtain ⟨H7, t1, t2, t3, t4, t5⟩ := n6
    have t1' := (mn6 (d + 11) _ _).trans t1
    have er : colLoop g z l 6 S' nm' (S 0) (nxt g z l (nxt g z l p)) = .error (erx g z l (nxt g z l (nxt g z l p)) 1) := by
      unfold colLoop
      rw [if_neg (fun z => z.1 e4), if_pos hn2]
    rw [er]
    refine ⟨H7, F6.tr (t2.mono fun _ _ z => z.elim), by omega, by omega, Or.inl ⟨H6.1, ?_, t5⟩⟩
    simp (disch := first | assumption | omega | decide | exact okF_i | exact okF_r | exact okF_n | exact okF_j | rfl) only [jc_ref, rI_int, rR_ref, rR_null, rJ_long, ckR_ref, ckR_null, ckr_ref, ckr_null, ckW_int, ckW_ref, ckW_null, cI_ok, cR_ok, cR_null, cV_ok, cJ_ok, qH_eq, qD_in, aG_ref, aS_ref, aL_ref, pF_ref, cK_ref, cK_null, zI_lit, zJ_lit, zI_add, zI_sub, zI_mul, zI_neg, zI_eq, zI_lt, zI_le, Int.reduceLT, Int.reduceLE, Int.reduceAdd, Int.reduceSub, Int.reduceMul, Int.reduceNeg, Int.reduceEq, Int.reduceNe, reduceIte, jf_in, pFc_in, aGi, aGb, aSi, aLc_in, cKc_in, nA_in, jm_s1, jm_s2, jm_p1, jm_p2, jm_b, jn_b, jn_s, jn_p, jset_jset, jset_jpush2, ckR_is, ckr_is, rR_is, ckW_is, cR_is, obi2, ckW_int, eq_self, if_true, ref_null, if_false, ne_eq, not_true_eq_false, not_false_eq_true, decide_true, decide_false, decide_not, Bool.true_and, Bool.false_and, Bool.and_true, Bool.and_false, Bool.true_or, Bool.false_or, Bool.or_true, Bool.or_false, Bool.not_true, Bool.not_false, Bool.false_eq_true, bI_t, bI_f, Int.natCast_one, Int.cast_ofNat_Int, Int.natCast_zero, ju_self, ju_ne, o3_0, o3_1, o3_2, o3_3, o3_4, mm, f4, h1, sz, r1, i1', n1', mf, f24, f9, tf, F9012_45, n3', n11, o11s_0, o11s_1, o11s_2, o11s_3, ← hH3, mf3, j1, g1', l1', t1', cV_th]
  | true =>
    rw [hn2, bZ_t] at l1'
    have n6 := nd6 true
    rw [if_pos rfl, bZ_t] at n6
    have n6' := (mn6 (d + 11) _ _).trans n6
    have L := tb_loop (d := d) b2.1 (by omega) 6 S' nm' (nxt g z l (nxt g z l p)) H6 k6 M6 eS0 (by rw [e4]; omega) (fun _ => hn2)
    rw [eb0] at L
    have run : ∀ X : Rz, G2 (d + 11) 9012 74 [.ref a, .ref H2.1] [] H6 = X → zpR (jf (jc H (.ref a)) [9, 15, 27, 29] 4) (fun r1 => zpR (jf (jc H r1) [3] 1) (fun r2 => zcI (M2 (d + 11) 43017 [r2] H) (fun x3 h4 => zcV (M2 (d + 11) 9003 [.ref a, .int x3, .int 4] h4) (fun h6 => zcI (MvH (d + 11) 9118 [.ref a] h6) (fun x7 h8 => zcV (MvH (d + 11) 9114 [.ref a, .int x7, .int 1] h8) (fun h10 => zpR (jf (jc h10 (.ref a)) [9, 15, 27, 29] 4) (fun r11 => zpR (jf (jc h10 (.ref a)) [9, 15, 27, 29] 9) (fun r12 => zcI (M2 (d + 11) 3001 [r11, r12] h10) (fun x13 h14 => if x13 = (-1) then (G2 (d + 11) 9012 45 [.ref a, jno] [.int 1, .ref a] h14) else (G2 (d + 11) 9012 45 [.ref a, jno] [.int 0, .ref a] h14)) ()) ()) ()) ()) ()) ()) ()) ()) () = X := by
      intro X hX
      rw [← hX]
      simp (disch := first | assumption | omega | decide | exact okF_i | exact okF_r | exact okF_n | exact okF_j | rfl) only [jc_ref, rI_int, rR_ref, rR_null, rJ_long, ckR_ref, ckR_null, ckr_ref, ckr_null, ckW_int, ckW_ref, ckW_null, cI_ok, cR_ok, cR_null, cV_ok, cJ_ok, qH_eq, qD_in, aG_ref, aS_ref, aL_ref, pF_ref, cK_ref, cK_null, zI_lit, zJ_lit, zI_add, zI_sub, zI_mul, zI_neg, zI_eq, zI_lt, zI_le, Int.reduceLT, Int.reduceLE, Int.reduceAdd, Int.reduceSub, Int.reduceMul, Int.reduceNeg, Int.reduceEq, Int.reduceNe, reduceIte, jf_in, pFc_in, aGi, aGb, aSi, aLc_in, cKc_in, nA_in, jm_s1, jm_s2, jm_p1, jm_p2, jm_b, jn_b, jn_s, jn_p, jset_jset, jset_jpush2, ckR_is, ckr_is, rR_is, ckW_is, cR_is, obi2, ckW_int, eq_self, if_true, ref_null, if_false, ne_eq, not_true_eq_false, not_false_eq_true, decide_true, decide_false, decide_not, Bool.true_and, Bool.false_and, Bool.and_true, Bool.and_false, Bool.true_or, Bool.false_or, Bool.or_true, Bool.or_false, Bool.not_true, Bool.not_false, Bool.false_eq_true, bI_t, bI_f, Int.natCast_one, Int.cast_ofNat_Int, Int.natCast_zero, ju_self, ju_ne, o3_0, o3_1, o3_2, o3_3, o3_4, mm, f4, h1, sz, r1, i1', n1', mf, f24, f9, tf, F9012_45, n3', n11, o11s_0, o11s_1, o11s_2, o11s_3, ← hH3, mf3, j1, g1', l1', n6']
    rw [run _ rfl]
    exact CRm.wk (CRm.stp (c := 60) (s := 250) F6 (fun _ z => z) (by omega) (by omega) L) (fun _ z => z) (by omega) (by omega)
end
