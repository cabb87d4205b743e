/-! the component's reader of schemas: defaults, needs -/
-- jc_ref, rI_int, rR_ref, rR_null, rJ_long, ckR_ref, ckR_null, ckr_ref, ckr_null, ckW_int, ckW_ref, ckW_null, cI_ok, cR_ok, cR_null, cV_ok, cJ_ok, qH_eq, qD_in, aG_ref, aS_ref, aL_ref, pF_ref, cK_ref, cK_null, zI_lit, zJ_lit, zI_add, zI_sub, zI_mul, zI_neg, zI_eq, zI_lt, zI_le, Int.reduceLT, Int.reduceLE, Int.reduceAdd, Int.reduceSub, Int.reduceMul, Int.reduceNeg, Int.reduceEq, Int.reduceNe, reduceIte, jf_in, pFc_in, aGi, aGb, aSi, aLc_in, cKc_in, nA_in, jm_s1, jm_s2, jm_p1, jm_p2, jm_b, jn_b, jn_s, jn_p, jset_jset, jset_jpush2, ckR_is, ckr_is, rR_is, ckW_is, cR_is, obi2, ckW_int, eq_self, if_true, ref_null, if_false, ne_eq, not_true_eq_false, not_false_eq_true, decide_true, decide_false, decide_not, Bool.true_and, Bool.false_and, Bool.and_true, Bool.and_false, Bool.true_or, Bool.false_or, Bool.or_true, Bool.or_false, Bool.not_true, Bool.not_false, Bool.false_eq_true, bI_t, bI_f, Int.natCast_one, Int.cast_ofNat_Int, Int.natCast_zero, ju_self, ju_ne = jc_ref, rI_int, rR_ref, rR_null, rJ_long, ckR_ref, ckR_null, ckr_ref, ckr_null, ckW_int, ckW_ref, ckW_null, cI_ok, cR_ok, cR_null, cV_ok, cJ_ok, qH_eq, qD_in, aG_ref, aS_ref, aL_ref, pF_ref, cK_ref, cK_null, zI_lit, zJ_lit, zI_add, zI_sub, zI_mul, zI_neg, zI_eq, zI_lt, zI_le, Int.reduceLT, Int.reduceLE, Int.reduceAdd, Int.reduceSub, Int.reduceMul, Int.reduceNeg, Int.reduceEq, Int.reduceNe, reduceIte, jf_in, pFc_in, aGi, aGb, aSi, aLc_in, cKc_in, nA_in, jm_s1, jm_s2, jm_p1, jm_p2, jm_b, jn_b, jn_s, jn_p, jset_jset, jset_jpush2, ckR_is, ckr_is, rR_is, ckW_is, cR_is, obi2, ckW_int, eq_self, if_true, ref_null, if_false, ne_eq, not_true_eq_false, not_false_eq_true, decide_true, decide_false, decide_not, Bool.true_and, Bool.false_and, Bool.and_true, Bool.and_false, Bool.true_or, Bool.false_or, Bool.or_true, Bool.or_false, Bool.not_true, Bool.not_false, Bool.false_eq_true, bI_t, bI_f, Int.natCast_one, Int.cast_ofNat_Int, Int.natCast_zero, ju_self, ju_ne
section
variable {d : Nat} {H H2 : AH} {a b e q n tp c s c2 s2 tg : Nat} {m ln t tt but v : Int} {B P C : Nat → Prop} {S nm g : Int → Int} {bt : Int → Nat} {z l p : Int} {x y : Value} {f : Nat → Value}
/-- a table's column that a reader's word names; the reader stays -/
theorem rs_hold (h : RdC (Bs a q bt (S 0)) H a 9 n tp q g z l x y p) (hM : SchM H a q bt (S 0) (S 0) ln S (nmS nm)) (t0 : 0 ≤ t) (t1 : t < S 0) : CR (colP g z l S nm t p) (M2 (d + 7) 8005 [.ref a, .int (zI t), .int (zI (-1))] H) H (fun _ => False) 5 50 (fun v w H2 => w = some (.int (zI v)) ∧ RdC (Bs a q bt (S 0)) H2 a 9 n tp q g z l x y p ∧ SchM H2 a q bt (S 0) (S 0) ln S (nmS nm) ∧ 0 ≤ v ∧ v < S (4 + t) ∧ v < 4) := by
  have W := hM.2.2.2.2.2.2.2.2
  have b0 := W.1.2.1
  have bc := W.1.2.2.1 t t0 (by omega)
  obtain ⟨H2, a1, a2, a3, a4⟩ := rc_hold (d := d) (but := -1) h (hM.p (Int.le_refl _)) (by omega) t0 t1 bc.1 (by omega) (by omega)
  rw [hold_col] at a4
  refine ⟨H2, a1, a2, a3, ?_⟩
  cases hr : colP g z l S nm t p with
  | error er => rw [hr] at a4; exact a4
  | ok v =>
    rw [hr] at a4
    obtain ⟨w, r1, r2, r3, r4, r5, -, -⟩ := a4
    exact ⟨w, r1, r2, r3, hM.fr (a1.mono fun _ _ z => z.elim), r4, r5, by omega⟩
theorem rs_def (h : RdC (Bs a q bt (S 0)) H a 9 n tp q g z l x y p) (hM : SchM H a q bt (S 0) (S 0) ln S (nmS nm)) :
    CR (defP g z l S nm p) (M2 (d + 10) 9002 [.ref a] H) H (fun u => a ≤ u) 40 400 (LnK a n tp q g z l x y ln) := by
  obtain ⟨f, mm, e9, f4, al⟩ := rdc9 h
  have rv : (jtRecv 9002).elem 9 = true := rfl
  have W := hM.2.2.2.2.2.2.2.2
  have b0 := W.1.2.1
  obtain ⟨-, -, -, -, -, -, -, mg, -⟩ := mvR h
  obtain ⟨H1, a1, a2, a3, a4, k1⟩ := rc_go (d := d + 7) h
  have a1' := (mg (d + 9)).trans a1
  have M1 := hM.fr a2
  obtain ⟨-, -, mt, -⟩ := mvR k1
  rw [Y9002 H (jrecv_in mm rv), F9002_0]
  unfold defP
  obtain ⟨H2, c1, c2, c3, c4⟩ := rs_tab (d := d + 2) k1 M1
  have F2 := a2.tr c1
  cases ht : tabP g z l S nm (nxt g z l p) with
  | error er =>
    rw [ht] at c4
    obtain ⟨u, r3, r4⟩ := c4
    have r3' := (mt (d + 9)).trans r3
    rw [eb_er]
    refine ⟨H2, F2.mono fun u _ z => by omega, by omega, by omega, u, ?_, r4⟩
    simp (disch := first | assumption | omega | decide | exact okF_i | exact okF_r | exact okF_n | exact okF_j | rfl) only [jc_ref, rI_int, rR_ref, rR_null, rJ_long, ckR_ref, ckR_null, ckr_ref, ckr_null, ckW_int, ckW_ref, ckW_null, cI_ok, cR_ok, cR_null, cV_ok, cJ_ok, qH_eq, qD_in, aG_ref, aS_ref, aL_ref, pF_ref, cK_ref, cK_null, zI_lit, zJ_lit, zI_add, zI_sub, zI_mul, zI_neg, zI_eq, zI_lt, zI_le, Int.reduceLT, Int.reduceLE, Int.reduceAdd, Int.reduceSub, Int.reduceMul, Int.reduceNeg, Int.reduceEq, Int.reduceNe, reduceIte, jf_in, pFc_in, aGi, aGb, aSi, aLc_in, cKc_in, nA_in, jm_s1, jm_s2, jm_p1, jm_p2, jm_b, jn_b, jn_s, jn_p, jset_jset, jset_jpush2, ckR_is, ckr_is, rR_is, ckW_is, cR_is, obi2, ckW_int, eq_self, if_true, ref_null, if_false, ne_eq, not_true_eq_false, not_false_eq_true, decide_true, decide_false, decide_not, Bool.true_and, Bool.false_and, Bool.and_true, Bool.and_false, Bool.true_or, Bool.false_or, Bool.or_true, Bool.or_false, Bool.not_true, Bool.not_false, Bool.false_eq_true, bI_t, bI_f, Int.natCast_one, Int.cast_ofNat_Int, Int.natCast_zero, ju_self, ju_ne, a1', r3', cI_th]
  | ok t =>
    rw [ht] at c4
    obtain ⟨w, r3, rfl, k2, M2', t0, t1, t2, t3⟩ := c4
    have r3' := (mt (d + 9)).trans r3
    rw [eb_ok]
    obtain ⟨-, -, -, -, -, -, -, -, mh, -⟩ := mvR k2
    obtain ⟨H3, d1, d2, d3, d4⟩ := rs_hold (d := d + 2) k2 M2' t0 t1
    have F3 := F2.tr (d1.mono fun _ _ z => z.elim)
    cases hc : colP g z l S nm t (nxt g z l (nxt g z l p)) with
    | error er =>
      rw [hc] at d4
      obtain ⟨u, r5, r6⟩ := d4
      have r5' := (mh (d + 9) _ _).trans r5
      rw [eb_er]
      refine ⟨H3, F3.mono fun u _ z => by omega, by omega, by omega, u, ?_, r6⟩
      simp (disch := first | assumption | omega | decide | exact okF_i | exact okF_r | exact okF_n | exact okF_j | rfl) only [jc_ref, rI_int, rR_ref, rR_null, rJ_long, ckR_ref, ckR_null, ckr_ref, ckr_null, ckW_int, ckW_ref, ckW_null, cI_ok, cR_ok, cR_null, cV_ok, cJ_ok, qH_eq, qD_in, aG_ref, aS_ref, aL_ref, pF_ref, cK_ref, cK_null, zI_lit, zJ_lit, zI_add, zI_sub, zI_mul, zI_neg, zI_eq, zI_lt, zI_le, Int.reduceLT, Int.reduceLE, Int.reduceAdd, Int.reduceSub, Int.reduceMul, Int.reduceNeg, Int.reduceEq, Int.reduceNe, reduceIte, jf_in, pFc_in, aGi, aGb, aSi, aLc_in, cKc_in, nA_in, jm_s1, jm_s2, jm_p1, jm_p2, jm_b, jn_b, jn_s, jn_p, jset_jset, jset_jpush2, ckR_is, ckr_is, rR_is, ckW_is, cR_is, obi2, ckW_int, eq_self, if_true, ref_null, if_false, ne_eq, not_true_eq_false, not_false_eq_true, decide_true, decide_false, decide_not, Bool.true_and, Bool.false_and, Bool.and_true, Bool.and_false, Bool.true_or, Bool.false_or, Bool.or_true, Bool.or_false, Bool.not_true, Bool.not_false, Bool.false_eq_true, bI_t, bI_f, Int.natCast_one, Int.cast_ofNat_Int, Int.natCast_zero, ju_self, ju_ne, a1', r3', r5', cI_th]
    | ok c =>
      rw [hc] at d4
      obtain ⟨w, r5, rfl, k3, M3, v0, v1, v4⟩ := d4
      have r5' := (mh (d + 9) _ _).trans r5
      rw [eb_ok]
      obtain ⟨f3, mm3, -, f43, al3⟩ := rdc9 k3
      obtain ⟨o3', h31, h32, -, -, -, h36, -⟩ := id M3
      obtain ⟨b, eb', gt⟩ := h32.gt t0 t1 (by omega)
      subst eb'
      have gt' := gt (d + 8)
      obtain ⟨⟨qn, tb, -⟩, -, ⟨gd, tg, tg2⟩, -⟩ := h36 t t0 t1
      have gc := tg2 c v0 v4
      obtain ⟨-, mn, -⟩ := mvR k3
      have nd := fun b => rc_need (d := d + 4) k3 (b := b) (k := 3) (by omega) (by omega)
      have e11 : ([11] : List Nat).elem 11 = true := rfl
      have bd := W.1.1 (8 + 4 * t + c) (by omega) (by omega)
      by_cases cd : 0 ≤ S (8 + 4 * t + c)
      · have n1 := nd false
        rw [if_neg (by decide), bZ_f] at n1
        obtain ⟨H4, s1, s2, s3, s4, s5⟩ := n1
        have s1' := (mn (d + 9) _ _).trans s1
        rw [if_pos cd]
        have nv : ¬ S (8 + 4 * t + c) = -1 := by omega
        refine ⟨H4, (F3.tr (s2.mono fun _ _ z => z.elim)).mono fun u _ z => by omega, by omega, by omega, H3.1, ?_, s5⟩
        simp (disch := first | assumption | omega | decide | exact okF_i | exact okF_r | exact okF_n | exact okF_j | rfl) only [jc_ref, rI_int, rR_ref, rR_null, rJ_long, ckR_ref, ckR_null, ckr_ref, ckr_null, ckW_int, ckW_ref, ckW_null, cI_ok, cR_ok, cR_null, cV_ok, cJ_ok, qH_eq, qD_in, aG_ref, aS_ref, aL_ref, pF_ref, cK_ref, cK_null, zI_lit, zJ_lit, zI_add, zI_sub, zI_mul, zI_neg, zI_eq, zI_lt, zI_le, Int.reduceLT, Int.reduceLE, Int.reduceAdd, Int.reduceSub, Int.reduceMul, Int.reduceNeg, Int.reduceEq, Int.reduceNe, reduceIte, jf_in, pFc_in, aGi, aGb, aSi, aLc_in, cKc_in, nA_in, jm_s1, jm_s2, jm_p1, jm_p2, jm_b, jn_b, jn_s, jn_p, jset_jset, jset_jpush2, ckR_is, ckr_is, rR_is, ckW_is, cR_is, obi2, ckW_int, eq_self, if_true, ref_null, if_false, ne_eq, not_true_eq_false, not_false_eq_true, decide_true, decide_false, decide_not, Bool.true_and, Bool.false_and, Bool.and_true, Bool.and_false, Bool.true_or, Bool.false_or, Bool.or_true, Bool.or_false, Bool.not_true, Bool.not_false, Bool.false_eq_true, bI_t, bI_f, Int.natCast_one, Int.cast_ofNat_Int, Int.natCast_zero, ju_self, ju_ne, o3_0, o3_1, o3_2, o3_3, o3_4, o11_0, o11_1, o11_2, o11_3, a1', r3', r5', mm3, f43, h31, gt', tb, tg, gc, nv, F9002_45, s1', cV_th]
      · have n1 := nd true
        rw [if_pos rfl, bZ_t] at n1
        have s1' := (mn (d + 9) _ _).trans n1
        rw [if_neg cd]
        have ev : S (8 + 4 * t + c) = -1 := by omega
        obtain ⟨-, -, -, -, -, -, -, mg3, -⟩ := mvR k3
        obtain ⟨H4, g1, g2, g3, g4, k4⟩ := rc_go (d := d + 7) k3
        have g1' := (mg3 (d + 9)).trans g1
        have M4 := M3.fr g2
        have F4 := F3.tr g2
        obtain ⟨f5, mm5, -, f45, al5⟩ := rdc9 k4
        obtain ⟨o4', h41, h42, -, -, -, h46, -⟩ := id M4
        obtain ⟨b, eb', gt4⟩ := h42.gt t0 t1 (by omega)
        subst eb'
        have gt4' := gt4 (d + 8)
        obtain ⟨⟨qn4, tb4, -⟩, -⟩ := h46 t t0 t1
        obtain ⟨-, -, -, -, -, -, mnum, -⟩ := mvR k4
        obtain ⟨H5, i1, i2, i3, i4⟩ := rc_number (d := d + 2) k4 (low := 0) (high := 99) (by omega) (by omega) (by omega) (by omega)
        have F5 := F4.tr i1
        cases hv : numP g z l 0 99 (nxt g z l (nxt g z l (nxt g z l p))) with
        | error er =>
          rw [hv] at i4
          obtain ⟨u, r7, r8⟩ := i4
          have r7' := (mnum (d + 9) _ _).trans r7
          rw [eb_er]
          refine ⟨H5, F5.mono fun u _ z => by omega, by omega, by omega, u, ?_, r8⟩
          simp (disch := first | assumption | omega | decide | exact okF_i | exact okF_r | exact okF_n | exact okF_j | rfl) only [jc_ref, rI_int, rR_ref, rR_null, rJ_long, ckR_ref, ckR_null, ckr_ref, ckr_null, ckW_int, ckW_ref, ckW_null, cI_ok, cR_ok, cR_null, cV_ok, cJ_ok, qH_eq, qD_in, aG_ref, aS_ref, aL_ref, pF_ref, cK_ref, cK_null, zI_lit, zJ_lit, zI_add, zI_sub, zI_mul, zI_neg, zI_eq, zI_lt, zI_le, Int.reduceLT, Int.reduceLE, Int.reduceAdd, Int.reduceSub, Int.reduceMul, Int.reduceNeg, Int.reduceEq, Int.reduceNe, reduceIte, jf_in, pFc_in, aGi, aGb, aSi, aLc_in, cKc_in, nA_in, jm_s1, jm_s2, jm_p1, jm_p2, jm_b, jn_b, jn_s, jn_p, jset_jset, jset_jpush2, ckR_is, ckr_is, rR_is, ckW_is, cR_is, obi2, ckW_int, eq_self, if_true, ref_null, if_false, ne_eq, not_true_eq_false, not_false_eq_true, decide_true, decide_false, decide_not, Bool.true_and, Bool.false_and, Bool.and_true, Bool.and_false, Bool.true_or, Bool.false_or, Bool.or_true, Bool.or_false, Bool.not_true, Bool.not_false, Bool.false_eq_true, bI_t, bI_f, Int.natCast_one, Int.cast_ofNat_Int, Int.natCast_zero, ju_self, ju_ne, o3_0, o3_1, o3_2, o3_3, o3_4, o11_0, o11_1, o11_2, o11_3, a1', r3', r5', mm3, f43, h31, gt', tb, tg, gc, ev, F9002_45, s1', g1', mm5, f45, h41, gt4', tb4, r7', cI_th]
        | ok v =>
          rw [hv] at i4
          obtain ⟨w, r7, rfl, k5⟩ := i4
          have r7' := (mnum (d + 9) _ _).trans r7
          rw [eb_ok]
          have M5 := M4.fr i1
          obtain ⟨⟨qn5, tb5, nb5⟩, tc5, ⟨gd5, tg5, tg6⟩, tw5⟩ := M5.2.2.2.2.2.2.1 t t0 t1
          obtain ⟨H6, hH6⟩ : ∃ H6, H6 = jset H5 (bt t + 2) (1000, 4, aI (fset gd5 c v)) := ⟨_, rfl⟩
          have f6 : Fr H5 H6 (fun u => u = bt t + 2) := by rw [hH6]; exact Fr.set rfl
          have n6 : H6.1 = H5.1 ∧ H6.2.1 = H5.2.1 := by rw [hH6]; exact ⟨rfl, rfl⟩
          have ou := M5.1.out t0 t1 (i := 2) (by omega)
          have hk : defP g z l S nm p = .ok (fset S (8 + 4 * t + c) v, nm, nxt g z l (nxt g z l (nxt g z l (nxt g z l p)))) := by unfold defP; rw [ht, eb_ok, hc, eb_ok, if_neg cd, hv, eb_ok]
          obtain ⟨W', -⟩ := def_W W hk
          have ee : ∀ i, i ≠ 8 + 4 * t + c → fset S (8 + 4 * t + c) v i = S i := fun i hi => fset_ne hi
          have k6 := k5.fr f6 (fun u _ z => Or.inr (Or.inr ⟨t, t0, t1, by omega⟩)) (by omega)
          have m6 : jm H6 (bt t + 2) = some (1000, 4, aI (fset gd5 c v)) := by rw [hH6]; exact jm_s1
          have om : ∀ i, i < 4 → i ≠ 2 → jm H6 (bt t + i) = jm H5 (bt t + i) := fun i i0 i1 => f6.2.2 _ (M5.1.out t0 t1 i0).1 (by omega)
          have sb : Sub (Fz (Bs a q bt (S 0)) H5) (Fz (Bs a q bt (S 0)) H6) := Fz_sub f6 fun u _ z => Or.inr (Or.inr ⟨t, t0, t1, by omega⟩)
          have bb := b0
          refine ⟨H6, (F5.mono fun u _ z => by omega).tr (f6.mono fun u _ z => by omega), by omega, by omega, none, ?_, rfl, bt, ?_⟩
          · simp (disch := first | assumption | omega | decide | exact okF_i | exact okF_r | exact okF_n | exact okF_j | rfl) only [jc_ref, rI_int, rR_ref, rR_null, rJ_long, ckR_ref, ckR_null, ckr_ref, ckr_null, ckW_int, ckW_ref, ckW_null, cI_ok, cR_ok, cR_null, cV_ok, cJ_ok, qH_eq, qD_in, aG_ref, aS_ref, aL_ref, pF_ref, cK_ref, cK_null, zI_lit, zJ_lit, zI_add, zI_sub, zI_mul, zI_neg, zI_eq, zI_lt, zI_le, Int.reduceLT, Int.reduceLE, Int.reduceAdd, Int.reduceSub, Int.reduceMul, Int.reduceNeg, Int.reduceEq, Int.reduceNe, reduceIte, jf_in, pFc_in, aGi, aGb, aSi, aLc_in, cKc_in, nA_in, jm_s1, jm_s2, jm_p1, jm_p2, jm_b, jn_b, jn_s, jn_p, jset_jset, jset_jpush2, ckR_is, ckr_is, rR_is, ckW_is, cR_is, obi2, ckW_int, eq_self, if_true, ref_null, if_false, ne_eq, not_true_eq_false, not_false_eq_true, decide_true, decide_false, decide_not, Bool.true_and, Bool.false_and, Bool.and_true, Bool.and_false, Bool.true_or, Bool.false_or, Bool.or_true, Bool.or_false, Bool.not_true, Bool.not_false, Bool.false_eq_true, bI_t, bI_f, Int.natCast_one, Int.cast_ofNat_Int, Int.natCast_zero, ju_self, ju_ne, o3_0, o3_1, o3_2, o3_3, o3_4, o11_0, o11_1, o11_2, o11_3, a1', r3', r5', mm3, f43, h31, gt', tb, tg, gc, ev, F9002_45, s1', g1', mm5, f45, h41, gt4', tb4, r7', tg5]
            rw [hH6]
          show RdC (Bs a q bt (fset S (8 + 4 * t + c) v 0)) H6 a 9 n tp q g z l x y _ ∧ SchM H6 a q bt (fset S (8 + 4 * t + c) v 0) (fset S (8 + 4 * t + c) v 0) ln (fset S (8 + 4 * t + c) v) (nmS nm)
          rw [ee 0 (by omega)]
          refine ⟨k6, M5.upT f6 t0 t1 (fun u z => Or.inr (by omega)) W' (fun i hi => ee i (by omega)) (fun t' n1 z0 z1 => ⟨ee _ (by omega), fun c' c0 c1 => ⟨ee _ (by omega), ee _ (by omega)⟩⟩) (fun _ _ _ _ => ⟨rfl, fun _ _ _ => rfl⟩) ?_ (by omega)⟩
          obtain ⟨s1, s2, s3, s4⟩ := nb5
          obtain ⟨s5, s6, s7⟩ := tw5
          refine ⟨⟨qn5, (om 0 (by omega) (by omega)).trans tb5, s1, s2.sub sb, s3, s4⟩, ?_, ⟨_, m6, fun c' c0 c1 => ?_⟩, s5, (om 3 (by omega) (by omega)).trans s6, fun c' c0 c1 => by rw [ee _ (by omega)]; exact s7 c' c0 c1⟩
          · rw [ee _ (by omega)]
            exact tc5.up (om 1 (by omega) (by omega)) fun k u k0 k1 ⟨s8, x1, x2⟩ => ⟨s8, x1.sub sb, x2⟩
          · by_cases cc : c' = c
            · rw [cc, fset_eq, fset_eq]
            · rw [fset_ne cc, ee _ (by omega)]; exact tg6 c' c0 c1
end
