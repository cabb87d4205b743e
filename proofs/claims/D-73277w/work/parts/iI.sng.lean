/-! the component's reader of sentences: a sentence, whole -/
-- jc_ref, rI_int, rR_ref, rR_null, rJ_long, ckR_ref, ckR_null, ckr_ref, ckr_null, ckW_int, ckW_ref, ckW_null, cI_ok, cR_ok, cR_null, cV_ok, cJ_ok, qH_eq, qD_in, aG_ref, aS_ref, aL_ref, pF_ref, cK_ref, cK_null, zI_lit, zJ_lit, zI_add, zI_sub, zI_mul, zI_neg, zI_eq, zI_lt, zI_le, Int.reduceLT, Int.reduceLE, Int.reduceAdd, Int.reduceSub, Int.reduceMul, Int.reduceNeg, Int.reduceEq, Int.reduceNe, reduceIte, jf_in, pFc_in, aGi, aGb, aSi, aLc_in, cKc_in, nA_in, jm_s1, jm_s2, jm_p1, jm_p2, jm_b, jn_b, jn_s, jn_p, jset_jset, jset_jpush2, ckR_is, ckr_is, rR_is, ckW_is, cR_is, obi2, ckW_int, eq_self, if_true, ref_null, if_false, ne_eq, not_true_eq_false, not_false_eq_true, decide_true, decide_false, decide_not, Bool.true_and, Bool.false_and, Bool.and_true, Bool.and_false, Bool.true_or, Bool.false_or, Bool.or_true, Bool.or_false, Bool.not_true, Bool.not_false, Bool.false_eq_true, bI_t, bI_f, Int.natCast_one, Int.cast_ofNat_Int, Int.natCast_zero, ju_self, ju_ne = jc_ref, rI_int, rR_ref, rR_null, rJ_long, ckR_ref, ckR_null, ckr_ref, ckr_null, ckW_int, ckW_ref, ckW_null, cI_ok, cR_ok, cR_null, cV_ok, cJ_ok, qH_eq, qD_in, aG_ref, aS_ref, aL_ref, pF_ref, cK_ref, cK_null, zI_lit, zJ_lit, zI_add, zI_sub, zI_mul, zI_neg, zI_eq, zI_lt, zI_le, Int.reduceLT, Int.reduceLE, Int.reduceAdd, Int.reduceSub, Int.reduceMul, Int.reduceNeg, Int.reduceEq, Int.reduceNe, reduceIte, jf_in, pFc_in, aGi, aGb, aSi, aLc_in, cKc_in, nA_in, jm_s1, jm_s2, jm_p1, jm_p2, jm_b, jn_b, jn_s, jn_p, jset_jset, jset_jpush2, ckR_is, ckr_is, rR_is, ckW_is, cR_is, obi2, ckW_int, eq_self, if_true, ref_null, if_false, ne_eq, not_true_eq_false, not_false_eq_true, decide_true, decide_false, decide_not, Bool.true_and, Bool.false_and, Bool.and_true, Bool.and_false, Bool.true_or, Bool.false_or, Bool.or_true, Bool.or_false, Bool.not_true, Bool.not_false, Bool.false_eq_true, bI_t, bI_f, Int.natCast_one, Int.cast_ofNat_Int, Int.natCast_zero, ju_self, ju_ne
section
variable {d : Nat} {H H2 : AH} {a b n t tp sc e1 e2 : Nat} {z l p q v wi ones o1 : Int} {f f' : Nat → Value} {g : Int → Int} {B C P : Nat → Prop} {x y : Value} {S nm : Int → Int} {F : Nat → Option Cl}
theorem sn_make (K : RdK (Fz B H) (je H) tp g z 200) (hB : ∀ u, B u → u < H.1) : ∃ H2, M2 (d + 3) 29900 [.ref H.1, .ref tp, .int (zI z), .ref sc] (jpush H (29, 12, o29 .null 0 0 0 .null 0 0 0 0 .null 0 0)) = some (.inl none, H2) ∧ Fr H H2 (fun _ => False) ∧ H2.1 = H.1 + 1 ∧ H2.2.1 = H.2.1 + 12 ∧ RdN (fun u => B u ∨ u = H.1) H2 H.1 29 12 tp sc g z 200 (.int (zI 0)) (.int (zI 0)) := by
  obtain ⟨H1, hH1⟩ : ∃ H1, H1 = jpush H (29, 12, o29 .null 0 0 0 .null 0 0 0 0 .null 0 0) := ⟨_, rfl⟩
  have m1 : jm H1 H.1 = some (29, 12, o29 .null 0 0 0 .null 0 0 0 0 .null 0 0) := by rw [hH1]; exact jm_p1
  have f1 : Fr H H1 (fun _ => False) := by rw [hH1]; exact Fr.push
  have n1 : H1.1 = H.1 + 1 ∧ H1.2.1 = H.2.1 + 12 := by rw [hH1]; exact ⟨rfl, rfl⟩
  have K1 : RdK (Fz B H1) (je H1) tp g z 200 := by rw [f1.2.1]; exact K.sub (Fz_sub f1 fun _ _ z => z.elim)
  obtain ⟨f', j1, j2, j3, j4, j5, j6⟩ := c_reader (d := d) (z := z) (l := 200) (tp := tp) (sc := sc) m1 (Or.inr (Or.inr (Or.inr rfl))) rfl ⟨_, rfl⟩ K1.2.2.2.2
  obtain ⟨H2, hH2⟩ : ∃ H2, H2 = jset H1 H.1 (29, 12, f') := ⟨_, rfl⟩
  rw [← hH2] at j1 j2
  have n2 : H2.1 = H1.1 ∧ H2.2.1 = H1.2.1 := by rw [hH2]; exact ⟨rfl, rfl⟩
  have F2 : Fr H H2 (fun _ => False) := by rw [hH2]; exact f1.new (Fr.set (Or.inr (Nat.le_refl _)))
  have sub : Sub (Fz B H) (Fz (fun u => B u ∨ u = H.1) H2) := fun u c hu => by
    obtain ⟨lt, nb⟩ := Fz_lt hu
    exact Fz_in (by omega) (fun hb => by rcases hb with hb | hb; exact nb hb; omega) ((F2.2.2 u lt fun z => z).trans (Fz_F.m hu))
  refine ⟨H2, ?_, F2, by omega, by omega, by rw [F2.2.1]; exact K.sub sub, Or.inr rfl, fun u hu => ?_, f', j2, j3, j4, j5, j6⟩
  · have rv : (jtRecv 29900).elem 29 = true := rfl
    rw [← hH1, Y29900 H1 rfl rfl (jrecv_in m1 rv), F29900_0]
    simp (disch := first | assumption | omega | decide | exact okF_i | exact okF_r | exact okF_n | exact okF_j | rfl) only [jc_ref, rI_int, rR_ref, rR_null, rJ_long, ckR_ref, ckR_null, ckr_ref, ckr_null, ckW_int, ckW_ref, ckW_null, cI_ok, cR_ok, cR_null, cV_ok, cJ_ok, qH_eq, qD_in, aG_ref, aS_ref, aL_ref, pF_ref, cK_ref, cK_null, zI_lit, zJ_lit, zI_add, zI_sub, zI_mul, zI_neg, zI_eq, zI_lt, zI_le, Int.reduceLT, Int.reduceLE, Int.reduceAdd, Int.reduceSub, Int.reduceMul, Int.reduceNeg, Int.reduceEq, Int.reduceNe, reduceIte, jf_in, pFc_in, aGi, aGb, aSi, aLc_in, cKc_in, nA_in, jm_s1, jm_s2, jm_p1, jm_p2, jm_b, jn_b, jn_s, jn_p, jset_jset, jset_jpush2, ckR_is, ckr_is, rR_is, ckW_is, cR_is, obi2, ckW_int, eq_self, if_true, ref_null, if_false, ne_eq, not_true_eq_false, not_false_eq_true, decide_true, decide_false, decide_not, Bool.true_and, Bool.false_and, Bool.and_true, Bool.and_false, Bool.true_or, Bool.false_or, Bool.or_true, Bool.or_false, Bool.not_true, Bool.not_false, Bool.false_eq_true, bI_t, bI_f, Int.natCast_one, Int.cast_ofNat_Int, Int.natCast_zero, ju_self, ju_ne, j1]
  · rcases hu with hu | hu
    · have := hB u hu; omega
    · omega
set_option maxRecDepth 8000 in
/-- a sentence is read -/
theorem sn_read (h : RdN B H a 29 12 tp sc g z l (.int (zI 0)) (.int (zI 0))) (hS : SchP C H sc S nm) (ca : C a) (W : ScW S) : CR (senP g z l S nm) (M2 (d + 45) 29004 [.ref a] H) H (fun u => u = a) 1310 10900 (fun v w H2 => ∃ b p, w = some (.ref b) ∧ RdC B H2 a 29 12 tp sc g z l (.int (zI v.2)) (.int (zI 0)) p ∧ CondF (Fz B H2) S nm v.1.length b v.1 ∧ 1 ≤ v.2 ∧ v.2 ≤ 20) := by
  obtain ⟨f, m0⟩ : ∃ f, jm H a = some (29, 12, f) := by obtain ⟨-, -, -, f, h1, -⟩ := h; exact ⟨f, h1.1⟩
  have rv : (jtRecv 29004).elem 29 = true := rfl
  obtain ⟨H1, a1, a2, a3, a4, h1⟩ := rn_go (d := d + 42) h
  have mg : MvH (d + 44) 9124 [.ref a] H = M2 (d + 44) 8004 [.ref a] H := by simp only [MvH, m0]; rfl
  have mg' := mg.trans a1
  have OR := or_C ca (sa_C (nm := nm) ca W 8 (by omega)) (by omega) B H1 0 0 d h1 (hS.fr a2 fun u z => z ▸ ca) (by omega) (by omega)
  obtain ⟨H4, t1, t2⟩ := OR
  have F4 : Fr H H4 (fun u => u = a) := a2.tr t1
  have e9 : ([9, 15, 27, 29] : List Nat).elem 29 = true := rfl
  rw [Y29004 H (jrecv_in m0 rv), F29004_0, mg', cV_ok]
  unfold senP
  have dd : d + (10 + 4 * 8 + 2) = d + 44 := by omega
  rw [dd] at t2
  cases hr : orP g z l (saP g z l S nm 8) 0 0 with
  | error er =>
    rw [hr] at t2
    rw [eb_er]
    obtain ⟨⟨c1, c2⟩, u, r1, r2⟩ := t2
    exact ⟨H4, F4, by omega, by omega, u, by rw [r1, cR_th], r2⟩
  | ok vv =>
    rw [hr] at t2
    rw [eb_ok]
    obtain ⟨⟨c1, c2⟩, ⟨c3, c4⟩, sb, r1, k4, cd⟩ := t2
    obtain ⟨f4, m4, -, -, -, f45, -⟩ := k4.fs
    obtain ⟨-, -, mn4, -⟩ := mvS k4
    obtain ⟨-, -, c0, -⟩ := ckd_is (g := g) (z := z) (l := l) (q := vv.2.2)
    have cr := ckd_rg (g := g) (z := z) (l := l) (q := vv.2.2)
    rw [r1, cR_ok]
    by_cases k0 : kd g z l vv.2.2 = 0
    · rw [if_pos k0]
      have ck := c0.mpr k0
      rw [ck] at f45
      have nt := rc_need (d := d + 39) k4 (b := true) (k := 1) (by omega) (by omega)
      rw [if_pos rfl, bZ_t] at nt
      have nt' := (mn4 (d + 44) _ _).trans nt
      refine ⟨H4, F4, by omega, by omega, some (.ref sb), ?_, sb, vv.2.2, rfl, k4, cd, by show 1 ≤ vv.2.1; omega, c4⟩
      simp (disch := first | assumption | omega | decide | exact okF_i | exact okF_r | exact okF_n | exact okF_j | rfl) only [jc_ref, rI_int, rR_ref, rR_null, rJ_long, ckR_ref, ckR_null, ckr_ref, ckr_null, ckW_int, ckW_ref, ckW_null, cI_ok, cR_ok, cR_null, cV_ok, cJ_ok, qH_eq, qD_in, aG_ref, aS_ref, aL_ref, pF_ref, cK_ref, cK_null, zI_lit, zJ_lit, zI_add, zI_sub, zI_mul, zI_neg, zI_eq, zI_lt, zI_le, Int.reduceLT, Int.reduceLE, Int.reduceAdd, Int.reduceSub, Int.reduceMul, Int.reduceNeg, Int.reduceEq, Int.reduceNe, reduceIte, jf_in, pFc_in, aGi, aGb, aSi, aLc_in, cKc_in, nA_in, jm_s1, jm_s2, jm_p1, jm_p2, jm_b, jn_b, jn_s, jn_p, jset_jset, jset_jpush2, ckR_is, ckr_is, rR_is, ckW_is, cR_is, obi2, ckW_int, eq_self, if_true, ref_null, if_false, ne_eq, not_true_eq_false, not_false_eq_true, decide_true, decide_false, decide_not, Bool.true_and, Bool.false_and, Bool.and_true, Bool.and_false, Bool.true_or, Bool.false_or, Bool.or_true, Bool.or_false, Bool.not_true, Bool.not_false, Bool.false_eq_true, bI_t, bI_f, Int.natCast_one, Int.cast_ofNat_Int, Int.natCast_zero, ju_self, ju_ne, m4, f45, nt']
    · rw [if_neg k0]
      have ck : ¬ ckd g z l vv.2.2 = 0 := fun e => k0 (c0.mp e)
      have nt := rc_need (d := d + 39) k4 (b := false) (k := 1) (by omega) (by omega)
      rw [if_neg (by decide), bZ_f] at nt
      obtain ⟨H5, u1, u2, u3, u4, u5⟩ := nt
      have u1' := (mn4 (d + 44) _ _).trans u1
      refine ⟨H5, F4.tr (u2.mono fun _ _ z => z.elim), by omega, by omega, H4.1, ?_, u5⟩
      simp (disch := first | assumption | omega | decide | exact okF_i | exact okF_r | exact okF_n | exact okF_j | rfl) only [jc_ref, rI_int, rR_ref, rR_null, rJ_long, ckR_ref, ckR_null, ckr_ref, ckr_null, ckW_int, ckW_ref, ckW_null, cI_ok, cR_ok, cR_null, cV_ok, cJ_ok, qH_eq, qD_in, aG_ref, aS_ref, aL_ref, pF_ref, cK_ref, cK_null, zI_lit, zJ_lit, zI_add, zI_sub, zI_mul, zI_neg, zI_eq, zI_lt, zI_le, Int.reduceLT, Int.reduceLE, Int.reduceAdd, Int.reduceSub, Int.reduceMul, Int.reduceNeg, Int.reduceEq, Int.reduceNe, reduceIte, jf_in, pFc_in, aGi, aGb, aSi, aLc_in, cKc_in, nA_in, jm_s1, jm_s2, jm_p1, jm_p2, jm_b, jn_b, jn_s, jn_p, jset_jset, jset_jpush2, ckR_is, ckr_is, rR_is, ckW_is, cR_is, obi2, ckW_int, eq_self, if_true, ref_null, if_false, ne_eq, not_true_eq_false, not_false_eq_true, decide_true, decide_false, decide_not, Bool.true_and, Bool.false_and, Bool.and_true, Bool.and_false, Bool.true_or, Bool.false_or, Bool.or_true, Bool.or_false, Bool.not_true, Bool.not_false, Bool.false_eq_true, bI_t, bI_f, Int.natCast_one, Int.cast_ofNat_Int, Int.natCast_zero, ju_self, ju_ne, m4, f45, ck, u1', cV_th]
end
