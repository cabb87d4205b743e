/-! the component's reader of sentences: nots, brackets; any operand; a sentence -/
-- jc_ref, rI_int, rR_ref, rR_null, rJ_long, ckR_ref, ckR_null, ckr_ref, ckr_null, ckW_int, ckW_ref, ckW_null, cI_ok, cR_ok, cR_null, cV_ok, cJ_ok, qH_eq, qD_in, aG_ref, aS_ref, aL_ref, pF_ref, cK_ref, cK_null, zI_lit, zJ_lit, zI_add, zI_sub, zI_mul, zI_neg, zI_eq, zI_lt, zI_le, Int.reduceLT, Int.reduceLE, Int.reduceAdd, Int.reduceSub, Int.reduceMul, Int.reduceNeg, Int.reduceEq, Int.reduceNe, reduceIte, jf_in, pFc_in, aGi, aGb, aSi, aLc_in, cKc_in, nA_in, jm_s1, jm_s2, jm_p1, jm_p2, jm_b, jn_b, jn_s, jn_p, jset_jset, jset_jpush2, ckR_is, ckr_is, rR_is, ckW_is, cR_is, obi2, ckW_int, eq_self, if_true, ref_null, if_false, ne_eq, not_true_eq_false, not_false_eq_true, decide_true, decide_false, decide_not, Bool.true_and, Bool.false_and, Bool.and_true, Bool.and_false, Bool.true_or, Bool.false_or, Bool.or_true, Bool.or_false, Bool.not_true, Bool.not_false, Bool.false_eq_true, bI_t, bI_f, Int.natCast_one, Int.cast_ofNat_Int, Int.natCast_zero, ju_self, ju_ne = jc_ref, rI_int, rR_ref, rR_null, rJ_long, ckR_ref, ckR_null, ckr_ref, ckr_null, ckW_int, ckW_ref, ckW_null, cI_ok, cR_ok, cR_null, cV_ok, cJ_ok, qH_eq, qD_in, aG_ref, aS_ref, aL_ref, pF_ref, cK_ref, cK_null, zI_lit, zJ_lit, zI_add, zI_sub, zI_mul, zI_neg, zI_eq, zI_lt, zI_le, Int.reduceLT, Int.reduceLE, Int.reduceAdd, Int.reduceSub, Int.reduceMul, Int.reduceNeg, Int.reduceEq, Int.reduceNe, reduceIte, jf_in, pFc_in, aGi, aGb, aSi, aLc_in, cKc_in, nA_in, jm_s1, jm_s2, jm_p1, jm_p2, jm_b, jn_b, jn_s, jn_p, jset_jset, jset_jpush2, ckR_is, ckr_is, rR_is, ckW_is, cR_is, obi2, ckW_int, eq_self, if_true, ref_null, if_false, ne_eq, not_true_eq_false, not_false_eq_true, decide_true, decide_false, decide_not, Bool.true_and, Bool.false_and, Bool.and_true, Bool.and_false, Bool.true_or, Bool.false_or, Bool.or_true, Bool.or_false, Bool.not_true, Bool.not_false, Bool.false_eq_true, bI_t, bI_f, Int.natCast_one, Int.cast_ofNat_Int, Int.natCast_zero, ju_self, ju_ne
section
variable {d : Nat} {H H2 : AH} {a b n t tp sc e1 e2 : Nat} {z l p q v wi ones o1 : Int} {f f' : Nat → Value} {g : Int → Int} {B C P : Nat → Prop} {x y : Value} {S nm : Int → Int} {F : Nat → Option Cl}
set_option maxRecDepth 8000 in
theorem sn_not {D : Nat} {i3 i4 : Int32} {sa : Int → Int → Except Er SR} (hsa : SaC C a tp sc g z l S nm (wi + 1) D 29005 sa) (hD : ∃ e, d + 9 = e + D) (h : RdC B H a 29 12 tp sc g z l (.int (zI ones)) (.int (zI wi)) q) (hS : SchP C H sc S nm) (ca : C a) (o0 : 0 ≤ ones) (o1 : ones < 20) (w0 : 0 ≤ wi) (w8 : wi < 8) :
    SnC B a tp sc g z l S nm wi H ones (ones + 1) 4 (eb (sa (ones + 1) (nxt g z l q)) fun a => .ok (a.1 ++ [(20, 0, 0)], a.2)) (G2 (d + 9) 29005 140 [.ref a, .int (zI 0), .int (zI 1), .int i3, .int i4, jno, jno] [] H) := by
  obtain ⟨f, w, Ha, Hb, H1, mm, f10, f11, f9, hHa, hHb, go, g2, g3, g4, k1, kw⟩ := sn_up (d + 7) h
  obtain ⟨-, -, mn, -⟩ := mvS h
  have ma : jm Ha a = some (29, 12, ju f 10 (.int (zI (ones + 1)))) := by rw [hHa]; exact jm_s1
  have mb : jm Hb a = some (29, 12, ju (ju f 10 (.int (zI (ones + 1)))) 11 (.int (zI (wi + 1)))) := by rw [hHb]; exact jm_s1
  have e29 : ([29] : List Nat).elem 29 = true := rfl
  have e9 : ([9, 15, 27, 29] : List Nat).elem 29 = true := rfl
  have t29 : (([29] : List Nat).elem 29 && Nat.blt 29 100) = true := rfl
  have nd := rc_need (d := d + 4) h (b := true) (k := 4) (by omega) (by omega)
  rw [if_pos rfl, bZ_t] at nd
  have nd' := (mn (d + 9) _ _).trans nd
  have n20 : ¬ 20 ≤ ones := by omega
  have n8 : ¬ 8 ≤ wi := by omega
  have al1 := k1.2.2.1 a k1.2.1
  have S1 := hS.fr g2 fun u z => z ▸ ca
  obtain ⟨H3, hH3⟩ : ∃ H3, H3 = jpush H1 (31, 1, o31 .null) := ⟨_, rfl⟩
  obtain ⟨k3, -, f3, m3, n3, n3s⟩ := rc_obj (cl := (31, 1, o31 .null)) k1 S1
  rw [← hH3] at k3 f3 m3 n3 n3s
  have n3s : H3.2.1 = H1.2.1 + 1 := n3s
  have S3 : SchP C H3 sc S nm := S1.fr f3 fun _ z => z.elim
  obtain ⟨e, he⟩ := hD
  obtain ⟨H4, t1, t2⟩ := hsa (fun u => B u ∨ u = H1.1) H3 (ones + 1) (nxt g z l q) e k3 S3 (by omega) (by omega)
  have F4 : Fr H H4 (fun u => u = a) := (g2.tr (f3.mono fun _ _ z => z.elim)).tr t1
  have l4 := t1.1
  have pre : ∀ X : Rz, M2 (d + 9) 29005 [.ref a] H3 = X → G2 (d + 9) 29005 140 [.ref a, .int (zI 0), .int (zI 1), .int i3, .int i4, jno, jno] [] H = zcR X (fun r32 h33 => zcV (M2 (d + 9) 31900 [.ref H1.1, r32] h33) (fun h35 => zpI (jf (jm h35 a) [29] 11) (fun x36 => zqF h35 (.ref a) [29] 11 0 (.int (x36 - 1)) (fun h37 => some (.inl (some (.ref H1.1)), h37)) ()) ()) ()) () := by
    intro X hX
    rw [← hX, F29005_140]
    simp (disch := first | assumption | omega | decide | exact okF_i | exact okF_r | exact okF_n | exact okF_j | rfl) only [jc_ref, rI_int, rR_ref, rR_null, rJ_long, ckR_ref, ckR_null, ckr_ref, ckr_null, ckW_int, ckW_ref, ckW_null, cI_ok, cR_ok, cR_null, cV_ok, cJ_ok, qH_eq, qD_in, aG_ref, aS_ref, aL_ref, pF_ref, cK_ref, cK_null, zI_lit, zJ_lit, zI_add, zI_sub, zI_mul, zI_neg, zI_eq, zI_lt, zI_le, Int.reduceLT, Int.reduceLE, Int.reduceAdd, Int.reduceSub, Int.reduceMul, Int.reduceNeg, Int.reduceEq, Int.reduceNe, reduceIte, jf_in, pFc_in, aGi, aGb, aSi, aLc_in, cKc_in, nA_in, jm_s1, jm_s2, jm_p1, jm_p2, jm_b, jn_b, jn_s, jn_p, jset_jset, jset_jpush2, ckR_is, ckr_is, rR_is, ckW_is, cR_is, obi2, ckW_int, eq_self, if_true, ref_null, if_false, ne_eq, not_true_eq_false, not_false_eq_true, decide_true, decide_false, decide_not, Bool.true_and, Bool.false_and, Bool.and_true, Bool.and_false, Bool.true_or, Bool.false_or, Bool.or_true, Bool.or_false, Bool.not_true, Bool.not_false, Bool.false_eq_true, bI_t, bI_f, Int.natCast_one, Int.cast_ofNat_Int, Int.natCast_zero, ju_self, ju_ne, mm, f10, f11, n20, n8]
    rw [F29005_164]
    simp (disch := first | assumption | omega | decide | exact okF_i | exact okF_r | exact okF_n | exact okF_j | rfl) only [jc_ref, rI_int, rR_ref, rR_null, rJ_long, ckR_ref, ckR_null, ckr_ref, ckr_null, ckW_int, ckW_ref, ckW_null, cI_ok, cR_ok, cR_null, cV_ok, cJ_ok, qH_eq, qD_in, aG_ref, aS_ref, aL_ref, pF_ref, cK_ref, cK_null, zI_lit, zJ_lit, zI_add, zI_sub, zI_mul, zI_neg, zI_eq, zI_lt, zI_le, Int.reduceLT, Int.reduceLE, Int.reduceAdd, Int.reduceSub, Int.reduceMul, Int.reduceNeg, Int.reduceEq, Int.reduceNe, reduceIte, jf_in, pFc_in, aGi, aGb, aSi, aLc_in, cKc_in, nA_in, jm_s1, jm_s2, jm_p1, jm_p2, jm_b, jn_b, jn_s, jn_p, jset_jset, jset_jpush2, ckR_is, ckr_is, rR_is, ckW_is, cR_is, obi2, ckW_int, eq_self, if_true, ref_null, if_false, ne_eq, not_true_eq_false, not_false_eq_true, decide_true, decide_false, decide_not, Bool.true_and, Bool.false_and, Bool.and_true, Bool.and_false, Bool.true_or, Bool.false_or, Bool.or_true, Bool.or_false, Bool.not_true, Bool.not_false, Bool.false_eq_true, bI_t, bI_f, Int.natCast_one, Int.cast_ofNat_Int, Int.natCast_zero, ju_self, ju_ne, n31, nd', mm, f10, ← hHa, ma, f11, ← hHb, mb, f9, go, ← hH3]
  rw [he] at pre ⊢
  cases hr : sa (ones + 1) (nxt g z l q) with
  | error er =>
    rw [hr] at t2
    rw [eb_er]
    obtain ⟨⟨c1, c2⟩, u, r1, r2⟩ := t2
    exact ⟨H4, F4, ⟨by omega, by omega⟩, u, (pre _ r1).trans cR_th, r2⟩
  | ok vv =>
    rw [hr] at t2
    rw [eb_ok]
    obtain ⟨⟨c1, c2⟩, ⟨c3, c4⟩, sb, r1, k4, cd⟩ := t2
    have m4 : jm H4 H1.1 = some (31, 1, o31 .null) := (t1.2.2 _ (by omega) (by omega)).trans m3
    have ck := ck_31900 (d := d + 6) (e1 := sb) m4
    rw [show d + 6 + 3 = e + D from he] at ck
    obtain ⟨H5, hH5⟩ : ∃ H5, H5 = jset H4 H1.1 (31, 1, o31 (.ref sb)) := ⟨_, rfl⟩
    rw [← hH5] at ck
    have m5 : jm H5 H1.1 = some (31, 1, o31 (.ref sb)) := by rw [hH5]; exact jm_s1
    have f5 : Fr H4 H5 (fun u => u = H1.1) := by rw [hH5]; exact Fr.set rfl
    have n5 : H5.1 = H4.1 ∧ H5.2.1 = H4.2.1 := by rw [hH5]; exact ⟨rfl, rfl⟩
    have F5 : Fr H H5 (fun u => u = a) := F4.new (f5.mono fun u _ z => Or.inr (by have := g2.1; omega))
    have k5 := (k4.fr f5 (fun u _ z => Or.inr z) (by omega)).less (fun u hu => Or.inl hu) h.2.1
    obtain ⟨f6, H6, m6, f6e, r6, f6r, n6, n6s, k6⟩ := sn_dec (wi := wi) k5 rfl
    have nb : ¬ B H1.1 := fun hb => by have := k1.2.2.1 _ hb; omega
    have sb2 : Sub (Fz (fun u => B u ∨ u = H1.1) H4) (Fz B H6) := ((Fz_sub f5 fun u _ z => Or.inr z).tr (sub_less fun u hu => Or.inl hu)).tr (Fz_sub f6r fun u _ z => z ▸ h.2.1)
    refine ⟨H6, F5.tr f6r, ⟨by show (H6.1 : Int) + 60 * ones + 5 * 4 ≤ H.1 + 60 * vv.2.1; omega, by show (H6.2.1 : Int) + 500 * ones + 40 * 4 ≤ H.2.1 + 500 * vv.2.1; omega⟩, ⟨by show ones + 1 ≤ vv.2.1; omega, c4⟩, H1.1, ?_, k6, ?_⟩
    · rw [pre _ r1, cR_ok, ck, cV_ok]
      simp (disch := first | assumption | omega | decide | exact okF_i | exact okF_r | exact okF_n | exact okF_j | rfl) only [jc_ref, rI_int, rR_ref, rR_null, rJ_long, ckR_ref, ckR_null, ckr_ref, ckr_null, ckW_int, ckW_ref, ckW_null, cI_ok, cR_ok, cR_null, cV_ok, cJ_ok, qH_eq, qD_in, aG_ref, aS_ref, aL_ref, pF_ref, cK_ref, cK_null, zI_lit, zJ_lit, zI_add, zI_sub, zI_mul, zI_neg, zI_eq, zI_lt, zI_le, Int.reduceLT, Int.reduceLE, Int.reduceAdd, Int.reduceSub, Int.reduceMul, Int.reduceNeg, Int.reduceEq, Int.reduceNe, reduceIte, jf_in, pFc_in, aGi, aGb, aSi, aLc_in, cKc_in, nA_in, jm_s1, jm_s2, jm_p1, jm_p2, jm_b, jn_b, jn_s, jn_p, jset_jset, jset_jpush2, ckR_is, ckr_is, rR_is, ckW_is, cR_is, obi2, ckW_int, eq_self, if_true, ref_null, if_false, ne_eq, not_true_eq_false, not_false_eq_true, decide_true, decide_false, decide_not, Bool.true_and, Bool.false_and, Bool.and_true, Bool.and_false, Bool.true_or, Bool.false_or, Bool.or_true, Bool.or_false, Bool.not_true, Bool.not_false, Bool.false_eq_true, bI_t, bI_f, Int.natCast_one, Int.cast_ofNat_Int, Int.natCast_zero, ju_self, ju_ne, m6, f6e, r6]
    · show CondF (Fz B H6) S nm (vv.1 ++ [(20, 0, 0)]).length H1.1 (vv.1 ++ [(20, 0, 0)])
      rw [show (vv.1 ++ [((20 : Int), (0 : Int), (0 : Int))]).length = vv.1.length + 1 by simp]
      exact Or.inr (Or.inl ⟨sb, vv.1, Fz_in (by omega) nb ((f6r.2.2 _ (by omega) (by omega)).trans m5), rfl, CondF.sub sb2 _ cd⟩)
set_option maxRecDepth 8000 in
/-- in brackets -/
theorem sn_br {D : Nat} {i2 i3 i4 : Int32} {sa : Int → Int → Except Er SR} (hsa : SaC C a tp sc g z l S nm (wi + 1) D 29003 (orP g z l sa)) (hD : ∃ e, d + 8 = e + D) (h : RdC B H a 29 12 tp sc g z l (.int (zI ones)) (.int (zI wi)) q) (hS : SchP C H sc S nm) (ca : C a) (o0 : 0 ≤ ones) (o1 : ones < 20) (w0 : 0 ≤ wi) (w8 : wi < 8) :
    SnC B a tp sc g z l S nm wi H ones (ones + 1) 4 (eb (orP g z l sa (ones + 1) (nxt g z l q)) fun a => if isS g z l a.2.2 41 = true then .ok (a.1, a.2.1, nxt g z l a.2.2) else .error (erx g z l a.2.2 1)) (G2 (d + 9) 29005 140 [.ref a, .int (zI 1), .int i2, .int i3, .int i4, jno, jno] [] H) := by
  obtain ⟨f, w, Ha, Hb, H1, mm, f10, f11, f9, hHa, hHb, go, g2, g3, g4, k1, kw⟩ := sn_up (d + 7) h
  obtain ⟨-, -, mn, -⟩ := mvS h
  have ma : jm Ha a = some (29, 12, ju f 10 (.int (zI (ones + 1)))) := by rw [hHa]; exact jm_s1
  have mb : jm Hb a = some (29, 12, ju (ju f 10 (.int (zI (ones + 1)))) 11 (.int (zI (wi + 1)))) := by rw [hHb]; exact jm_s1
  have e29 : ([29] : List Nat).elem 29 = true := rfl
  have e9 : ([9, 15, 27, 29] : List Nat).elem 29 = true := rfl
  have t29 : (([29] : List Nat).elem 29 && Nat.blt 29 100) = true := rfl
  have nd := rc_need (d := d + 4) h (b := true) (k := 4) (by omega) (by omega)
  rw [if_pos rfl, bZ_t] at nd
  have nd' := (mn (d + 9) _ _).trans nd
  have n20 : ¬ 20 ≤ ones := by omega
  have n8 : ¬ 8 ≤ wi := by omega
  have al1 := k1.2.2.1 a k1.2.1
  have S1 := hS.fr g2 fun u z => z ▸ ca
  obtain ⟨e, he⟩ := hD
  obtain ⟨H4, t1, t2⟩ := hsa B H1 (ones + 1) (nxt g z l q) e k1 S1 (by omega) (by omega)
  have F4 : Fr H H4 (fun u => u = a) := g2.tr t1
  have l4 := t1.1
  obtain ⟨fm, mm1, -⟩ := k1.fs
  have rv : (jtRecv 29001).elem 29 = true := rfl
  have pre : G2 (d + 9) 29005 140 [.ref a, .int (zI 1), .int i2, .int i3, .int i4, jno, jno] [] H = zcR (M2 (d + 9) 29001 [.ref a] H1) (fun r38 h39 => zkR r38 (zpI (jf (jm h39 a) [29] 11) (fun x40 => zqF h39 (.ref a) [29] 11 0 (.int (x40 - 1)) (fun h41 => zkR r38 (ckR r38 (some (.inl (some r38), h41))) ()) ()) ()) ()) () := by
    rw [F29005_140]
    simp (disch := first | assumption | omega | decide | exact okF_i | exact okF_r | exact okF_n | exact okF_j | rfl) only [jc_ref, rI_int, rR_ref, rR_null, rJ_long, ckR_ref, ckR_null, ckr_ref, ckr_null, ckW_int, ckW_ref, ckW_null, cI_ok, cR_ok, cR_null, cV_ok, cJ_ok, qH_eq, qD_in, aG_ref, aS_ref, aL_ref, pF_ref, cK_ref, cK_null, zI_lit, zJ_lit, zI_add, zI_sub, zI_mul, zI_neg, zI_eq, zI_lt, zI_le, Int.reduceLT, Int.reduceLE, Int.reduceAdd, Int.reduceSub, Int.reduceMul, Int.reduceNeg, Int.reduceEq, Int.reduceNe, reduceIte, jf_in, pFc_in, aGi, aGb, aSi, aLc_in, cKc_in, nA_in, jm_s1, jm_s2, jm_p1, jm_p2, jm_b, jn_b, jn_s, jn_p, jset_jset, jset_jpush2, ckR_is, ckr_is, rR_is, ckW_is, cR_is, obi2, ckW_int, eq_self, if_true, ref_null, if_false, ne_eq, not_true_eq_false, not_false_eq_true, decide_true, decide_false, decide_not, Bool.true_and, Bool.false_and, Bool.and_true, Bool.and_false, Bool.true_or, Bool.false_or, Bool.or_true, Bool.or_false, Bool.not_true, Bool.not_false, Bool.false_eq_true, bI_t, bI_f, Int.natCast_one, Int.cast_ofNat_Int, Int.natCast_zero, ju_self, ju_ne, mm, f10, f11, n20, n8]
    rw [F29005_164]
    simp (disch := first | assumption | omega | decide | exact okF_i | exact okF_r | exact okF_n | exact okF_j | rfl) only [jc_ref, rI_int, rR_ref, rR_null, rJ_long, ckR_ref, ckR_null, ckr_ref, ckr_null, ckW_int, ckW_ref, ckW_null, cI_ok, cR_ok, cR_null, cV_ok, cJ_ok, qH_eq, qD_in, aG_ref, aS_ref, aL_ref, pF_ref, cK_ref, cK_null, zI_lit, zJ_lit, zI_add, zI_sub, zI_mul, zI_neg, zI_eq, zI_lt, zI_le, Int.reduceLT, Int.reduceLE, Int.reduceAdd, Int.reduceSub, Int.reduceMul, Int.reduceNeg, Int.reduceEq, Int.reduceNe, reduceIte, jf_in, pFc_in, aGi, aGb, aSi, aLc_in, cKc_in, nA_in, jm_s1, jm_s2, jm_p1, jm_p2, jm_b, jn_b, jn_s, jn_p, jset_jset, jset_jpush2, ckR_is, ckr_is, rR_is, ckW_is, cR_is, obi2, ckW_int, eq_self, if_true, ref_null, if_false, ne_eq, not_true_eq_false, not_false_eq_true, decide_true, decide_false, decide_not, Bool.true_and, Bool.false_and, Bool.and_true, Bool.and_false, Bool.true_or, Bool.false_or, Bool.or_true, Bool.or_false, Bool.not_true, Bool.not_false, Bool.false_eq_true, bI_t, bI_f, Int.natCast_one, Int.cast_ofNat_Int, Int.natCast_zero, ju_self, ju_ne, nd', mm, f10, ← hHa, ma, f11, ← hHb, mb, f9, go]
  have br := Y29001 (d := d + 8) H1 (jrecv_in mm1 rv)
  rw [F29001_0] at br
  rw [pre, br, he]
  cases hr : orP g z l sa (ones + 1) (nxt g z l q) with
  | error er =>
    rw [hr] at t2
    rw [eb_er]
    obtain ⟨⟨c1, c2⟩, u, r1, r2⟩ := t2
    exact ⟨H4, F4, ⟨by omega, by omega⟩, u, by rw [r1, cR_th, cR_th], r2⟩
  | ok vv =>
    rw [hr] at t2
    rw [eb_ok]
    obtain ⟨⟨c1, c2⟩, ⟨c3, c4⟩, sb, r1, k4, cd⟩ := t2
    obtain ⟨f4, m4, -, -, -, f45, -, -, f48, -⟩ := k4.fs
    obtain ⟨-, mg4, mn4, -⟩ := mvS k4
    obtain ⟨-, -, -, -, c5, c6⟩ := ckd_is (g := g) (z := z) (l := l) (q := vv.2.2)
    have cr := ckd_rg (g := g) (z := z) (l := l) (q := vv.2.2)
    rw [r1, cR_ok]
    by_cases hs : isS g z l vv.2.2 41 = true
    · rw [if_pos hs]
      simp only [isS, decide_eq_true_eq] at hs
      have k6 : ckd g z l vv.2.2 = 6 := c6.mpr ⟨hs.1, by omega⟩
      have f48' := f48 hs.1
      rw [k6] at f45
      rw [hs.2] at f48'
      have nt := rc_need (d := d + 3) k4 (b := true) (k := 1) (by omega) (by omega)
      rw [if_pos rfl, bZ_t] at nt
      have nt' : MvH (e + D) 9125 [.ref a, .int (zI 1), .int (zI 1)] H4 = some (.inl none, H4) := by rw [mn4, ← he]; exact nt
      obtain ⟨H5, u1, u2, u3, u4, k5⟩ := rc_go (d := d + 6) k4
      have u1' : MvH (e + D) 9124 [.ref a] H4 = some (.inl none, H5) := by rw [mg4, ← he]; exact u1
      obtain ⟨f6, H6, m6, f6e, r6, f6r, n6, n6s, k6'⟩ := sn_dec (wi := wi) k5 rfl
      have FF : Fr H4 H6 (fun u => u = a) := u2.tr f6r
      refine ⟨H6, F4.tr FF, ⟨by show (H6.1 : Int) + 60 * ones + 5 * 4 ≤ H.1 + 60 * vv.2.1; omega, by show (H6.2.1 : Int) + 500 * ones + 40 * 4 ≤ H.2.1 + 500 * vv.2.1; omega⟩, ⟨by show ones + 1 ≤ vv.2.1; omega, c4⟩, sb, ?_, k6', CondF.sub (Fz_sub FF fun u _ z => z ▸ h.2.1) _ cd⟩
      simp (disch := first | assumption | omega | decide | exact okF_i | exact okF_r | exact okF_n | exact okF_j | rfl) only [jc_ref, rI_int, rR_ref, rR_null, rJ_long, ckR_ref, ckR_null, ckr_ref, ckr_null, ckW_int, ckW_ref, ckW_null, cI_ok, cR_ok, cR_null, cV_ok, cJ_ok, qH_eq, qD_in, aG_ref, aS_ref, aL_ref, pF_ref, cK_ref, cK_null, zI_lit, zJ_lit, zI_add, zI_sub, zI_mul, zI_neg, zI_eq, zI_lt, zI_le, Int.reduceLT, Int.reduceLE, Int.reduceAdd, Int.reduceSub, Int.reduceMul, Int.reduceNeg, Int.reduceEq, Int.reduceNe, reduceIte, jf_in, pFc_in, aGi, aGb, aSi, aLc_in, cKc_in, nA_in, jm_s1, jm_s2, jm_p1, jm_p2, jm_b, jn_b, jn_s, jn_p, jset_jset, jset_jpush2, ckR_is, ckr_is, rR_is, ckW_is, cR_is, obi2, ckW_int, eq_self, if_true, ref_null, if_false, ne_eq, not_true_eq_false, not_false_eq_true, decide_true, decide_false, decide_not, Bool.true_and, Bool.false_and, Bool.and_true, Bool.and_false, Bool.true_or, Bool.false_or, Bool.or_true, Bool.or_false, Bool.not_true, Bool.not_false, Bool.false_eq_true, bI_t, bI_f, Int.natCast_one, Int.cast_ofNat_Int, Int.natCast_zero, ju_self, ju_ne, m4, f45, f48', nt', u1', m6, f6e, r6]
    · rw [if_neg hs]
      have nt := rc_need (d := d + 3) k4 (b := false) (k := 1) (by omega) (by omega)
      rw [if_neg (by decide), bZ_f] at nt
      obtain ⟨H5, u1, u2, u3, u4, u5⟩ := nt
      have u1' : MvH (e + D) 9125 [.ref a, .int (zI 0), .int (zI 1)] H4 = some (.inr H4.1, H5) := by rw [mn4, ← he]; exact u1
      refine ⟨H5, F4.tr (u2.mono fun _ _ z => z.elim), ⟨by omega, by omega⟩, H4.1, ?_, u5⟩
      by_cases k6 : ckd g z l vv.2.2 = 6
      · have f48' := f48 (c6.mp k6).1
        have ne : ¬ nmv g z vv.2.2 = 41 := fun e => hs (by simp only [isS]; exact decide_eq_true ⟨(c6.mp k6).1, e⟩)
        have rg := nmv_rg3 (c6.mp k6).1
        rw [k6] at f45
        simp (disch := first | assumption | omega | decide | exact okF_i | exact okF_r | exact okF_n | exact okF_j | rfl) only [jc_ref, rI_int, rR_ref, rR_null, rJ_long, ckR_ref, ckR_null, ckr_ref, ckr_null, ckW_int, ckW_ref, ckW_null, cI_ok, cR_ok, cR_null, cV_ok, cJ_ok, qH_eq, qD_in, aG_ref, aS_ref, aL_ref, pF_ref, cK_ref, cK_null, zI_lit, zJ_lit, zI_add, zI_sub, zI_mul, zI_neg, zI_eq, zI_lt, zI_le, Int.reduceLT, Int.reduceLE, Int.reduceAdd, Int.reduceSub, Int.reduceMul, Int.reduceNeg, Int.reduceEq, Int.reduceNe, reduceIte, jf_in, pFc_in, aGi, aGb, aSi, aLc_in, cKc_in, nA_in, jm_s1, jm_s2, jm_p1, jm_p2, jm_b, jn_b, jn_s, jn_p, jset_jset, jset_jpush2, ckR_is, ckr_is, rR_is, ckW_is, cR_is, obi2, ckW_int, eq_self, if_true, ref_null, if_false, ne_eq, not_true_eq_false, not_false_eq_true, decide_true, decide_false, decide_not, Bool.true_and, Bool.false_and, Bool.and_true, Bool.and_false, Bool.true_or, Bool.false_or, Bool.or_true, Bool.or_false, Bool.not_true, Bool.not_false, Bool.false_eq_true, bI_t, bI_f, Int.natCast_one, Int.cast_ofNat_Int, Int.natCast_zero, ju_self, ju_ne, m4, f45, f48', ne, u1', cV_th, cR_th]
      · simp (disch := first | assumption | omega | decide | exact okF_i | exact okF_r | exact okF_n | exact okF_j | rfl) only [jc_ref, rI_int, rR_ref, rR_null, rJ_long, ckR_ref, ckR_null, ckr_ref, ckr_null, ckW_int, ckW_ref, ckW_null, cI_ok, cR_ok, cR_null, cV_ok, cJ_ok, qH_eq, qD_in, aG_ref, aS_ref, aL_ref, pF_ref, cK_ref, cK_null, zI_lit, zJ_lit, zI_add, zI_sub, zI_mul, zI_neg, zI_eq, zI_lt, zI_le, Int.reduceLT, Int.reduceLE, Int.reduceAdd, Int.reduceSub, Int.reduceMul, Int.reduceNeg, Int.reduceEq, Int.reduceNe, reduceIte, jf_in, pFc_in, aGi, aGb, aSi, aLc_in, cKc_in, nA_in, jm_s1, jm_s2, jm_p1, jm_p2, jm_b, jn_b, jn_s, jn_p, jset_jset, jset_jpush2, ckR_is, ckr_is, rR_is, ckW_is, cR_is, obi2, ckW_int, eq_self, if_true, ref_null, if_false, ne_eq, not_true_eq_false, not_false_eq_true, decide_true, decide_false, decide_not, Bool.true_and, Bool.false_and, Bool.and_true, Bool.and_false, Bool.true_or, Bool.false_or, Bool.or_true, Bool.or_false, Bool.not_true, Bool.not_false, Bool.false_eq_true, bI_t, bI_f, Int.natCast_one, Int.cast_ofNat_Int, Int.natCast_zero, ju_self, ju_ne, m4, f45, k6, u1', cV_th, cR_th]
set_option maxRecDepth 8000 in
/-- any operand, by how deep it may be -/
theorem sa_C (ca : C a) (W : ScW S) : ∀ (n : Nat), n ≤ 8 → SaC C a tp sc g z l S nm (8 - n) (10 + 4 * n) 29005 (saP g z l S nm n) := by
  have front : ∀ (n : Nat) (wi : Int) (B : Nat → Prop) (H : AH) (ones q : Int) (d : Nat) (rest : Except Er SR), RdC B H a 29 12 tp sc g z l (.int (zI ones)) (.int (zI wi)) q → SchP C H sc S nm → 0 ≤ ones → ones ≤ 20 →
      (∀ H1, RdC B H1 a 29 12 tp sc g z l (.int (zI ones)) (.int (zI wi)) q → SchP C H1 sc S nm → ¬ (isW g z l q wNOT = false ∧ isS g z l q 40 = false ∧ leafZ g z l S nm q < 0) → ¬ leafZ g z l S nm q = 100 → SnC B a tp sc g z l S nm wi H1 ones (ones + 1) 4 rest (G2 (d + 9) 29005 140 [.ref a, .int (zI (bZ (isS g z l q 40))), .int (zI (bZ (isW g z l q wNOT))), .int (zI (whZ g z l q)), .int (zI (bZ (isW g z l q wIN))), jno, jno] [] H1)) →
      SnC B a tp sc g z l S nm wi H ones (ones + 1) 1 (if isW g z l q wNOT = false ∧ isS g z l q 40 = false ∧ leafZ g z l S nm q < 0 then .error (erx g z l q 1) else if leafZ g z l S nm q = 100 then .error (erx g z l q 3) else rest) (M2 (d + 10) 29005 [.ref a] H) := by
    intro n wi B H ones q d rest h hS o0 o2 hk
    obtain ⟨f, mm, -⟩ := h.fs
    have rv : (jtRecv 29005).elem 29 = true := rfl
    rw [Y29005 H (jrecv_in mm rv)]
    rcases sn_front (d := d) h hS W with ⟨e1, H1, u, r1, r2, F1, c1, c2⟩ | ⟨e1, e2, H1, u, r1, r2, F1, c1, c2⟩ | ⟨e1, e2, H1, fr, F1, c1, c2⟩
    · rw [if_pos e1]
      exact ⟨H1, F1.mono fun _ _ z => z.elim, ⟨by omega, by omega⟩, u, r1, r2⟩
    · rw [if_neg e1, if_pos e2]
      exact ⟨H1, F1.mono fun _ _ z => z.elim, ⟨by omega, by omega⟩, u, r1, r2⟩
    · rw [if_neg e1, if_neg e2, fr]
      exact (hk H1 (h.no F1) (hS.fr F1 fun _ z => z.elim) e1 e2).stp (F1.mono fun _ _ z => z.elim) (by omega) (by omega) (Int.le_refl _)
  have full : ∀ (wi : Int) (B : Nat → Prop) (H1 : AH) (ones q : Int) (d : Nat) (i1 i2 i3 i4 : Int32), RdC B H1 a 29 12 tp sc g z l (.int (zI ones)) (.int (zI wi)) q → (ones = 20 ∨ wi = 8) → 0 ≤ ones → ones ≤ 20 → 0 ≤ wi → wi ≤ 8 → SnC B a tp sc g z l S nm wi H1 ones (ones + 1) 4 (.error (erx g z l q 4)) (G2 (d + 9) 29005 140 [.ref a, .int i1, .int i2, .int i3, .int i4, jno, jno] [] H1) := by
    intro wi B H1 ones q d i1 i2 i3 i4 h hb o0 o2 w0 w8
    obtain ⟨H2, r1, r2, r3, r4, r5⟩ := sn_140f (d := d) (i1 := i1) (i2 := i2) (i3 := i3) (i4 := i4) h hb o0 o2 w0 w8
    exact ⟨H2, r2.mono fun _ _ z => z.elim, ⟨by omega, by omega⟩, H1.1, r1, r5⟩
  intro n
  induction n with
  | zero =>
    intro n8 B H ones q d h hS o0 o2
    show SnC B a tp sc g z l S nm (8 - ((0 : Nat) : Int)) H ones (ones + 1) 1 (if isW g z l q wNOT = false ∧ isS g z l q 40 = false ∧ leafZ g z l S nm q < 0 then .error (erx g z l q 1) else if leafZ g z l S nm q = 100 then .error (erx g z l q 3) else .error (erx g z l q 4)) (M2 (d + 10) 29005 [.ref a] H)
    exact front 0 _ B H ones q d _ h hS o0 o2 fun H1 k1 S1 e1 e2 => full _ B H1 ones q d _ _ _ _ k1 (Or.inr (by omega)) o0 o2 (by omega) (by omega)
  | succ n ih =>
    intro n8 B H ones q d h hS o0 o2
    have IH := ih (by omega)
    rw [show d + (10 + 4 * (n + 1)) = (d + 4 * n + 4) + 10 by omega]
    have wn : (8 - ((n + 1 : Nat) : Int)) + 1 = 8 - (n : Int) := by omega
    unfold saP
    refine front n _ B H ones q (d + 4 * n + 4) _ h hS o0 o2 fun H1 k1 S1 e1 e2 => ?_
    by_cases c20 : ones = 20
    · rw [if_pos c20]
      exact full _ B H1 ones q _ _ _ _ _ k1 (Or.inl c20) o0 o2 (by omega) (by omega)
    · rw [if_neg c20]
      have OR := or_C ca IH (by omega)
      cases e40 : isS g z l q 40 with
      | true =>
        rw [if_pos rfl, bZ_t]
        exact sn_br (d := d + 4 * n + 4) (D := 10 + 4 * n + 2) (by rw [wn]; exact OR) ⟨d, by omega⟩ k1 S1 ca o0 (by omega) (by omega) (by omega)
      | false =>
        rw [if_neg (by decide), bZ_f]
        cases en : isW g z l q wNOT with
        | true =>
          rw [if_pos rfl, bZ_t]
          exact sn_not (d := d + 4 * n + 4) (D := 10 + 4 * n) (by rw [wn]; exact IH) ⟨d + 3, by omega⟩ k1 S1 ca o0 (by omega) (by omega) (by omega)
        | false =>
          rw [if_neg (by decide), bZ_f]
          have lz : ¬ leafZ g z l S nm q < 0 := fun u => e1 ⟨en, e40, u⟩
          by_cases wh : whZ g z l q = -1
          · rw [wh]
            have wh' := wh
            unfold whZ at wh'
            have q2 : isW g z l q wBARE = false := by
              cases e : isW g z l q wBARE with
              | false => rfl
              | true => rw [e, if_pos rfl] at wh'; omega
            rw [q2, if_neg (by decide)] at wh'
            have q3 : isW g z l q wKNOWN = false := by
              cases e : isW g z l q wKNOWN with
              | false => rfl
              | true => rw [e, if_pos rfl] at wh'; omega
            rw [q3, if_neg (by decide)] at wh'
            have q4 : isW g z l q wBROKEN = false := by
              cases e : isW g z l q wBROKEN with
              | false => rfl
              | true => rw [e, if_pos rfl] at wh'; omega
            have lz2 : leafZ g z l S nm q = if isW g z l q wIN = true then 3 else if isW g z l q wROW = true then 4 else if isNm g z l q = true then 100 + pkZ S nm (wdv g z q) else -1 := by
              unfold leafZ
              rw [q2, q3, q4]
              rfl
            cases q5 : isW g z l q wIN with
            | true =>
              rw [q5, if_pos rfl] at lz2
              rw [lz2, bZ_t]
              exact sn_in k1 S1 ca W o0 (by omega) (by omega) (by omega) rfl
            | false =>
              rw [q5, if_neg (by decide)] at lz2
              rw [bZ_f]
              cases q6 : isW g z l q wROW with
              | true =>
                rw [q6, if_pos rfl] at lz2
                have q6' := q6
                simp only [isW, decide_eq_true_eq] at q6'
                rw [lz2]
                exact sn_than k1 ca W o0 (by omega) (by omega) (by omega) q6'.1 (Or.inl ⟨rfl, q6'.2⟩) (by omega)
              | false =>
                rw [q6, if_neg (by decide)] at lz2
                cases q7 : isNm g z l q with
                | true =>
                  rw [q7, if_pos rfl] at lz2
                  have hk := isNm_k q7
                  have pz := (pkZ_lt (nm := nm) (w := wdv g z q) W).1
                  rw [lz2]
                  have nr : wdv g z q ≠ wROW := fun e => by
                    have : isW g z l q wROW = true := by simp only [isW]; exact decide_eq_true ⟨hk, e⟩
                    rw [q6] at this
                    cases this
                  exact sn_than k1 ca W o0 (by omega) (by omega) (by omega) hk (Or.inr ⟨nr, rfl⟩) (by omega)
                | false =>
                  rw [q7, if_neg (by decide)] at lz2
                  omega
          · have wr : 0 ≤ whZ g z l q ∧ whZ g z l q ≤ 2 ∧ leafZ g z l S nm q = whZ g z l q := by
              unfold whZ at wh ⊢
              unfold leafZ
              cases q2 : isW g z l q wBARE with
              | true => simp
              | false =>
                cases q3 : isW g z l q wKNOWN with
                | true => simp
                | false =>
                  cases q4 : isW g z l q wBROKEN with
                  | true => simp
                  | false => rw [q2, q3, q4] at wh; exact absurd rfl wh
            rw [wr.2.2]
            have lfe : lfP g z l S nm (whZ g z l q) (nxt g z l q) = .ok ((whZ g z l q, 0, 0), nxt g z l q) := by
              unfold lfP
              rw [if_pos (by omega)]
            rw [lfe, eb_ok]
            exact sn_what k1 o0 (by omega) (by omega) (by omega) wr.1 wr.2.1
end
