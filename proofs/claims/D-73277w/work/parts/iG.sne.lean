/-! the component's reader of sentences: an operand; a sentence -/
-- jc_ref, rI_int, rR_ref, rR_null, rJ_long, ckR_ref, ckR_null, ckr_ref, ckr_null, ckW_int, ckW_ref, ckW_null, cI_ok, cR_ok, cR_null, cV_ok, cJ_ok, qH_eq, qD_in, aG_ref, aS_ref, aL_ref, pF_ref, cK_ref, cK_null, zI_lit, zJ_lit, zI_add, zI_sub, zI_mul, zI_neg, zI_eq, zI_lt, zI_le, Int.reduceLT, Int.reduceLE, Int.reduceAdd, Int.reduceSub, Int.reduceMul, Int.reduceNeg, Int.reduceEq, Int.reduceNe, reduceIte, jf_in, pFc_in, aGi, aGb, aSi, aLc_in, cKc_in, nA_in, jm_s1, jm_s2, jm_p1, jm_p2, jm_b, jn_b, jn_s, jn_p, jset_jset, jset_jpush2, ckR_is, ckr_is, rR_is, ckW_is, cR_is, obi2, ckW_int, eq_self, if_true, ref_null, if_false, ne_eq, not_true_eq_false, not_false_eq_true, decide_true, decide_false, decide_not, Bool.true_and, Bool.false_and, Bool.and_true, Bool.and_false, Bool.true_or, Bool.false_or, Bool.or_true, Bool.or_false, Bool.not_true, Bool.not_false, Bool.false_eq_true, bI_t, bI_f, Int.natCast_one, Int.cast_ofNat_Int, Int.natCast_zero, ju_self, ju_ne = jc_ref, rI_int, rR_ref, rR_null, rJ_long, ckR_ref, ckR_null, ckr_ref, ckr_null, ckW_int, ckW_ref, ckW_null, cI_ok, cR_ok, cR_null, cV_ok, cJ_ok, qH_eq, qD_in, aG_ref, aS_ref, aL_ref, pF_ref, cK_ref, cK_null, zI_lit, zJ_lit, zI_add, zI_sub, zI_mul, zI_neg, zI_eq, zI_lt, zI_le, Int.reduceLT, Int.reduceLE, Int.reduceAdd, Int.reduceSub, Int.reduceMul, Int.reduceNeg, Int.reduceEq, Int.reduceNe, reduceIte, jf_in, pFc_in, aGi, aGb, aSi, aLc_in, cKc_in, nA_in, jm_s1, jm_s2, jm_p1, jm_p2, jm_b, jn_b, jn_s, jn_p, jset_jset, jset_jpush2, ckR_is, ckr_is, rR_is, ckW_is, cR_is, obi2, ckW_int, eq_self, if_true, ref_null, if_false, ne_eq, not_true_eq_false, not_false_eq_true, decide_true, decide_false, decide_not, Bool.true_and, Bool.false_and, Bool.and_true, Bool.and_false, Bool.true_or, Bool.false_or, Bool.or_true, Bool.or_false, Bool.not_true, Bool.not_false, Bool.false_eq_true, bI_t, bI_f, Int.natCast_one, Int.cast_ofNat_Int, Int.natCast_zero, ju_self, ju_ne
section
variable {d : Nat} {H H2 : AH} {a b n t tp sc e1 e2 : Nat} {z l p q v wi ones o1 : Int} {f f' : Nat → Value} {g : Int → Int} {B C P : Nat → Prop} {x y : Value} {S nm : Int → Int} {F : Nat → Option Cl}
theorem TkO.cg (h : TkO F f g z l q) (e : ∀ i : Nat, i < 10 → f' i = f i) : TkO F f' g z l q := by
  obtain ⟨h1, h2, h3, h4, h5, w, h6, h7⟩ := h
  exact ⟨(e 5 (by omega)).trans h1, (e 6 (by omega)).trans h2, by rw [e 7 (by omega)]; exact h3, by rw [e 7 (by omega)]; exact h4, by rw [e 8 (by omega)]; exact h5, w, (e 9 (by omega)).trans h6, h7⟩
/-- a reader's own fields are written -/
theorem RdC.own {x' y' : Value} (h : RdC B H a t n tp sc g z l x y q) (hm : jm H a = some (t, n, f)) (e : ∀ i : Nat, i < 10 → f' i = f i) (hx : f' 10 = x') (hy : f' 11 = y') : RdC B (jset H a (t, n, f')) a t n tp sc g z l x' y' q := by
  obtain ⟨K, Ba, hB, f0, o, tk, -, -, hq, al⟩ := h
  have fr : Fr H (jset H a (t, n, f')) (fun u => u = a) := Fr.set rfl
  have e0 : f0 = f := by
    have := o.1
    rw [hm] at this
    simp only [Option.some.injEq, Prod.mk.injEq, true_and] at this
    exact this.symm
  rw [e0] at o tk
  refine ⟨K.fr fr fun u _ z => z ▸ Ba, Ba, hB, f', o.up jm_s1 (e 0 (by omega)) (e 1 (by omega)) (e 2 (by omega)) ((e 3 (by omega)).trans o.2.2.2.2.2.1) (e 4 (by omega)), ?_, hx, hy, hq, al⟩
  exact (tk.cg e).sub (Fz_sub fr fun u _ z => z ▸ Ba)
set_option maxRecDepth 8000 in
/-- an operand more is counted, and its first word is passed -/
theorem sn_up (d : Nat) (h : RdC B H a 29 12 tp sc g z l (.int (zI ones)) (.int (zI wi)) q) : ∃ (f : Nat → Value) (w : Nat) (Ha Hb H1 : AH), jm H a = some (29, 12, f) ∧ f 10 = .int (zI ones) ∧ f 11 = .int (zI wi) ∧ f 9 = .ref w ∧
    Ha = jset H a (29, 12, ju f 10 (.int (zI (ones + 1)))) ∧ Hb = jset Ha a (29, 12, ju (ju f 10 (.int (zI (ones + 1)))) 11 (.int (zI (wi + 1)))) ∧ MvH (d + 2) 9124 [.ref a] Hb = some (.inl none, H1) ∧
    Fr H H1 (fun u => u = a) ∧ H1.1 ≤ H.1 + 4 ∧ H1.2.1 ≤ H.2.1 + 31 ∧ RdC B H1 a 29 12 tp sc g z l (.int (zI (ones + 1))) (.int (zI (wi + 1))) (nxt g z l q) ∧ (kd g z l q = 1 → ∃ s, StrF (Fz B H1) w s ∧ NmB s ∧ pk s = wdv g z q) := by
  obtain ⟨f, mm, -, -, f4, f5, f7, -, f8, f10, f11, w, f9, fw⟩ := h.fs
  obtain ⟨Ha, hHa⟩ : ∃ Ha, Ha = jset H a (29, 12, ju f 10 (.int (zI (ones + 1)))) := ⟨_, rfl⟩
  obtain ⟨Hb, hHb⟩ : ∃ Hb, Hb = jset Ha a (29, 12, ju (ju f 10 (.int (zI (ones + 1)))) 11 (.int (zI (wi + 1)))) := ⟨_, rfl⟩
  have ka : RdC B Ha a 29 12 tp sc g z l (.int (zI (ones + 1))) (.int (zI wi)) q := by
    rw [hHa]; exact h.own mm (fun i hi => ju_ne (by omega)) ju_self ((ju_ne (by decide)).trans f11)
  have ma : jm Ha a = some (29, 12, ju f 10 (.int (zI (ones + 1)))) := by rw [hHa]; exact jm_s1
  have kb : RdC B Hb a 29 12 tp sc g z l (.int (zI (ones + 1))) (.int (zI (wi + 1))) q := by
    rw [hHb]; exact ka.own ma (fun i hi => ju_ne (by omega)) ((ju_ne (by decide)).trans ju_self) ju_self
  obtain ⟨-, mg, -⟩ := mvS kb
  obtain ⟨H1, g1, g2, g3, g4, k1⟩ := rc_go (d := d) kb
  have fa : Fr H Ha (fun u => u = a) := by rw [hHa]; exact Fr.set rfl
  have fb : Fr Ha Hb (fun u => u = a) := by rw [hHb]; exact Fr.set rfl
  have na : Ha.1 = H.1 ∧ Ha.2.1 = H.2.1 := by rw [hHa]; exact ⟨rfl, rfl⟩
  have nb : Hb.1 = Ha.1 ∧ Hb.2.1 = Ha.2.1 := by rw [hHb]; exact ⟨rfl, rfl⟩
  have FF : Fr H H1 (fun u => u = a) := (fa.tr fb).tr g2
  refine ⟨f, w, Ha, Hb, H1, mm, f10, f11, f9, hHa, hHb, (mg (d + 2)).trans g1, FF, by omega, by omega, k1, fun hk => ?_⟩
  obtain ⟨s, -, s2, s3, s4⟩ := fw hk
  exact ⟨s, s2.sub (Fz_sub FF fun u _ z => z ▸ h.2.1), s3, s4⟩
theorem sn_140f {i1 i2 i3 i4 : Int32} (h : RdC B H a 29 12 tp sc g z l (.int (zI ones)) (.int (zI wi)) q) (hb : ones = 20 ∨ wi = 8) (o0 : 0 ≤ ones) (o2 : ones ≤ 20) (w0 : 0 ≤ wi) (w8 : wi ≤ 8) : ∃ H2, G2 (d + 9) 29005 140 [.ref a, .int i1, .int i2, .int i3, .int i4, jno, jno] [] H = some (.inr H.1, H2) ∧ Fr H H2 (fun _ => False) ∧ H2.1 = H.1 + 1 ∧ H2.2.1 = H.2.1 + 8 ∧ FaF H2 H.1 (erx g z l q 4) := by
  obtain ⟨f, mm, -, -, f4, f5, f7, -, f8, f10, f11, -⟩ := h.fs
  obtain ⟨-, -, mn, -⟩ := mvS h
  have e29 : ([29] : List Nat).elem 29 = true := rfl
  have nd := rc_need (d := d + 4) h (b := false) (k := 4) (by omega) (by omega)
  rw [if_neg (by decide), bZ_f] at nd
  obtain ⟨H2, r1, r2, r3, r4, r5⟩ := nd
  have r1' := (mn (d + 9) _ _).trans r1
  refine ⟨H2, ?_, r2, r3, r4, r5⟩
  rw [F29005_140]
  by_cases c : 20 ≤ ones
  · simp (disch := first | assumption | omega | decide | exact okF_i | exact okF_r | exact okF_n | exact okF_j | rfl) only [jc_ref, rI_int, rR_ref, rR_null, rJ_long, ckR_ref, ckR_null, ckr_ref, ckr_null, ckW_int, ckW_ref, ckW_null, cI_ok, cR_ok, cR_null, cV_ok, cJ_ok, qH_eq, qD_in, aG_ref, aS_ref, aL_ref, pF_ref, cK_ref, cK_null, zI_lit, zJ_lit, zI_add, zI_sub, zI_mul, zI_neg, zI_eq, zI_lt, zI_le, Int.reduceLT, Int.reduceLE, Int.reduceAdd, Int.reduceSub, Int.reduceMul, Int.reduceNeg, Int.reduceEq, Int.reduceNe, reduceIte, jf_in, pFc_in, aGi, aGb, aSi, aLc_in, cKc_in, nA_in, jm_s1, jm_s2, jm_p1, jm_p2, jm_b, jn_b, jn_s, jn_p, jset_jset, jset_jpush2, ckR_is, ckr_is, rR_is, ckW_is, cR_is, obi2, ckW_int, eq_self, if_true, ref_null, if_false, ne_eq, not_true_eq_false, not_false_eq_true, decide_true, decide_false, decide_not, Bool.true_and, Bool.false_and, Bool.and_true, Bool.and_false, Bool.true_or, Bool.false_or, Bool.or_true, Bool.or_false, Bool.not_true, Bool.not_false, Bool.false_eq_true, bI_t, bI_f, Int.natCast_one, Int.cast_ofNat_Int, Int.natCast_zero, ju_self, ju_ne, mm, f10, c]
    rw [F29005_164]
    simp (disch := first | assumption | omega | decide | exact okF_i | exact okF_r | exact okF_n | exact okF_j | rfl) only [jc_ref, rI_int, rR_ref, rR_null, rJ_long, ckR_ref, ckR_null, ckr_ref, ckr_null, ckW_int, ckW_ref, ckW_null, cI_ok, cR_ok, cR_null, cV_ok, cJ_ok, qH_eq, qD_in, aG_ref, aS_ref, aL_ref, pF_ref, cK_ref, cK_null, zI_lit, zJ_lit, zI_add, zI_sub, zI_mul, zI_neg, zI_eq, zI_lt, zI_le, Int.reduceLT, Int.reduceLE, Int.reduceAdd, Int.reduceSub, Int.reduceMul, Int.reduceNeg, Int.reduceEq, Int.reduceNe, reduceIte, jf_in, pFc_in, aGi, aGb, aSi, aLc_in, cKc_in, nA_in, jm_s1, jm_s2, jm_p1, jm_p2, jm_b, jn_b, jn_s, jn_p, jset_jset, jset_jpush2, ckR_is, ckr_is, rR_is, ckW_is, cR_is, obi2, ckW_int, eq_self, if_true, ref_null, if_false, ne_eq, not_true_eq_false, not_false_eq_true, decide_true, decide_false, decide_not, Bool.true_and, Bool.false_and, Bool.and_true, Bool.and_false, Bool.true_or, Bool.false_or, Bool.or_true, Bool.or_false, Bool.not_true, Bool.not_false, Bool.false_eq_true, bI_t, bI_f, Int.natCast_one, Int.cast_ofNat_Int, Int.natCast_zero, ju_self, ju_ne, r1', cV_th]
  · have c8 : 8 ≤ wi := by omega
    simp (disch := first | assumption | omega | decide | exact okF_i | exact okF_r | exact okF_n | exact okF_j | rfl) only [jc_ref, rI_int, rR_ref, rR_null, rJ_long, ckR_ref, ckR_null, ckr_ref, ckr_null, ckW_int, ckW_ref, ckW_null, cI_ok, cR_ok, cR_null, cV_ok, cJ_ok, qH_eq, qD_in, aG_ref, aS_ref, aL_ref, pF_ref, cK_ref, cK_null, zI_lit, zJ_lit, zI_add, zI_sub, zI_mul, zI_neg, zI_eq, zI_lt, zI_le, Int.reduceLT, Int.reduceLE, Int.reduceAdd, Int.reduceSub, Int.reduceMul, Int.reduceNeg, Int.reduceEq, Int.reduceNe, reduceIte, jf_in, pFc_in, aGi, aGb, aSi, aLc_in, cKc_in, nA_in, jm_s1, jm_s2, jm_p1, jm_p2, jm_b, jn_b, jn_s, jn_p, jset_jset, jset_jpush2, ckR_is, ckr_is, rR_is, ckW_is, cR_is, obi2, ckW_int, eq_self, if_true, ref_null, if_false, ne_eq, not_true_eq_false, not_false_eq_true, decide_true, decide_false, decide_not, Bool.true_and, Bool.false_and, Bool.and_true, Bool.and_false, Bool.true_or, Bool.false_or, Bool.or_true, Bool.or_false, Bool.not_true, Bool.not_false, Bool.false_eq_true, bI_t, bI_f, Int.natCast_one, Int.cast_ofNat_Int, Int.natCast_zero, ju_self, ju_ne, mm, f10, f11, c, c8]
    rw [F29005_164]
    simp (disch := first | assumption | omega | decide | exact okF_i | exact okF_r | exact okF_n | exact okF_j | rfl) only [jc_ref, rI_int, rR_ref, rR_null, rJ_long, ckR_ref, ckR_null, ckr_ref, ckr_null, ckW_int, ckW_ref, ckW_null, cI_ok, cR_ok, cR_null, cV_ok, cJ_ok, qH_eq, qD_in, aG_ref, aS_ref, aL_ref, pF_ref, cK_ref, cK_null, zI_lit, zJ_lit, zI_add, zI_sub, zI_mul, zI_neg, zI_eq, zI_lt, zI_le, Int.reduceLT, Int.reduceLE, Int.reduceAdd, Int.reduceSub, Int.reduceMul, Int.reduceNeg, Int.reduceEq, Int.reduceNe, reduceIte, jf_in, pFc_in, aGi, aGb, aSi, aLc_in, cKc_in, nA_in, jm_s1, jm_s2, jm_p1, jm_p2, jm_b, jn_b, jn_s, jn_p, jset_jset, jset_jpush2, ckR_is, ckr_is, rR_is, ckW_is, cR_is, obi2, ckW_int, eq_self, if_true, ref_null, if_false, ne_eq, not_true_eq_false, not_false_eq_true, decide_true, decide_false, decide_not, Bool.true_and, Bool.false_and, Bool.and_true, Bool.and_false, Bool.true_or, Bool.false_or, Bool.or_true, Bool.or_false, Bool.not_true, Bool.not_false, Bool.false_eq_true, bI_t, bI_f, Int.natCast_one, Int.cast_ofNat_Int, Int.natCast_zero, ju_self, ju_ne, r1', cV_th]
theorem sn_dec {wj : Int} (h : RdC B H a 29 12 tp sc g z l x (.int (zI wj)) q) (hj : wj = wi + 1) : ∃ f H2, jm H a = some (29, 12, f) ∧ f 11 = .int (zI wj) ∧ jset H a (29, 12, ju f 11 (.int (zI (wj - 1)))) = H2 ∧ Fr H H2 (fun u => u = a) ∧ H2.1 = H.1 ∧ H2.2.1 = H.2.1 ∧ RdC B H2 a 29 12 tp sc g z l x (.int (zI wi)) q := by
  obtain ⟨f, mm, -, -, f4, f5, f7, -, f8, f10, f11, -⟩ := h.fs
  refine ⟨f, _, mm, f11, rfl, Fr.set rfl, rfl, rfl, ?_⟩
  exact h.own mm (fun i hi => ju_ne (by omega)) ((ju_ne (by decide)).trans f10) (by rw [show wj - 1 = wi by omega]; exact ju_self)
set_option maxRecDepth 8000 in
/-- bare, known, broken -/
theorem sn_what {wh : Int} {i4 : Int32} (h : RdC B H a 29 12 tp sc g z l (.int (zI ones)) (.int (zI wi)) q) (o0 : 0 ≤ ones) (o1 : ones < 20) (w0 : 0 ≤ wi) (w8 : wi < 8) (h0 : 0 ≤ wh) (h2 : wh ≤ 2) :
    SnC B a tp sc g z l S nm wi H ones (ones + 1) 4 (.ok ([(wh, 0, 0)], ones + 1, nxt g z l q)) (G2 (d + 9) 29005 140 [.ref a, .int (zI 0), .int (zI 0), .int (zI wh), .int i4, jno, jno] [] H) := by
  obtain ⟨f, w, Ha, Hb, H1, mm, f10, f11, f9, hHa, hHb, go, g2, g3, g4, k1, kw⟩ := sn_up (d + 7) h
  obtain ⟨-, -, mn, -⟩ := mvS h
  have ma : jm Ha a = some (29, 12, ju f 10 (.int (zI (ones + 1)))) := by rw [hHa]; exact jm_s1
  have mb : jm Hb a = some (29, 12, ju (ju f 10 (.int (zI (ones + 1)))) 11 (.int (zI (wi + 1)))) := by rw [hHb]; exact jm_s1
  have e29 : ([29] : List Nat).elem 29 = true := rfl
  have e9 : ([9, 15, 27, 29] : List Nat).elem 29 = true := rfl
  have t29 : (([29] : List Nat).elem 29 && Nat.blt 29 100) = true := rfl
  have nd := rc_need (d := d + 4) h (b := true) (k := 4) (by omega) (by omega)
  rw [if_pos rfl, bZ_t] at nd
  have nd' := (mn (d + 9) _ _).trans nd
  have n20 : ¬ 20 ≤ ones := by omega
  have n8 : ¬ 8 ≤ wi := by omega
  obtain ⟨H3, hH3⟩ : ∃ H3, H3 = jpush H1 (32, 1, o32 0) := ⟨_, rfl⟩
  obtain ⟨H4, hH4⟩ : ∃ H4, H4 = jset H3 H1.1 (32, 1, o32 wh) := ⟨_, rfl⟩
  have m3 : jm H3 H1.1 = some (32, 1, o32 0) := by rw [hH3]; exact jm_p1
  have ck := ck_32900 (d := d + 6) (v := wh) m3
  rw [← hH4] at ck
  have m4 : jm H4 H1.1 = some (32, 1, o32 wh) := by rw [hH4]; exact jm_s1
  have f4 : Fr H1 H4 (fun _ => False) := by rw [hH4, hH3]; exact Fr.new (P := fun _ => False) Fr.rf (Fr.push.tr (Fr.set (Or.inr (Nat.le_refl _))))
  have n4 : H4.1 = H1.1 + 1 ∧ H4.2.1 = H1.2.1 + 1 := by rw [hH4, hH3]; exact ⟨rfl, rfl⟩
  have k4 := k1.no f4
  obtain ⟨f5, H5, m5, f5e, r5, f5r, n5, n5s, k5⟩ := sn_dec (wi := wi) k4 rfl
  have nb : ¬ B H1.1 := fun hb => by have := k1.2.2.1 _ hb; omega
  refine ⟨H5, (g2.tr (f4.mono fun _ _ z => z.elim)).tr f5r, ⟨by show (H5.1 : Int) + 60 * ones + 5 * 4 ≤ H.1 + 60 * (ones + 1); omega, by show (H5.2.1 : Int) + 500 * ones + 40 * 4 ≤ H.2.1 + 500 * (ones + 1); omega⟩, ⟨Int.le_refl _, by show ones + 1 ≤ 20; omega⟩, H1.1, ?_, k5, Or.inl ⟨_, rfl, Or.inl ⟨by show wh = 0 ∨ wh = 1 ∨ wh = 2; omega, Fz_in (by omega) nb ((f5r.2.2 _ (by omega) (fun e => nb (by have e : H1.1 = a := e; rw [e]; exact h.2.1))).trans m4)⟩⟩⟩
  have nw : ¬ wh = -1 := by omega
  rw [F29005_140]
  simp (disch := first | assumption | omega | decide | exact okF_i | exact okF_r | exact okF_n | exact okF_j | rfl) only [jc_ref, rI_int, rR_ref, rR_null, rJ_long, ckR_ref, ckR_null, ckr_ref, ckr_null, ckW_int, ckW_ref, ckW_null, cI_ok, cR_ok, cR_null, cV_ok, cJ_ok, qH_eq, qD_in, aG_ref, aS_ref, aL_ref, pF_ref, cK_ref, cK_null, zI_lit, zJ_lit, zI_add, zI_sub, zI_mul, zI_neg, zI_eq, zI_lt, zI_le, Int.reduceLT, Int.reduceLE, Int.reduceAdd, Int.reduceSub, Int.reduceMul, Int.reduceNeg, Int.reduceEq, Int.reduceNe, reduceIte, jf_in, pFc_in, aGi, aGb, aSi, aLc_in, cKc_in, nA_in, jm_s1, jm_s2, jm_p1, jm_p2, jm_b, jn_b, jn_s, jn_p, jset_jset, jset_jpush2, ckR_is, ckr_is, rR_is, ckW_is, cR_is, obi2, ckW_int, eq_self, if_true, ref_null, if_false, ne_eq, not_true_eq_false, not_false_eq_true, decide_true, decide_false, decide_not, Bool.true_and, Bool.false_and, Bool.and_true, Bool.and_false, Bool.true_or, Bool.false_or, Bool.or_true, Bool.or_false, Bool.not_true, Bool.not_false, Bool.false_eq_true, bI_t, bI_f, Int.natCast_one, Int.cast_ofNat_Int, Int.natCast_zero, ju_self, ju_ne, mm, f10, f11, n20, n8]
  rw [F29005_164]
  simp (disch := first | assumption | omega | decide | exact okF_i | exact okF_r | exact okF_n | exact okF_j | rfl) only [jc_ref, rI_int, rR_ref, rR_null, rJ_long, ckR_ref, ckR_null, ckr_ref, ckr_null, ckW_int, ckW_ref, ckW_null, cI_ok, cR_ok, cR_null, cV_ok, cJ_ok, qH_eq, qD_in, aG_ref, aS_ref, aL_ref, pF_ref, cK_ref, cK_null, zI_lit, zJ_lit, zI_add, zI_sub, zI_mul, zI_neg, zI_eq, zI_lt, zI_le, Int.reduceLT, Int.reduceLE, Int.reduceAdd, Int.reduceSub, Int.reduceMul, Int.reduceNeg, Int.reduceEq, Int.reduceNe, reduceIte, jf_in, pFc_in, aGi, aGb, aSi, aLc_in, cKc_in, nA_in, jm_s1, jm_s2, jm_p1, jm_p2, jm_b, jn_b, jn_s, jn_p, jset_jset, jset_jpush2, ckR_is, ckr_is, rR_is, ckW_is, cR_is, obi2, ckW_int, eq_self, if_true, ref_null, if_false, ne_eq, not_true_eq_false, not_false_eq_true, decide_true, decide_false, decide_not, Bool.true_and, Bool.false_and, Bool.and_true, Bool.and_false, Bool.true_or, Bool.false_or, Bool.or_true, Bool.or_false, Bool.not_true, Bool.not_false, Bool.false_eq_true, bI_t, bI_f, Int.natCast_one, Int.cast_ofNat_Int, Int.natCast_zero, ju_self, ju_ne, n32, nd', mm, f10, ← hHa, ma, f11, ← hHb, mb, f9, go, nw, ← hH3, ck, m5, f5e, r5]
set_option maxRecDepth 8000 in
/-- in a table -/
theorem sn_in {i4 : Int} (h : RdC B H a 29 12 tp sc g z l (.int (zI ones)) (.int (zI wi)) q) (hS : SchP C H sc S nm) (ca : C a) (W : ScW S) (o0 : 0 ≤ ones) (o1 : ones < 20) (w0 : 0 ≤ wi) (w8 : wi < 8) (h4 : i4 = 1) :
    SnC B a tp sc g z l S nm wi H ones (ones + 1) 4 (eb (lfP g z l S nm 3 (nxt g z l q)) fun c => .ok ([c.1], ones + 1, c.2)) (G2 (d + 9) 29005 140 [.ref a, .int (zI 0), .int (zI 0), .int (zI (-1)), .int (zI i4), jno, jno] [] H) := by
  obtain ⟨f, w, Ha, Hb, H1, mm, f10, f11, f9, hHa, hHb, go, g2, g3, g4, k1, kw⟩ := sn_up (d + 7) h
  obtain ⟨-, -, mn, -⟩ := mvS h
  have ma : jm Ha a = some (29, 12, ju f 10 (.int (zI (ones + 1)))) := by rw [hHa]; exact jm_s1
  have mb : jm Hb a = some (29, 12, ju (ju f 10 (.int (zI (ones + 1)))) 11 (.int (zI (wi + 1)))) := by rw [hHb]; exact jm_s1
  have e29 : ([29] : List Nat).elem 29 = true := rfl
  have e9 : ([9, 15, 27, 29] : List Nat).elem 29 = true := rfl
  have t29 : (([29] : List Nat).elem 29 && Nat.blt 29 100) = true := rfl
  have nd := rc_need (d := d + 4) h (b := true) (k := 4) (by omega) (by omega)
  rw [if_pos rfl, bZ_t] at nd
  have nd' := (mn (d + 9) _ _).trans nd
  have n20 : ¬ 20 ≤ ones := by omega
  have n8 : ¬ 8 ≤ wi := by omega
  have S1 := hS.fr g2 fun u z => z ▸ ca
  obtain ⟨H3, hH3⟩ : ∃ H3, H3 = jpush H1 (33, 1, o33 0) := ⟨_, rfl⟩
  obtain ⟨k3, -, f3, m3, n3, n3s⟩ := rc_obj (cl := (33, 1, o33 0)) k1 S1
  rw [← hH3] at k3 f3 m3 n3 n3s
  have n3s : H3.2.1 = H1.2.1 + 1 := n3s
  have S3 : SchP C H3 sc S nm := S1.fr f3 fun _ z => z.elim
  obtain ⟨-, -, -, -, mt, -⟩ := mvS k3
  have W0 := W.1
  obtain ⟨H4, t1, t2, t3, t4⟩ := rc_table (d := d + 2) k3 S3 (by omega)
  have F4 : Fr H H4 (fun u => u = a) := (g2.tr (f3.mono fun _ _ z => z.elim)).tr t1
  have l4 := t1.1
  have lf : lfP g z l S nm 3 (nxt g z l q) = eb (lookP g z l (fun k => nm k) (S 0).toNat (nxt g z l q)) fun a => .ok ((3, 0, a), nxt g z l (nxt g z l q)) := by
    unfold lfP
    rw [if_neg (by decide), if_pos rfl]
    simp only [Int.zero_add]
  rw [lf, F29005_140]
  have e4 : ¬ i4 = 0 := by omega
  cases hr : lookP g z l (fun k => nm k) (S 0).toNat (nxt g z l q) with
  | error er =>
    rw [hr] at t4
    rw [eb_er, eb_er]
    obtain ⟨u, r1, r2⟩ := t4
    have r1' := (mt (d + 9)).trans r1
    refine ⟨H4, F4, ⟨by omega, by omega⟩, u, ?_, r2⟩
    simp (disch := first | assumption | omega | decide | exact okF_i | exact okF_r | exact okF_n | exact okF_j | rfl) only [jc_ref, rI_int, rR_ref, rR_null, rJ_long, ckR_ref, ckR_null, ckr_ref, ckr_null, ckW_int, ckW_ref, ckW_null, cI_ok, cR_ok, cR_null, cV_ok, cJ_ok, qH_eq, qD_in, aG_ref, aS_ref, aL_ref, pF_ref, cK_ref, cK_null, zI_lit, zJ_lit, zI_add, zI_sub, zI_mul, zI_neg, zI_eq, zI_lt, zI_le, Int.reduceLT, Int.reduceLE, Int.reduceAdd, Int.reduceSub, Int.reduceMul, Int.reduceNeg, Int.reduceEq, Int.reduceNe, reduceIte, jf_in, pFc_in, aGi, aGb, aSi, aLc_in, cKc_in, nA_in, jm_s1, jm_s2, jm_p1, jm_p2, jm_b, jn_b, jn_s, jn_p, jset_jset, jset_jpush2, ckR_is, ckr_is, rR_is, ckW_is, cR_is, obi2, ckW_int, eq_self, if_true, ref_null, if_false, ne_eq, not_true_eq_false, not_false_eq_true, decide_true, decide_false, decide_not, Bool.true_and, Bool.false_and, Bool.and_true, Bool.and_false, Bool.true_or, Bool.false_or, Bool.or_true, Bool.or_false, Bool.not_true, Bool.not_false, Bool.false_eq_true, bI_t, bI_f, Int.natCast_one, Int.cast_ofNat_Int, Int.natCast_zero, ju_self, ju_ne, mm, f10, f11, n20, n8]
    rw [F29005_164]
    simp (disch := first | assumption | omega | decide | exact okF_i | exact okF_r | exact okF_n | exact okF_j | rfl) only [jc_ref, rI_int, rR_ref, rR_null, rJ_long, ckR_ref, ckR_null, ckr_ref, ckr_null, ckW_int, ckW_ref, ckW_null, cI_ok, cR_ok, cR_null, cV_ok, cJ_ok, qH_eq, qD_in, aG_ref, aS_ref, aL_ref, pF_ref, cK_ref, cK_null, zI_lit, zJ_lit, zI_add, zI_sub, zI_mul, zI_neg, zI_eq, zI_lt, zI_le, Int.reduceLT, Int.reduceLE, Int.reduceAdd, Int.reduceSub, Int.reduceMul, Int.reduceNeg, Int.reduceEq, Int.reduceNe, reduceIte, jf_in, pFc_in, aGi, aGb, aSi, aLc_in, cKc_in, nA_in, jm_s1, jm_s2, jm_p1, jm_p2, jm_b, jn_b, jn_s, jn_p, jset_jset, jset_jpush2, ckR_is, ckr_is, rR_is, ckW_is, cR_is, obi2, ckW_int, eq_self, if_true, ref_null, if_false, ne_eq, not_true_eq_false, not_false_eq_true, decide_true, decide_false, decide_not, Bool.true_and, Bool.false_and, Bool.and_true, Bool.and_false, Bool.true_or, Bool.false_or, Bool.or_true, Bool.or_false, Bool.not_true, Bool.not_false, Bool.false_eq_true, bI_t, bI_f, Int.natCast_one, Int.cast_ofNat_Int, Int.natCast_zero, ju_self, ju_ne, n33, nd', mm, f10, ← hHa, ma, f11, ← hHb, mb, f9, go, e4, ← hH3, r1', cI_th]
  | ok tt =>
    rw [hr] at t4
    rw [eb_ok, eb_ok]
    obtain ⟨w', r1, rfl, k4⟩ := t4
    have r1' := (mt (d + 9)).trans r1
    have m4 : jm H4 H1.1 = some (33, 1, o33 0) := (t1.2.2 _ (by omega) (by have := k1.2.2.1 a k1.2.1; omega)).trans m3
    have ck := ck_33900 (d := d + 6) (v := tt) m4
    obtain ⟨H5, hH5⟩ : ∃ H5, H5 = jset H4 H1.1 (33, 1, o33 tt) := ⟨_, rfl⟩
    rw [← hH5] at ck
    have m5 : jm H5 H1.1 = some (33, 1, o33 tt) := by rw [hH5]; exact jm_s1
    have f5 : Fr H4 H5 (fun u => u = H1.1) := by rw [hH5]; exact Fr.set rfl
    have n5 : H5.1 = H4.1 ∧ H5.2.1 = H4.2.1 := by rw [hH5]; exact ⟨rfl, rfl⟩
    have F5 : Fr H H5 (fun u => u = a) := F4.new (f5.mono fun u _ z => Or.inr (by have := g2.1; omega))
    have ne : ¬ a = H1.1 := by have := k1.2.2.1 a k1.2.1; omega
    have k5 := (k4.fr f5 (fun u _ z => Or.inr z) (fun z => ne z)).less (fun u hu => Or.inl hu) h.2.1
    obtain ⟨f6, H6, m6, f6e, r6, f6r, n6, n6s, k6⟩ := sn_dec (wi := wi) k5 rfl
    have nb : ¬ B H1.1 := fun hb => by have := k1.2.2.1 _ hb; omega
    refine ⟨H6, F5.tr f6r, ⟨by show (H6.1 : Int) + 60 * ones + 5 * 4 ≤ H.1 + 60 * (ones + 1); omega, by show (H6.2.1 : Int) + 500 * ones + 40 * 4 ≤ H.2.1 + 500 * (ones + 1); omega⟩, ⟨Int.le_refl _, by show ones + 1 ≤ 20; omega⟩, H1.1, ?_, k6, Or.inl ⟨_, rfl, Or.inr (Or.inl ⟨rfl, Fz_in (by omega) nb ((f6r.2.2 _ (by omega) (fun e => nb (by have e : H1.1 = a := e; rw [e]; exact h.2.1))).trans m5)⟩)⟩⟩
    simp (disch := first | assumption | omega | decide | exact okF_i | exact okF_r | exact okF_n | exact okF_j | rfl) only [jc_ref, rI_int, rR_ref, rR_null, rJ_long, ckR_ref, ckR_null, ckr_ref, ckr_null, ckW_int, ckW_ref, ckW_null, cI_ok, cR_ok, cR_null, cV_ok, cJ_ok, qH_eq, qD_in, aG_ref, aS_ref, aL_ref, pF_ref, cK_ref, cK_null, zI_lit, zJ_lit, zI_add, zI_sub, zI_mul, zI_neg, zI_eq, zI_lt, zI_le, Int.reduceLT, Int.reduceLE, Int.reduceAdd, Int.reduceSub, Int.reduceMul, Int.reduceNeg, Int.reduceEq, Int.reduceNe, reduceIte, jf_in, pFc_in, aGi, aGb, aSi, aLc_in, cKc_in, nA_in, jm_s1, jm_s2, jm_p1, jm_p2, jm_b, jn_b, jn_s, jn_p, jset_jset, jset_jpush2, ckR_is, ckr_is, rR_is, ckW_is, cR_is, obi2, ckW_int, eq_self, if_true, ref_null, if_false, ne_eq, not_true_eq_false, not_false_eq_true, decide_true, decide_false, decide_not, Bool.true_and, Bool.false_and, Bool.and_true, Bool.and_false, Bool.true_or, Bool.false_or, Bool.or_true, Bool.or_false, Bool.not_true, Bool.not_false, Bool.false_eq_true, bI_t, bI_f, Int.natCast_one, Int.cast_ofNat_Int, Int.natCast_zero, ju_self, ju_ne, mm, f10, f11, n20, n8]
    rw [F29005_164]
    simp (disch := first | assumption | omega | decide | exact okF_i | exact okF_r | exact okF_n | exact okF_j | rfl) only [jc_ref, rI_int, rR_ref, rR_null, rJ_long, ckR_ref, ckR_null, ckr_ref, ckr_null, ckW_int, ckW_ref, ckW_null, cI_ok, cR_ok, cR_null, cV_ok, cJ_ok, qH_eq, qD_in, aG_ref, aS_ref, aL_ref, pF_ref, cK_ref, cK_null, zI_lit, zJ_lit, zI_add, zI_sub, zI_mul, zI_neg, zI_eq, zI_lt, zI_le, Int.reduceLT, Int.reduceLE, Int.reduceAdd, Int.reduceSub, Int.reduceMul, Int.reduceNeg, Int.reduceEq, Int.reduceNe, reduceIte, jf_in, pFc_in, aGi, aGb, aSi, aLc_in, cKc_in, nA_in, jm_s1, jm_s2, jm_p1, jm_p2, jm_b, jn_b, jn_s, jn_p, jset_jset, jset_jpush2, ckR_is, ckr_is, rR_is, ckW_is, cR_is, obi2, ckW_int, eq_self, if_true, ref_null, if_false, ne_eq, not_true_eq_false, not_false_eq_true, decide_true, decide_false, decide_not, Bool.true_and, Bool.false_and, Bool.and_true, Bool.and_false, Bool.true_or, Bool.false_or, Bool.or_true, Bool.or_false, Bool.not_true, Bool.not_false, Bool.false_eq_true, bI_t, bI_f, Int.natCast_one, Int.cast_ofNat_Int, Int.natCast_zero, ju_self, ju_ne, n33, nd', mm, f10, ← hHa, ma, f11, ← hHb, mb, f9, go, e4, ← hH3, r1', ck, m6, f6e, r6]
set_option maxRecDepth 8000 in
/-- a number, or what is in a column, against a number -/
theorem sn_than {lf : Int} (h : RdC B H a 29 12 tp sc g z l (.int (zI ones)) (.int (zI wi)) q) (ca : C a) (W : ScW S) (o0 : 0 ≤ ones) (o1 : ones < 20) (w0 : 0 ≤ wi) (w8 : wi < 8) (hk : kd g z l q = 1) (hl : (lf = 4 ∧ wdv g z q = wROW) ∨ (wdv g z q ≠ wROW ∧ lf = 100 + pkZ S nm (wdv g z q))) (h3 : 3 < lf) :
    SnC B a tp sc g z l S nm wi H ones (ones + 1) 4 (eb (lfP g z l S nm lf (nxt g z l q)) fun c => .ok ([c.1], ones + 1, c.2)) (G2 (d + 9) 29005 140 [.ref a, .int (zI 0), .int (zI 0), .int (zI (-1)), .int (zI 0), jno, jno] [] H) := by
  obtain ⟨f, w, Ha, Hb, H1, mm, f10, f11, f9, hHa, hHb, go, g2, g3, g4, k1, kw⟩ := sn_up (d + 7) h
  obtain ⟨-, -, mn, -⟩ := mvS h
  have ma : jm Ha a = some (29, 12, ju f 10 (.int (zI (ones + 1)))) := by rw [hHa]; exact jm_s1
  have mb : jm Hb a = some (29, 12, ju (ju f 10 (.int (zI (ones + 1)))) 11 (.int (zI (wi + 1)))) := by rw [hHb]; exact jm_s1
  have e29 : ([29] : List Nat).elem 29 = true := rfl
  have e9 : ([9, 15, 27, 29] : List Nat).elem 29 = true := rfl
  have t29 : (([29] : List Nat).elem 29 && Nat.blt 29 100) = true := rfl
  have nd := rc_need (d := d + 4) h (b := true) (k := 4) (by omega) (by omega)
  rw [if_pos rfl, bZ_t] at nd
  have nd' := (mn (d + 9) _ _).trans nd
  have n20 : ¬ 20 ≤ ones := by omega
  have n8 : ¬ 8 ≤ wi := by omega
  obtain ⟨s, s1, s2, s3⟩ := kw hk
  obtain ⟨H3, hH3⟩ : ∃ H3, H3 = jpush H1 (34, 3, o34 .null 0 0) := ⟨_, rfl⟩
  have al1 := k1.2.2.1 a k1.2.1
  have f3 : Fr H1 H3 (fun _ => False) := by rw [hH3]; exact Fr.push
  have m3 : jm H3 H1.1 = some (34, 3, o34 .null 0 0) := by rw [hH3]; exact jm_p1
  have n3 : H3.1 = H1.1 + 1 ∧ H3.2.1 = H1.2.1 + 3 := by rw [hH3]; exact ⟨rfl, rfl⟩
  have k3 : RdC (fun u => B u ∨ u = H1.1) H3 a 29 12 tp sc g z l (.int (zI (ones + 1))) (.int (zI (wi + 1))) (nxt g z l q) := k1.more f3 (fun _ _ e => e.elim) (fun e => e) (fun u hu => hu.elim Or.inl fun e => Or.inr (by omega)) fun u hu => Or.inl hu
  obtain ⟨-, -, -, -, -, mt, -⟩ := mvS k3
  obtain ⟨H4, t1, t2, t3, t4⟩ := rc_than (d := d + 3) k3
  have F3 : Fr H H3 (fun u => u = a) := g2.tr (f3.mono fun _ _ z => z.elim)
  have F4 : Fr H H4 (fun u => u = a) := F3.tr t1
  have l4 := t1.1
  have lfe : lfP g z l S nm lf (nxt g z l q) = eb (thanP g z l (nxt g z l q)) fun by_ => eb (numP g z l 0 99 (nxt g z l (nxt g z l q))) fun a => .ok ((lf, by_, a), nxt g z l (nxt g z l (nxt g z l q))) := by
    unfold lfP thanP
    rw [if_neg (by omega), if_neg (by omega)]
    cases isThan g z l (nxt g z l q) with
    | true => rfl
    | false => rfl
  rw [lfe, F29005_140]
  cases hr : thanP g z l (nxt g z l q) with
  | error er =>
    rw [hr] at t4
    rw [eb_er, eb_er]
    obtain ⟨u, r1, r2⟩ := t4
    have r1' := (mt (d + 9)).trans r1
    refine ⟨H4, F4, ⟨by omega, by omega⟩, u, ?_, r2⟩
    simp (disch := first | assumption | omega | decide | exact okF_i | exact okF_r | exact okF_n | exact okF_j | rfl) only [jc_ref, rI_int, rR_ref, rR_null, rJ_long, ckR_ref, ckR_null, ckr_ref, ckr_null, ckW_int, ckW_ref, ckW_null, cI_ok, cR_ok, cR_null, cV_ok, cJ_ok, qH_eq, qD_in, aG_ref, aS_ref, aL_ref, pF_ref, cK_ref, cK_null, zI_lit, zJ_lit, zI_add, zI_sub, zI_mul, zI_neg, zI_eq, zI_lt, zI_le, Int.reduceLT, Int.reduceLE, Int.reduceAdd, Int.reduceSub, Int.reduceMul, Int.reduceNeg, Int.reduceEq, Int.reduceNe, reduceIte, jf_in, pFc_in, aGi, aGb, aSi, aLc_in, cKc_in, nA_in, jm_s1, jm_s2, jm_p1, jm_p2, jm_b, jn_b, jn_s, jn_p, jset_jset, jset_jpush2, ckR_is, ckr_is, rR_is, ckW_is, cR_is, obi2, ckW_int, eq_self, if_true, ref_null, if_false, ne_eq, not_true_eq_false, not_false_eq_true, decide_true, decide_false, decide_not, Bool.true_and, Bool.false_and, Bool.and_true, Bool.and_false, Bool.true_or, Bool.false_or, Bool.or_true, Bool.or_false, Bool.not_true, Bool.not_false, Bool.false_eq_true, bI_t, bI_f, Int.natCast_one, Int.cast_ofNat_Int, Int.natCast_zero, ju_self, ju_ne, mm, f10, f11, n20, n8]
    rw [F29005_164]
    simp (disch := first | assumption | omega | decide | exact okF_i | exact okF_r | exact okF_n | exact okF_j | rfl) only [jc_ref, rI_int, rR_ref, rR_null, rJ_long, ckR_ref, ckR_null, ckr_ref, ckr_null, ckW_int, ckW_ref, ckW_null, cI_ok, cR_ok, cR_null, cV_ok, cJ_ok, qH_eq, qD_in, aG_ref, aS_ref, aL_ref, pF_ref, cK_ref, cK_null, zI_lit, zJ_lit, zI_add, zI_sub, zI_mul, zI_neg, zI_eq, zI_lt, zI_le, Int.reduceLT, Int.reduceLE, Int.reduceAdd, Int.reduceSub, Int.reduceMul, Int.reduceNeg, Int.reduceEq, Int.reduceNe, reduceIte, jf_in, pFc_in, aGi, aGb, aSi, aLc_in, cKc_in, nA_in, jm_s1, jm_s2, jm_p1, jm_p2, jm_b, jn_b, jn_s, jn_p, jset_jset, jset_jpush2, ckR_is, ckr_is, rR_is, ckW_is, cR_is, obi2, ckW_int, eq_self, if_true, ref_null, if_false, ne_eq, not_true_eq_false, not_false_eq_true, decide_true, decide_false, decide_not, Bool.true_and, Bool.false_and, Bool.and_true, Bool.and_false, Bool.true_or, Bool.false_or, Bool.or_true, Bool.or_false, Bool.not_true, Bool.not_false, Bool.false_eq_true, bI_t, bI_f, Int.natCast_one, Int.cast_ofNat_Int, Int.natCast_zero, ju_self, ju_ne, n34, nd', mm, f10, ← hHa, ma, f11, ← hHb, mb, f9, go, ← hH3, r1', cI_th]
  | ok sg =>
    rw [hr] at t4
    rw [eb_ok]
    obtain ⟨w', r1, rfl, k4⟩ := t4
    have r1' := (mt (d + 9)).trans r1
    obtain ⟨-, -, -, -, -, -, mu⟩ := mvS k4
    obtain ⟨H5, u1, u2, u3, u4⟩ := rc_number (d := d + 2) (low := 0) (high := 99) k4 (by omega) (by omega) (by omega) (by omega)
    have F5 : Fr H H5 (fun u => u = a) := F4.tr u1
    have l5 := u1.1
    cases hr2 : numP g z l 0 99 (nxt g z l (nxt g z l q)) with
    | error er =>
      rw [hr2] at u4
      rw [eb_er, eb_er]
      obtain ⟨u, r2, r3⟩ := u4
      have r2' := (mu (d + 9) _ _).trans r2
      refine ⟨H5, F5, ⟨by omega, by omega⟩, u, ?_, r3⟩
      simp (disch := first | assumption | omega | decide | exact okF_i | exact okF_r | exact okF_n | exact okF_j | rfl) only [jc_ref, rI_int, rR_ref, rR_null, rJ_long, ckR_ref, ckR_null, ckr_ref, ckr_null, ckW_int, ckW_ref, ckW_null, cI_ok, cR_ok, cR_null, cV_ok, cJ_ok, qH_eq, qD_in, aG_ref, aS_ref, aL_ref, pF_ref, cK_ref, cK_null, zI_lit, zJ_lit, zI_add, zI_sub, zI_mul, zI_neg, zI_eq, zI_lt, zI_le, Int.reduceLT, Int.reduceLE, Int.reduceAdd, Int.reduceSub, Int.reduceMul, Int.reduceNeg, Int.reduceEq, Int.reduceNe, reduceIte, jf_in, pFc_in, aGi, aGb, aSi, aLc_in, cKc_in, nA_in, jm_s1, jm_s2, jm_p1, jm_p2, jm_b, jn_b, jn_s, jn_p, jset_jset, jset_jpush2, ckR_is, ckr_is, rR_is, ckW_is, cR_is, obi2, ckW_int, eq_self, if_true, ref_null, if_false, ne_eq, not_true_eq_false, not_false_eq_true, decide_true, decide_false, decide_not, Bool.true_and, Bool.false_and, Bool.and_true, Bool.and_false, Bool.true_or, Bool.false_or, Bool.or_true, Bool.or_false, Bool.not_true, Bool.not_false, Bool.false_eq_true, bI_t, bI_f, Int.natCast_one, Int.cast_ofNat_Int, Int.natCast_zero, ju_self, ju_ne, mm, f10, f11, n20, n8]
      rw [F29005_164]
      simp (disch := first | assumption | omega | decide | exact okF_i | exact okF_r | exact okF_n | exact okF_j | rfl) only [jc_ref, rI_int, rR_ref, rR_null, rJ_long, ckR_ref, ckR_null, ckr_ref, ckr_null, ckW_int, ckW_ref, ckW_null, cI_ok, cR_ok, cR_null, cV_ok, cJ_ok, qH_eq, qD_in, aG_ref, aS_ref, aL_ref, pF_ref, cK_ref, cK_null, zI_lit, zJ_lit, zI_add, zI_sub, zI_mul, zI_neg, zI_eq, zI_lt, zI_le, Int.reduceLT, Int.reduceLE, Int.reduceAdd, Int.reduceSub, Int.reduceMul, Int.reduceNeg, Int.reduceEq, Int.reduceNe, reduceIte, jf_in, pFc_in, aGi, aGb, aSi, aLc_in, cKc_in, nA_in, jm_s1, jm_s2, jm_p1, jm_p2, jm_b, jn_b, jn_s, jn_p, jset_jset, jset_jpush2, ckR_is, ckr_is, rR_is, ckW_is, cR_is, obi2, ckW_int, eq_self, if_true, ref_null, if_false, ne_eq, not_true_eq_false, not_false_eq_true, decide_true, decide_false, decide_not, Bool.true_and, Bool.false_and, Bool.and_true, Bool.and_false, Bool.true_or, Bool.false_or, Bool.or_true, Bool.or_false, Bool.not_true, Bool.not_false, Bool.false_eq_true, bI_t, bI_f, Int.natCast_one, Int.cast_ofNat_Int, Int.natCast_zero, ju_self, ju_ne, n34, nd', mm, f10, ← hHa, ma, f11, ← hHb, mb, f9, go, ← hH3, r1', r2', cI_th]
    | ok nu =>
      rw [hr2] at u4
      rw [eb_ok, eb_ok]
      obtain ⟨w', r2, rfl, k5⟩ := u4
      have r2' := (mu (d + 9) _ _).trans r2
      have m5 : jm H5 H1.1 = some (34, 3, o34 .null 0 0) := (u1.2.2 _ (by omega) (by omega)).trans ((t1.2.2 _ (by omega) (by omega)).trans m3)
      have ck := ck_34900 (d := d + 6) (e1 := w) (v := sg) (v2 := nu) m5
      obtain ⟨H6, hH6⟩ : ∃ H6, H6 = jset H5 H1.1 (34, 3, o34 (.ref w) sg nu) := ⟨_, rfl⟩
      rw [← hH6] at ck
      have m6 : jm H6 H1.1 = some (34, 3, o34 (.ref w) sg nu) := by rw [hH6]; exact jm_s1
      have f6 : Fr H5 H6 (fun u => u = H1.1) := by rw [hH6]; exact Fr.set rfl
      have n6 : H6.1 = H5.1 ∧ H6.2.1 = H5.2.1 := by rw [hH6]; exact ⟨rfl, rfl⟩
      have F6 : Fr H1 H6 (fun u => u = a) := (((f3.mono fun _ _ z => z.elim).tr t1).tr u1).new (f6.mono fun u _ z => Or.inr (by omega))
      have k6 := (k5.fr f6 (fun u _ z => Or.inr z) (by omega)).less (fun u hu => Or.inl hu) h.2.1
      obtain ⟨f7, H7, m7, f7e, r7, f7r, n7, n7s, k7⟩ := sn_dec (wi := wi) k6 rfl
      have nb : ¬ B H1.1 := fun hb => by have := k1.2.2.1 _ hb; omega
      have FF : Fr H1 H7 (fun u => u = a) := F6.tr f7r
      refine ⟨H7, g2.tr FF, ⟨by show (H7.1 : Int) + 60 * ones + 5 * 4 ≤ H.1 + 60 * (ones + 1); omega, by show (H7.2.1 : Int) + 500 * ones + 40 * 4 ≤ H.2.1 + 500 * (ones + 1); omega⟩, ⟨Int.le_refl _, by show ones + 1 ≤ 20; omega⟩, H1.1, ?_, k7, Or.inl ⟨_, rfl, Or.inr (Or.inr ⟨w, s, Fz_in (by omega) nb ((f7r.2.2 _ (by omega) (by omega)).trans m6), s1.sub (Fz_sub FF fun u _ z => z ▸ h.2.1), s2, ?_⟩)⟩⟩
      · simp (disch := first | assumption | omega | decide | exact okF_i | exact okF_r | exact okF_n | exact okF_j | rfl) only [jc_ref, rI_int, rR_ref, rR_null, rJ_long, ckR_ref, ckR_null, ckr_ref, ckr_null, ckW_int, ckW_ref, ckW_null, cI_ok, cR_ok, cR_null, cV_ok, cJ_ok, qH_eq, qD_in, aG_ref, aS_ref, aL_ref, pF_ref, cK_ref, cK_null, zI_lit, zJ_lit, zI_add, zI_sub, zI_mul, zI_neg, zI_eq, zI_lt, zI_le, Int.reduceLT, Int.reduceLE, Int.reduceAdd, Int.reduceSub, Int.reduceMul, Int.reduceNeg, Int.reduceEq, Int.reduceNe, reduceIte, jf_in, pFc_in, aGi, aGb, aSi, aLc_in, cKc_in, nA_in, jm_s1, jm_s2, jm_p1, jm_p2, jm_b, jn_b, jn_s, jn_p, jset_jset, jset_jpush2, ckR_is, ckr_is, rR_is, ckW_is, cR_is, obi2, ckW_int, eq_self, if_true, ref_null, if_false, ne_eq, not_true_eq_false, not_false_eq_true, decide_true, decide_false, decide_not, Bool.true_and, Bool.false_and, Bool.and_true, Bool.and_false, Bool.true_or, Bool.false_or, Bool.or_true, Bool.or_false, Bool.not_true, Bool.not_false, Bool.false_eq_true, bI_t, bI_f, Int.natCast_one, Int.cast_ofNat_Int, Int.natCast_zero, ju_self, ju_ne, mm, f10, f11, n20, n8]
        rw [F29005_164]
        simp (disch := first | assumption | omega | decide | exact okF_i | exact okF_r | exact okF_n | exact okF_j | rfl) only [jc_ref, rI_int, rR_ref, rR_null, rJ_long, ckR_ref, ckR_null, ckr_ref, ckr_null, ckW_int, ckW_ref, ckW_null, cI_ok, cR_ok, cR_null, cV_ok, cJ_ok, qH_eq, qD_in, aG_ref, aS_ref, aL_ref, pF_ref, cK_ref, cK_null, zI_lit, zJ_lit, zI_add, zI_sub, zI_mul, zI_neg, zI_eq, zI_lt, zI_le, Int.reduceLT, Int.reduceLE, Int.reduceAdd, Int.reduceSub, Int.reduceMul, Int.reduceNeg, Int.reduceEq, Int.reduceNe, reduceIte, jf_in, pFc_in, aGi, aGb, aSi, aLc_in, cKc_in, nA_in, jm_s1, jm_s2, jm_p1, jm_p2, jm_b, jn_b, jn_s, jn_p, jset_jset, jset_jpush2, ckR_is, ckr_is, rR_is, ckW_is, cR_is, obi2, ckW_int, eq_self, if_true, ref_null, if_false, ne_eq, not_true_eq_false, not_false_eq_true, decide_true, decide_false, decide_not, Bool.true_and, Bool.false_and, Bool.and_true, Bool.and_false, Bool.true_or, Bool.false_or, Bool.or_true, Bool.or_false, Bool.not_true, Bool.not_false, Bool.false_eq_true, bI_t, bI_f, Int.natCast_one, Int.cast_ofNat_Int, Int.natCast_zero, ju_self, ju_ne, n34, nd', mm, f10, ← hHa, ma, f11, ← hHb, mb, f9, go, ← hH3, r1', r2', ck, m7, f7e, r7]
      · rw [s3]
        rcases hl with ⟨e1, e2⟩ | ⟨e1, e2⟩
        · exact Or.inl ⟨e1, e2⟩
        · exact Or.inr ⟨e1, e2⟩
end
