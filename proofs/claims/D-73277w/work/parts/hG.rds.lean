/-! the component's reader: values of a row, conditions -/
-- jc_ref, rI_int, rR_ref, rR_null, rJ_long, ckR_ref, ckR_null, ckr_ref, ckr_null, ckW_int, ckW_ref, ckW_null, cI_ok, cR_ok, cR_null, cV_ok, cJ_ok, qH_eq, qD_in, aG_ref, aS_ref, aL_ref, pF_ref, cK_ref, cK_null, zI_lit, zJ_lit, zI_add, zI_sub, zI_mul, zI_neg, zI_eq, zI_lt, zI_le, Int.reduceLT, Int.reduceLE, Int.reduceAdd, Int.reduceSub, Int.reduceMul, Int.reduceNeg, Int.reduceEq, Int.reduceNe, reduceIte, jf_in, pFc_in, aGi, aGb, aSi, aLc_in, cKc_in, nA_in, jm_s1, jm_s2, jm_p1, jm_p2, jm_b, jn_b, jn_s, jn_p, jset_jset, jset_jpush2, ckR_is, ckr_is, rR_is, ckW_is, cR_is, obi2, ckW_int, eq_self, if_true, ref_null, if_false, ne_eq, not_true_eq_false, not_false_eq_true, decide_true, decide_false, decide_not, Bool.true_and, Bool.false_and, Bool.and_true, Bool.and_false, Bool.true_or, Bool.false_or, Bool.or_true, Bool.or_false, Bool.not_true, Bool.not_false, Bool.false_eq_true, bI_t, bI_f, Int.natCast_one, Int.cast_ofNat_Int, Int.natCast_zero, ju_self, ju_ne = jc_ref, rI_int, rR_ref, rR_null, rJ_long, ckR_ref, ckR_null, ckr_ref, ckr_null, ckW_int, ckW_ref, ckW_null, cI_ok, cR_ok, cR_null, cV_ok, cJ_ok, qH_eq, qD_in, aG_ref, aS_ref, aL_ref, pF_ref, cK_ref, cK_null, zI_lit, zJ_lit, zI_add, zI_sub, zI_mul, zI_neg, zI_eq, zI_lt, zI_le, Int.reduceLT, Int.reduceLE, Int.reduceAdd, Int.reduceSub, Int.reduceMul, Int.reduceNeg, Int.reduceEq, Int.reduceNe, reduceIte, jf_in, pFc_in, aGi, aGb, aSi, aLc_in, cKc_in, nA_in, jm_s1, jm_s2, jm_p1, jm_p2, jm_b, jn_b, jn_s, jn_p, jset_jset, jset_jpush2, ckR_is, ckr_is, rR_is, ckW_is, cR_is, obi2, ckW_int, eq_self, if_true, ref_null, if_false, ne_eq, not_true_eq_false, not_false_eq_true, decide_true, decide_false, decide_not, Bool.true_and, Bool.false_and, Bool.and_true, Bool.and_false, Bool.true_or, Bool.false_or, Bool.or_true, Bool.or_false, Bool.not_true, Bool.not_false, Bool.false_eq_true, bI_t, bI_f, Int.natCast_one, Int.cast_ofNat_Int, Int.natCast_zero, ju_self, ju_ne
theorem hold_look {g : Int → Int} {z l : Int} {S nm : Int → Int} {t q : Int} : holdP g z l S nm t (-1) q = lookC g z l S nm t q := by
  unfold holdP
  show eb (lookC g z l S nm t q) _ = _
  cases h : lookC g z l S nm t q with
  | error e => rfl
  | ok v =>
    have := lookC_rg h
    rw [eb_ok, if_neg (by omega)]
/-- conditions as they lie in a list -/
def WhnF (F : Nat → Option Cl) (lst : List Value) (L : Int → Int) (to : Int) : Prop := ∀ k : Int, 0 ≤ k → k < L (to + 7) → ∃ wb, lst.getD k.toNat .null = .ref wb ∧ F wb = some (20, 3, o20 (L (to + 8 + 3 * k)) (L (to + 8 + 3 * k + 1)) (L (to + 8 + 3 * k + 2)))
section
variable {d : Nat} {H H2 : AH} {a b t n tp sc w c s c2 s2 e : Nat} {f : Nat → Value} {g : Int → Int} {z l p q k o tt but to : Int} {F : Nat → Option Cl} {B P Q C C2 : Nat → Prop} {x y : Value} {S nm L : Int → Int} {sw : List Int}
theorem jm_lt_of {H : AH} {u : Nat} {c : Cl} (h : Fz B H u = some c) : u < H.1 := (Fz_lt h).1
/-- a row's values, one by one -/
theorem cl_11 (W : ScW S) (ca : C a) (ce : C e) (hea : e ≠ a) (t0 : 0 ≤ tt) (t1 : tt < S 0) : ∀ (m : Nat) (c : Int) (L : Int → Int) (q : Int) (H : AH) (gc : Int → Int), RdC (fun u => B u ∨ u = e) H a t n tp sc g z l x y q → SchP C H sc S nm → jm H e = some (1000, 4, aI gc) → S (4 + tt) = c + m → 0 ≤ c → (∀ j, 0 ≤ j → j < c → gc j = L (to + 3 + j)) → (∀ j, c ≤ j → j < 4 → gc j = -1) →
    CR (vals g z l to m c L q) (G2 (d + 8) 8001 11 [.ref a, .int (zI tt), .ref e, .int (zI c)] [] H) H (fun u => u = a ∨ u = e) (5 * m) (40 * m) (fun b w H2 => w = some (.ref e) ∧ RdC (fun u => B u ∨ u = e) H2 a t n tp sc g z l x y b.2 ∧ ∃ gc', jm H2 e = some (1000, 4, aI gc') ∧ (∀ j, 0 ≤ j → j < c + m → gc' j = b.1 (to + 3 + j)) ∧ (∀ j, c + m ≤ j → j < 4 → gc' j = -1) ∧ ∀ i, i < to + 3 + c → b.1 i = L i) := by
  have W0 := W.1
  have co := W.2 tt t0 (by omega)
  intro m
  induction m with
  | zero =>
    intro c L q H gc h hS he hc c0 g1 g2
    obtain ⟨f, m0, te, ht, f4, f5, -⟩ := h.fs
    obtain ⟨n3', fs, qt, cap, mc, lst, a1, a2, a3, a4, a5, a6, a7⟩ := hS.ns
    obtain ⟨b, b1, b2⟩ := a7 tt t0 t1
    have ge := h_get (d := d + 7) a3 t0 (by omega) (by omega) (by omega)
    rw [b1] at ge
    obtain ⟨m2, fb, qn, qc, bm, bf0, bf1, -, cap2, mc2, lst2, c1, c2', c3, c4, -⟩ := b2
    have sz := h_size (d := d + 7) c1
    have e11 : ([11] : List Nat).elem 11 = true := rfl
    have le : (lst2.length : Int) ≤ c := by omega
    refine ⟨H, Fr.rf, by omega, by omega, some (.ref e), ?_, rfl, h, gc, he, fun j j0 j1 => g1 j j0 (by omega), fun j j0 j1 => g2 j (by omega) j1, fun _ _ => rfl⟩
    rw [F8001_11]
    simp (disch := first | assumption | omega | decide | exact okF_i | exact okF_r | exact okF_n | exact okF_j | rfl) only [jc_ref, rI_int, rR_ref, rR_null, rJ_long, ckR_ref, ckR_null, ckr_ref, ckr_null, ckW_int, ckW_ref, ckW_null, cI_ok, cR_ok, cR_null, cV_ok, cJ_ok, qH_eq, qD_in, aG_ref, aS_ref, aL_ref, pF_ref, cK_ref, cK_null, zI_lit, zJ_lit, zI_add, zI_sub, zI_mul, zI_neg, zI_eq, zI_lt, zI_le, Int.reduceLT, Int.reduceLE, Int.reduceAdd, Int.reduceSub, Int.reduceMul, Int.reduceNeg, Int.reduceEq, Int.reduceNe, reduceIte, jf_in, pFc_in, aGi, aGb, aSi, aLc_in, cKc_in, nA_in, jm_s1, jm_s2, jm_p1, jm_p2, jm_b, jn_b, jn_s, jn_p, jset_jset, jset_jpush2, ckR_is, ckr_is, rR_is, ckW_is, cR_is, obi2, ckW_int, eq_self, if_true, ref_null, if_false, ne_eq, not_true_eq_false, not_false_eq_true, decide_true, decide_false, decide_not, Bool.true_and, Bool.false_and, Bool.and_true, Bool.and_false, Bool.true_or, Bool.false_or, Bool.or_true, Bool.or_false, Bool.not_true, Bool.not_false, Bool.false_eq_true, bI_t, bI_f, Int.natCast_one, Int.cast_ofNat_Int, Int.natCast_zero, ju_self, ju_ne, m0, f4, a1, a2, ge, bm, bf1, sz]
    try rw [if_pos le]
  | succ m ih =>
    intro c L q H gc h hS he hc c0 g1 g2
    obtain ⟨f, m0, te, ht, f4, f5, -⟩ := h.fs
    obtain ⟨n3', fs, qt, cap, mc, lst, a1, a2, a3, a4, a5, a6, a7⟩ := hS.ns
    obtain ⟨b, b1, b2⟩ := a7 tt t0 t1
    have ge := h_get (d := d + 7) a3 t0 (by omega) (by omega) (by omega)
    rw [b1] at ge
    obtain ⟨m2, fb, qn, qc, bm, bf0, bf1, -, cap2, mc2, lst2, c1, c2', c3, c4, -⟩ := b2
    have sz := h_size (d := d + 7) c1
    have e11 : ([11] : List Nat).elem 11 = true := rfl
    have le : ¬ (lst2.length : Int) ≤ c := by omega
    have el : e < H.1 := h.2.2.1 e (Or.inr rfl)
    obtain ⟨H2, v1, v2, v3, v4⟩ := rc_value (d := d) h
    show CR (eb (valP g z l L (to + 3 + c) q) fun b => vals g z l to m (c + 1) b.1 b.2) _ _ _ _ _ _
    rw [valP_vl]
    cases hr : vlP g z l q with
    | error er =>
      rw [hr] at v4
      obtain ⟨u, r5, r6⟩ := v4
      refine ⟨H2, v1.mono fun _ _ z => Or.inl z, by omega, by omega, u, ?_, r6⟩
      rw [F8001_11]
      simp (disch := first | assumption | omega | decide | exact okF_i | exact okF_r | exact okF_n | exact okF_j | rfl) only [jc_ref, rI_int, rR_ref, rR_null, rJ_long, ckR_ref, ckR_null, ckr_ref, ckr_null, ckW_int, ckW_ref, ckW_null, cI_ok, cR_ok, cR_null, cV_ok, cJ_ok, qH_eq, qD_in, aG_ref, aS_ref, aL_ref, pF_ref, cK_ref, cK_null, zI_lit, zJ_lit, zI_add, zI_sub, zI_mul, zI_neg, zI_eq, zI_lt, zI_le, Int.reduceLT, Int.reduceLE, Int.reduceAdd, Int.reduceSub, Int.reduceMul, Int.reduceNeg, Int.reduceEq, Int.reduceNe, reduceIte, jf_in, pFc_in, aGi, aGb, aSi, aLc_in, cKc_in, nA_in, jm_s1, jm_s2, jm_p1, jm_p2, jm_b, jn_b, jn_s, jn_p, jset_jset, jset_jpush2, ckR_is, ckr_is, rR_is, ckW_is, cR_is, obi2, ckW_int, eq_self, if_true, ref_null, if_false, ne_eq, not_true_eq_false, not_false_eq_true, decide_true, decide_false, decide_not, Bool.true_and, Bool.false_and, Bool.and_true, Bool.and_false, Bool.true_or, Bool.false_or, Bool.or_true, Bool.or_false, Bool.not_true, Bool.not_false, Bool.false_eq_true, bI_t, bI_f, Int.natCast_one, Int.cast_ofNat_Int, Int.natCast_zero, ju_self, ju_ne, m0, f4, a1, a2, ge, bm, bf1, sz, r5, cI_th]
      try rw [if_neg le]
    | ok v =>
      rw [hr] at v4
      obtain ⟨u, r5, rfl, r6, r7⟩ := v4
      rw [eb_ok, eb_ok]
      have me2 : jm H2 e = some (1000, 4, aI gc) := (v1.2.2 e el hea).trans he
      have fr3 : Fr H2 (jset H2 e (1000, 4, aI (fset gc c v.1))) (fun u => u = e) := Fr.set rfl
      have h3 := r7.fr fr3 (fun u _ z => Or.inr z) (fun z => hea z.symm)
      have S3 := (hS.fr v1 fun u z => by rw [z]; exact ca).fr fr3 fun u z => by rw [z]; exact ce
      obtain ⟨H4, i1, i2, i3, i4⟩ := ih (c + 1) (fset L (to + 3 + c) v.1) v.2 _ (fset gc c v.1) (by rw [r6]; exact h3) S3 jm_s1 (by omega) (by omega) (fun j j0 j1 => by
        by_cases ej : j = c
        · subst ej; rw [fset_eq, fset_eq]
        · rw [fset_ne ej, fset_ne (by omega)]; exact g1 j j0 (by omega)) (fun j j0 j1 => by rw [fset_ne (by omega)]; exact g2 j (by omega) j1)
      have st : G2 (d + 8) 8001 11 [.ref a, .int (zI tt), .ref e, .int (zI c)] [] H = G2 (d + 8) 8001 11 [.ref a, .int (zI tt), .ref e, .int (zI (c + 1))] [] (jset H2 e (1000, 4, aI (fset gc c v.1))) := by
        conv => lhs; rw [F8001_11]
        simp (disch := first | assumption | omega | decide | exact okF_i | exact okF_r | exact okF_n | exact okF_j | rfl) only [jc_ref, rI_int, rR_ref, rR_null, rJ_long, ckR_ref, ckR_null, ckr_ref, ckr_null, ckW_int, ckW_ref, ckW_null, cI_ok, cR_ok, cR_null, cV_ok, cJ_ok, qH_eq, qD_in, aG_ref, aS_ref, aL_ref, pF_ref, cK_ref, cK_null, zI_lit, zJ_lit, zI_add, zI_sub, zI_mul, zI_neg, zI_eq, zI_lt, zI_le, Int.reduceLT, Int.reduceLE, Int.reduceAdd, Int.reduceSub, Int.reduceMul, Int.reduceNeg, Int.reduceEq, Int.reduceNe, reduceIte, jf_in, pFc_in, aGi, aGb, aSi, aLc_in, cKc_in, nA_in, jm_s1, jm_s2, jm_p1, jm_p2, jm_b, jn_b, jn_s, jn_p, jset_jset, jset_jpush2, ckR_is, ckr_is, rR_is, ckW_is, cR_is, obi2, ckW_int, eq_self, if_true, ref_null, if_false, ne_eq, not_true_eq_false, not_false_eq_true, decide_true, decide_false, decide_not, Bool.true_and, Bool.false_and, Bool.and_true, Bool.and_false, Bool.true_or, Bool.false_or, Bool.or_true, Bool.or_false, Bool.not_true, Bool.not_false, Bool.false_eq_true, bI_t, bI_f, Int.natCast_one, Int.cast_ofNat_Int, Int.natCast_zero, ju_self, ju_ne, m0, f4, a1, a2, ge, bm, bf1, sz, r5, me2]
        try rw [if_neg le]
      have fr : Fr H H4 (fun u => u = a ∨ u = e) := ((v1.mono fun _ _ z => Or.inl z).tr (fr3.mono fun _ _ z => Or.inr z)).tr i1
      have n3 : (jset H2 e (1000, 4, aI (fset gc c v.1))).1 = H2.1 ∧ (jset H2 e (1000, 4, aI (fset gc c v.1))).2.1 = H2.2.1 := ⟨rfl, rfl⟩
      refine ⟨H4, fr, by omega, by omega, ?_⟩
      rw [st]
      cases hv : vals g z l to m (c + 1) (fset L (to + 3 + c) v.1) v.2 with
      | error er => rw [hv] at i4; exact i4
      | ok b =>
        rw [hv] at i4
        obtain ⟨u2, j1, j2, j3, gc', j4, j5, j6, j7⟩ := i4
        refine ⟨u2, j1, j2, j3, gc', j4, fun j z0 z1 => j5 j z0 (by omega), fun j z0 z1 => j6 j (by omega) z1, fun i hi => by rw [j7 i (by omega), fset_ne (by omega)]⟩
/-- a row's values: an array of their own -/
theorem rc_cells (h : RdC B H a t n tp sc g z l x y q) (hS : SchP C H sc S nm) (ca : C a) (W : ScW S) (t0 : 0 ≤ tt) (t1 : tt < S 0) : CR (vals g z l to (S (4 + tt)).toNat 0 L q) (M2 (d + 9) 8001 [.ref a, .int (zI tt)] H) H (fun u => u = a) 21 170 (fun b w H2 => RdC B H2 a t n tp sc g z l x y b.2 ∧ ∃ ce gc, w = some (.ref ce) ∧ Fz B H2 ce = some (1000, 4, aI gc) ∧ (∀ j, 0 ≤ j → j < S (4 + tt) → gc j = b.1 (to + 3 + j)) ∧ (∀ j, S (4 + tt) ≤ j → j < 4 → gc j = -1) ∧ ∀ i, i < to + 3 → b.1 i = L i) := by
  have W0 := W.1
  have co := W.2 tt t0 (by omega)
  obtain ⟨f, m0, te, ht, f4, f5, -⟩ := h.fs
  have al := h.2.2.1 a h.2.1
  have rv : (jtRecv 8001).elem t = true := by rcases ht with e | e | e | e <;> subst e <;> rfl
  obtain ⟨H1, hH1⟩ : ∃ H1, H1 = jpush H (1000, 4, fun _ => .int (zI 0)) := ⟨_, rfl⟩
  have m1 : jm H1 H.1 = some (1000, 4, aI (fun _ => 0)) := by rw [hH1]; exact jm_p1
  have fi := c_fill (d := d + 7) (v := -1) m1 (by omega)
  obtain ⟨H2, hH2⟩ : ∃ H2, H2 = jset H1 H.1 (1000, 4, aI (fillZ (fun _ => 0) (4 : Nat) (-1))) := ⟨_, rfl⟩
  rw [← hH2] at fi
  have fr2 : Fr H H2 (fun _ => False) := by rw [hH2, hH1]; exact Fr.new (P := fun _ => False) Fr.rf (Fr.push.tr (Fr.set (Or.inr (Nat.le_refl _))))
  have n2 : H2.1 = H.1 + 1 ∧ H2.2.1 = H.2.1 + 4 := by rw [hH2, hH1]; exact ⟨rfl, rfl⟩
  have m2 : jm H2 H.1 = some (1000, 4, aI (fillZ (fun _ => 0) (4 : Nat) (-1))) := by rw [hH2]; exact jm_s1
  have hea : H.1 ≠ a := by omega
  have h2 : RdC (fun u => B u ∨ u = H.1) H2 a t n tp sc g z l x y q := h.more fr2 (fun _ _ e => e.elim) (fun e => e) (fun u hu => hu.elim Or.inl fun e => Or.inr (by omega)) fun u hu => Or.inl hu
  have S2 : SchP (fun u => C u ∨ u = H.1) H2 sc S nm := hS.new fr2 (fun _ e => e.elim) fun u hu => hu.elim Or.inl fun e => Or.inr (by omega)
  obtain ⟨H3, i1, i2, i3, i4⟩ := cl_11 (d := d) (to := to) W (Or.inl ca) (Or.inr rfl) hea t0 t1 (S (4 + tt)).toNat 0 L q H2 _ h2 S2 m2 (by omega) (Int.le_refl _) (fun j j0 j1 => by omega) (fun j j0 j1 => by unfold fillZ; rw [if_pos (by omega)])
  have run : M2 (d + 9) 8001 [.ref a, .int (zI tt)] H = G2 (d + 8) 8001 11 [.ref a, .int (zI tt), .ref H.1, .int (zI 0)] [] H2 := by
    rw [Y8001 H (jrecv_in m0 rv), F8001_0]
    have e4 : (4 : Int32).toNatClampNeg = 4 := by decide
    have e4' : (zI 4).toNatClampNeg = 4 := by decide
    simp (disch := first | assumption | omega | decide | exact okF_i | exact okF_r | exact okF_n | exact okF_j | rfl) only [jc_ref, rI_int, rR_ref, rR_null, rJ_long, ckR_ref, ckR_null, ckr_ref, ckr_null, ckW_int, ckW_ref, ckW_null, cI_ok, cR_ok, cR_null, cV_ok, cJ_ok, qH_eq, qD_in, aG_ref, aS_ref, aL_ref, pF_ref, cK_ref, cK_null, zI_lit, zJ_lit, zI_add, zI_sub, zI_mul, zI_neg, zI_eq, zI_lt, zI_le, Int.reduceLT, Int.reduceLE, Int.reduceAdd, Int.reduceSub, Int.reduceMul, Int.reduceNeg, Int.reduceEq, Int.reduceNe, reduceIte, jf_in, pFc_in, aGi, aGb, aSi, aLc_in, cKc_in, nA_in, jm_s1, jm_s2, jm_p1, jm_p2, jm_b, jn_b, jn_s, jn_p, jset_jset, jset_jpush2, ckR_is, ckr_is, rR_is, ckW_is, cR_is, obi2, ckW_int, eq_self, if_true, ref_null, if_false, ne_eq, not_true_eq_false, not_false_eq_true, decide_true, decide_false, decide_not, Bool.true_and, Bool.false_and, Bool.and_true, Bool.and_false, Bool.true_or, Bool.false_or, Bool.or_true, Bool.or_false, Bool.not_true, Bool.not_false, Bool.false_eq_true, bI_t, bI_f, Int.natCast_one, Int.cast_ofNat_Int, Int.natCast_zero, ju_self, ju_ne, e4, e4', ← hH1, fi]
  have fr : Fr H H3 (fun u => u = a) := (fr2.mono fun _ _ e => e.elim).new (i1.mono fun u _ e => e.elim Or.inl fun e => Or.inr (by omega))
  refine ⟨H3, fr, by omega, by omega, ?_⟩
  rw [run]
  cases hv : vals g z l to (S (4 + tt)).toNat 0 L q with
  | error er => rw [hv] at i4; exact i4
  | ok b =>
    rw [hv] at i4
    obtain ⟨u2, j1, j2, j3, gc', j4, j5, j6, j7⟩ := i4
    have el : H.1 < H3.1 := j3.2.2.1 H.1 (Or.inr rfl)
    refine ⟨u2, j1, j3.less (fun u hu => Or.inl hu) h.2.1, H.1, gc', j2, Fz_in el (fun hb => by have := h.2.2.1 _ hb; omega) j4, fun j z0 z1 => j5 j z0 (by omega), fun j z0 z1 => j6 j (by omega) z1, fun i hi => j7 i (by omega)⟩
theorem WhnF.cg {lst : List Value} {L' : Int → Int} {G : Nat → Option Cl} {v : Value} {m : Int} (h : WhnF F lst L to) (s : Sub F G) (hl : (lst.length : Int) = L (to + 7)) (hm : m = L (to + 7)) (e : ∀ i, to + 8 ≤ i → i < to + 8 + 3 * m → L' i = L i) : ∀ k : Int, 0 ≤ k → k < m → ∃ wb, (lst ++ [v]).getD k.toNat .null = .ref wb ∧ G wb = some (20, 3, o20 (L' (to + 8 + 3 * k)) (L' (to + 8 + 3 * k + 1)) (L' (to + 8 + 3 * k + 2))) := fun k k0 k1 => by
  obtain ⟨wb, w1, w2⟩ := h k k0 (by omega)
  refine ⟨wb, ?_, ?_⟩
  · rw [List.getD_eq_getElem?_getD, List.getElem?_append_left (by omega), ← List.getD_eq_getElem?_getD]; exact w1
  · rw [e _ (by omega) (by omega), e _ (by omega) (by omega), e _ (by omega) (by omega)]; exact s _ _ w2
/-- a condition after another -/
theorem wh_19 (W : ScW S) (ca : C a) (ce : C e) (hea : e ≠ a) (t0 : 0 ≤ tt) (t1 : tt < S 0) : ∀ (m : Nat) (L : Int → Int) (q : Int) (H : AH) (cap : Nat) (mc : Int32) (lst : List Value) (v3 v4 : Value), RdC (fun u => B u ∨ u = e) H a t n tp sc g z l x y q → SchP C H sc S nm → jm H e = some (cAL cap mc lst) → (cap = 0 ∧ lst = [] ∨ cap = 10) → (lst.length : Int) = L (to + 7) → 0 ≤ L (to + 7) → L (to + 7) ≤ 4 → L (to + 1) = tt → WhnF (Fz (fun u => B u ∨ u = e) H) lst L to → L (to + 7) + m = 5 →
    CR (condF g z l S nm to m L q) (G2 (d + 9) 8019 19 [.ref a, .int (zI tt), .ref e, v3, v4] [] H) H (fun u => u = a ∨ u = e) (30 * m) (280 * m) (fun b w H2 => w = some (.ref e) ∧ RdC (fun u => B u ∨ u = e) H2 a t n tp sc g z l x y b.2 ∧ ∃ cap2 mc2 lst2, jm H2 e = some (cAL cap2 mc2 lst2) ∧ cap2 ≤ 10 ∧ (lst2.length : Int) = b.1 (to + 7) ∧ b.1 (to + 7) ≤ 5 ∧ WhnF (Fz (fun u => B u ∨ u = e) H2) lst2 b.1 to ∧ ∀ j, j < to + 7 → b.1 j = L j) := by
  have W0 := W.1
  have co := W.2 tt t0 (by omega)
  intro m
  induction m with
  | zero => intro L q H cap mc lst v3 v4 h hS he hcp hl k0 k4; omega
  | succ m ih =>
    intro L q H cap mc lst v3 v4 h hS he hcp hl k0 k4 hL hW hm
    have el : e < H.1 := h.2.2.1 e (Or.inr rfl)
    unfold condF
    rw [hL]
    -- go
    obtain ⟨H1, a1, a2, a3, a4, h1⟩ := rc_go (d := d + 7) h
    have S1 := hS.fr a2 fun u z => by rw [z]; exact ca
    have e1 : jm H1 e = some (cAL cap mc lst) := (a2.2.2 e el hea).trans he
    -- hold
    obtain ⟨H2, b1, b2, b3, b4⟩ := rc_hold (d := d + 2) (but := -1) h1 S1 (by omega) t0 t1 co.1 (by omega) (by omega)
    rw [hold_look] at b4
    cases hr : lookC g z l S nm tt (nxt g z l q) with
    | error er =>
      rw [hr] at b4
      obtain ⟨u, r5, r6⟩ := b4
      rw [eb_er]
      refine ⟨H2, (a2.mono fun _ _ z => Or.inl z).tr (b1.mono fun _ _ z => z.elim), by omega, by omega, u, ?_, r6⟩
      rw [F8019_19]
      simp (disch := first | assumption | omega | decide | exact okF_i | exact okF_r | exact okF_n | exact okF_j | rfl) only [jc_ref, rI_int, rR_ref, rR_null, rJ_long, ckR_ref, ckR_null, ckr_ref, ckr_null, ckW_int, ckW_ref, ckW_null, cI_ok, cR_ok, cR_null, cV_ok, cJ_ok, qH_eq, qD_in, aG_ref, aS_ref, aL_ref, pF_ref, cK_ref, cK_null, zI_lit, zJ_lit, zI_add, zI_sub, zI_mul, zI_neg, zI_eq, zI_lt, zI_le, Int.reduceLT, Int.reduceLE, Int.reduceAdd, Int.reduceSub, Int.reduceMul, Int.reduceNeg, Int.reduceEq, Int.reduceNe, reduceIte, jf_in, pFc_in, aGi, aGb, aSi, aLc_in, cKc_in, nA_in, jm_s1, jm_s2, jm_p1, jm_p2, jm_b, jn_b, jn_s, jn_p, jset_jset, jset_jpush2, ckR_is, ckr_is, rR_is, ckW_is, cR_is, obi2, ckW_int, eq_self, if_true, ref_null, if_false, ne_eq, not_true_eq_false, not_false_eq_true, decide_true, decide_false, decide_not, Bool.true_and, Bool.false_and, Bool.and_true, Bool.and_false, Bool.true_or, Bool.false_or, Bool.or_true, Bool.or_false, Bool.not_true, Bool.not_false, Bool.false_eq_true, bI_t, bI_f, Int.natCast_one, Int.cast_ofNat_Int, Int.natCast_zero, ju_self, ju_ne, a1, r5, cI_th]
    | ok cv =>
      rw [hr] at b4
      obtain ⟨u, r5, rfl, h2, c0, c1, -, -⟩ := b4
      rw [eb_ok]
      have S2 := S1.fr b1 fun _ z => z.elim
      have el1 : e < H1.1 := Nat.lt_of_lt_of_le el a2.1
      have e2 : jm H2 e = some (cAL cap mc lst) := (b1.2.2 e el1 fun z => z).trans e1
      have sz := h_size (d := d + 8) e2
      have nd := fun b => rc_need (d := d + 4) h2 (b := b) (k := 4) (by omega) (by omega)
      have F12 : Fr H H2 (fun u => u = a ∨ u = e) := (a2.mono fun _ _ z => Or.inl z).tr (b1.mono fun _ _ z => z.elim)
      by_cases k4' : L (to + 7) = 4
      · rw [if_pos k4']
        have n1 := nd false
        rw [if_neg (by decide), bZ_f] at n1
        obtain ⟨H3, r1, r2, r3, r4, r5'⟩ := n1
        refine ⟨H3, F12.tr (r2.mono fun _ _ z => z.elim), by omega, by omega, H2.1, ?_, r5'⟩
        have ge4 : (4 : Int) ≤ lst.length := by omega
        rw [F8019_19]
        simp (disch := first | assumption | omega | decide | exact okF_i | exact okF_r | exact okF_n | exact okF_j | rfl) only [jc_ref, rI_int, rR_ref, rR_null, rJ_long, ckR_ref, ckR_null, ckr_ref, ckr_null, ckW_int, ckW_ref, ckW_null, cI_ok, cR_ok, cR_null, cV_ok, cJ_ok, qH_eq, qD_in, aG_ref, aS_ref, aL_ref, pF_ref, cK_ref, cK_null, zI_lit, zJ_lit, zI_add, zI_sub, zI_mul, zI_neg, zI_eq, zI_lt, zI_le, Int.reduceLT, Int.reduceLE, Int.reduceAdd, Int.reduceSub, Int.reduceMul, Int.reduceNeg, Int.reduceEq, Int.reduceNe, reduceIte, jf_in, pFc_in, aGi, aGb, aSi, aLc_in, cKc_in, nA_in, jm_s1, jm_s2, jm_p1, jm_p2, jm_b, jn_b, jn_s, jn_p, jset_jset, jset_jpush2, ckR_is, ckr_is, rR_is, ckW_is, cR_is, obi2, ckW_int, eq_self, if_true, ref_null, if_false, ne_eq, not_true_eq_false, not_false_eq_true, decide_true, decide_false, decide_not, Bool.true_and, Bool.false_and, Bool.and_true, Bool.and_false, Bool.true_or, Bool.false_or, Bool.or_true, Bool.or_false, Bool.not_true, Bool.not_false, Bool.false_eq_true, bI_t, bI_f, Int.natCast_one, Int.cast_ofNat_Int, Int.natCast_zero, ju_self, ju_ne, a1, r5, sz]
        rw [if_pos ge4, F8019_44]
        simp (disch := first | assumption | omega | decide | exact okF_i | exact okF_r | exact okF_n | exact okF_j | rfl) only [jc_ref, rI_int, rR_ref, rR_null, rJ_long, ckR_ref, ckR_null, ckr_ref, ckr_null, ckW_int, ckW_ref, ckW_null, cI_ok, cR_ok, cR_null, cV_ok, cJ_ok, qH_eq, qD_in, aG_ref, aS_ref, aL_ref, pF_ref, cK_ref, cK_null, zI_lit, zJ_lit, zI_add, zI_sub, zI_mul, zI_neg, zI_eq, zI_lt, zI_le, Int.reduceLT, Int.reduceLE, Int.reduceAdd, Int.reduceSub, Int.reduceMul, Int.reduceNeg, Int.reduceEq, Int.reduceNe, reduceIte, jf_in, pFc_in, aGi, aGb, aSi, aLc_in, cKc_in, nA_in, jm_s1, jm_s2, jm_p1, jm_p2, jm_b, jn_b, jn_s, jn_p, jset_jset, jset_jpush2, ckR_is, ckr_is, rR_is, ckW_is, cR_is, obi2, ckW_int, eq_self, if_true, ref_null, if_false, ne_eq, not_true_eq_false, not_false_eq_true, decide_true, decide_false, decide_not, Bool.true_and, Bool.false_and, Bool.and_true, Bool.and_false, Bool.true_or, Bool.false_or, Bool.or_true, Bool.or_false, Bool.not_true, Bool.not_false, Bool.false_eq_true, bI_t, bI_f, Int.natCast_one, Int.cast_ofNat_Int, Int.natCast_zero, ju_self, ju_ne, r1, cV_th]
      · rw [if_neg k4']
        have n1 := nd true
        rw [if_pos rfl, bZ_t] at n1
        have ge4 : ¬ (4 : Int) ≤ lst.length := by omega
        have l3 : lst.length ≤ 3 := by omega
        -- col
        obtain ⟨H3, c2, c3, c4, c5⟩ := rc_col (d := d + 1) (but := -1) h2 S2 (by omega) t0 t1 co.1 (by omega) (by omega)
        rw [hold_look, hr] at c5
        obtain ⟨u3, c6, rfl, h3, -⟩ := c5
        have S3 := S2.fr c2 fun u z => by rw [z]; exact ca
        have el2 : e < H2.1 := Nat.lt_of_lt_of_le el1 b1.1
        have e3 : jm H3 e = some (cAL cap mc lst) := (c2.2.2 e el2 hea).trans e2
        have F13 := F12.tr (c2.mono fun _ _ z => Or.inl z)
        -- than
        obtain ⟨H4, d2, d3, d4, d5⟩ := rc_than (d := d + 3) h3
        unfold thanP at d5
        by_cases ct : isThan g z l (nxt g z l (nxt g z l q)) = false
        · rw [if_pos ct] at d5
          obtain ⟨u4, d6, d7⟩ := d5
          have ct' : ¬ (kd g z l (nxt g z l (nxt g z l q)) = 3 ∧ isInZ (nmv g z (nxt g z l (nxt g z l q))) 60 62 = true) := fun z => by
            unfold isThan at ct
            rw [z.1, z.2] at ct
            cases ct
          rw [if_neg ct']
          refine ⟨H4, F13.tr (d2.mono fun _ _ z => Or.inl z), by omega, by omega, u4, ?_, d7⟩
          rw [F8019_19]
          simp (disch := first | assumption | omega | decide | exact okF_i | exact okF_r | exact okF_n | exact okF_j | rfl) only [jc_ref, rI_int, rR_ref, rR_null, rJ_long, ckR_ref, ckR_null, ckr_ref, ckr_null, ckW_int, ckW_ref, ckW_null, cI_ok, cR_ok, cR_null, cV_ok, cJ_ok, qH_eq, qD_in, aG_ref, aS_ref, aL_ref, pF_ref, cK_ref, cK_null, zI_lit, zJ_lit, zI_add, zI_sub, zI_mul, zI_neg, zI_eq, zI_lt, zI_le, Int.reduceLT, Int.reduceLE, Int.reduceAdd, Int.reduceSub, Int.reduceMul, Int.reduceNeg, Int.reduceEq, Int.reduceNe, reduceIte, jf_in, pFc_in, aGi, aGb, aSi, aLc_in, cKc_in, nA_in, jm_s1, jm_s2, jm_p1, jm_p2, jm_b, jn_b, jn_s, jn_p, jset_jset, jset_jpush2, ckR_is, ckr_is, rR_is, ckW_is, cR_is, obi2, ckW_int, eq_self, if_true, ref_null, if_false, ne_eq, not_true_eq_false, not_false_eq_true, decide_true, decide_false, decide_not, Bool.true_and, Bool.false_and, Bool.and_true, Bool.and_false, Bool.true_or, Bool.false_or, Bool.or_true, Bool.or_false, Bool.not_true, Bool.not_false, Bool.false_eq_true, bI_t, bI_f, Int.natCast_one, Int.cast_ofNat_Int, Int.natCast_zero, ju_self, ju_ne, a1, r5, sz]
          rw [if_neg ge4, F8019_44]
          simp (disch := first | assumption | omega | decide | exact okF_i | exact okF_r | exact okF_n | exact okF_j | rfl) only [jc_ref, rI_int, rR_ref, rR_null, rJ_long, ckR_ref, ckR_null, ckr_ref, ckr_null, ckW_int, ckW_ref, ckW_null, cI_ok, cR_ok, cR_null, cV_ok, cJ_ok, qH_eq, qD_in, aG_ref, aS_ref, aL_ref, pF_ref, cK_ref, cK_null, zI_lit, zJ_lit, zI_add, zI_sub, zI_mul, zI_neg, zI_eq, zI_lt, zI_le, Int.reduceLT, Int.reduceLE, Int.reduceAdd, Int.reduceSub, Int.reduceMul, Int.reduceNeg, Int.reduceEq, Int.reduceNe, reduceIte, jf_in, pFc_in, aGi, aGb, aSi, aLc_in, cKc_in, nA_in, jm_s1, jm_s2, jm_p1, jm_p2, jm_b, jn_b, jn_s, jn_p, jset_jset, jset_jpush2, ckR_is, ckr_is, rR_is, ckW_is, cR_is, obi2, ckW_int, eq_self, if_true, ref_null, if_false, ne_eq, not_true_eq_false, not_false_eq_true, decide_true, decide_false, decide_not, Bool.true_and, Bool.false_and, Bool.and_true, Bool.and_false, Bool.true_or, Bool.false_or, Bool.or_true, Bool.or_false, Bool.not_true, Bool.not_false, Bool.false_eq_true, bI_t, bI_f, Int.natCast_one, Int.cast_ofNat_Int, Int.natCast_zero, ju_self, ju_ne, n1, c6, d6, cI_th]
        · rw [if_neg ct] at d5
          obtain ⟨u4, d6, rfl, h4⟩ := d5
          have ct' : kd g z l (nxt g z l (nxt g z l q)) = 3 ∧ isInZ (nmv g z (nxt g z l (nxt g z l q))) 60 62 = true := by
            have : isThan g z l (nxt g z l (nxt g z l q)) = true := by simpa using ct
            unfold isThan at this
            rw [Bool.and_eq_true, decide_eq_true_eq] at this
            exact this
          rw [if_pos ct']
          have S4 := S3.fr d2 fun u z => by rw [z]; exact ca
          have el3 : e < H3.1 := Nat.lt_of_lt_of_le el2 c2.1
          have e4 : jm H4 e = some (cAL cap mc lst) := (d2.2.2 e el3 hea).trans e3
          have F14 := F13.tr (d2.mono fun _ _ z => Or.inl z)
          have el4 : e < H4.1 := Nat.lt_of_lt_of_le el3 d2.1
          -- the object
          obtain ⟨H5, hH5⟩ : ∃ H5, H5 = jpush H4 (20, 3, jL [.int (zI 0), .int (zI 0), .int (zI 0)]) := ⟨_, rfl⟩
          have fr5 : Fr H4 H5 (fun _ => False) := by rw [hH5]; exact Fr.push
          have n5 : H5.1 = H4.1 + 1 ∧ H5.2.1 = H4.2.1 + 3 := by rw [hH5]; exact ⟨rfl, rfl⟩
          have m5 : jm H5 H4.1 = some (20, 3, jL [.int (zI 0), .int (zI 0), .int (zI 0)]) := by rw [hH5]; exact jm_p1
          have al4 : a < H4.1 := h4.2.2.1 a h4.2.1
          have h5 : RdC (fun u => (B u ∨ u = e) ∨ u = H4.1) H5 a t n tp sc g z l x y (nxt g z l (nxt g z l (nxt g z l q))) := h4.more fr5 (fun _ _ z => z.elim) (fun z => z) (fun u hu => hu.elim Or.inl fun z => Or.inr (by omega)) fun u hu => Or.inl hu
          have e5 : jm H5 e = some (cAL cap mc lst) := (fr5.2.2 e el4 fun z => z).trans e4
          have F15 := F14.tr (fr5.mono fun _ _ z => z.elim)
          -- value
          obtain ⟨H6, g2, g3, g4, g5⟩ := rc_value (d := d + 1) h5
          rw [valP_vl]
          cases hv : vlP g z l (nxt g z l (nxt g z l (nxt g z l q))) with
          | error er =>
            rw [hv] at g5
            obtain ⟨u6, g6, g7⟩ := g5
            rw [eb_er, eb_er]
            refine ⟨H6, F15.tr (g2.mono fun _ _ z => Or.inl z), by omega, by omega, u6, ?_, g7⟩
            rw [F8019_19]
            simp (disch := first | assumption | omega | decide | exact okF_i | exact okF_r | exact okF_n | exact okF_j | rfl) only [jc_ref, rI_int, rR_ref, rR_null, rJ_long, ckR_ref, ckR_null, ckr_ref, ckr_null, ckW_int, ckW_ref, ckW_null, cI_ok, cR_ok, cR_null, cV_ok, cJ_ok, qH_eq, qD_in, aG_ref, aS_ref, aL_ref, pF_ref, cK_ref, cK_null, zI_lit, zJ_lit, zI_add, zI_sub, zI_mul, zI_neg, zI_eq, zI_lt, zI_le, Int.reduceLT, Int.reduceLE, Int.reduceAdd, Int.reduceSub, Int.reduceMul, Int.reduceNeg, Int.reduceEq, Int.reduceNe, reduceIte, jf_in, pFc_in, aGi, aGb, aSi, aLc_in, cKc_in, nA_in, jm_s1, jm_s2, jm_p1, jm_p2, jm_b, jn_b, jn_s, jn_p, jset_jset, jset_jpush2, ckR_is, ckr_is, rR_is, ckW_is, cR_is, obi2, ckW_int, eq_self, if_true, ref_null, if_false, ne_eq, not_true_eq_false, not_false_eq_true, decide_true, decide_false, decide_not, Bool.true_and, Bool.false_and, Bool.and_true, Bool.and_false, Bool.true_or, Bool.false_or, Bool.or_true, Bool.or_false, Bool.not_true, Bool.not_false, Bool.false_eq_true, bI_t, bI_f, Int.natCast_one, Int.cast_ofNat_Int, Int.natCast_zero, ju_self, ju_ne, a1, r5, sz]
            rw [if_neg ge4, F8019_44]
            simp (disch := first | assumption | omega | decide | exact okF_i | exact okF_r | exact okF_n | exact okF_j | rfl) only [jc_ref, rI_int, rR_ref, rR_null, rJ_long, ckR_ref, ckR_null, ckr_ref, ckr_null, ckW_int, ckW_ref, ckW_null, cI_ok, cR_ok, cR_null, cV_ok, cJ_ok, qH_eq, qD_in, aG_ref, aS_ref, aL_ref, pF_ref, cK_ref, cK_null, zI_lit, zJ_lit, zI_add, zI_sub, zI_mul, zI_neg, zI_eq, zI_lt, zI_le, Int.reduceLT, Int.reduceLE, Int.reduceAdd, Int.reduceSub, Int.reduceMul, Int.reduceNeg, Int.reduceEq, Int.reduceNe, reduceIte, jf_in, pFc_in, aGi, aGb, aSi, aLc_in, cKc_in, nA_in, jm_s1, jm_s2, jm_p1, jm_p2, jm_b, jn_b, jn_s, jn_p, jset_jset, jset_jpush2, ckR_is, ckr_is, rR_is, ckW_is, cR_is, obi2, ckW_int, eq_self, if_true, ref_null, if_false, ne_eq, not_true_eq_false, not_false_eq_true, decide_true, decide_false, decide_not, Bool.true_and, Bool.false_and, Bool.and_true, Bool.and_false, Bool.true_or, Bool.false_or, Bool.or_true, Bool.or_false, Bool.not_true, Bool.not_false, Bool.false_eq_true, bI_t, bI_f, Int.natCast_one, Int.cast_ofNat_Int, Int.natCast_zero, ju_self, ju_ne, n1, c6, d6, ← hH5, g6, cI_th]
          | ok v =>
            rw [hv] at g5
            obtain ⟨u6, g6, rfl, g7, h6⟩ := g5
            rw [eb_ok, eb_ok]
            have n51 : H5.1 = H4.1 + 1 := n5.1
            have g21 := g2.1
            have m6 : jm H6 H4.1 = some (20, 3, jL [.int (zI 0), .int (zI 0), .int (zI 0)]) := (g2.2.2 _ (by omega) (by omega)).trans m5
            have e6 : jm H6 e = some (cAL cap mc lst) := (g2.2.2 e (by omega) hea).trans e5
            -- the object is made
            obtain ⟨H7, hH7⟩ : ∃ H7, H7 = jset H6 H4.1 (20, 3, o20 cv (nmv g z (nxt g z l (nxt g z l q))) v.1) := ⟨_, rfl⟩
            have rv20 : (jtRecv 20900).elem 20 = true := rfl
            have ini : M2 (d + 9) 20900 [.ref H4.1, .int (zI cv), .int (zI (nmv g z (nxt g z l (nxt g z l q)))), .int (zI v.1)] H6 = some (.inl none, H7) := by
              rw [Y20900 H6 (jrecv_in m6 rv20), F20900_0, hH7]
              simp (disch := first | assumption | omega | decide | exact okF_i | exact okF_r | exact okF_n | exact okF_j | rfl) only [jc_ref, rI_int, rR_ref, rR_null, rJ_long, ckR_ref, ckR_null, ckr_ref, ckr_null, ckW_int, ckW_ref, ckW_null, cI_ok, cR_ok, cR_null, cV_ok, cJ_ok, qH_eq, qD_in, aG_ref, aS_ref, aL_ref, pF_ref, cK_ref, cK_null, zI_lit, zJ_lit, zI_add, zI_sub, zI_mul, zI_neg, zI_eq, zI_lt, zI_le, Int.reduceLT, Int.reduceLE, Int.reduceAdd, Int.reduceSub, Int.reduceMul, Int.reduceNeg, Int.reduceEq, Int.reduceNe, reduceIte, jf_in, pFc_in, aGi, aGb, aSi, aLc_in, cKc_in, nA_in, jm_s1, jm_s2, jm_p1, jm_p2, jm_b, jn_b, jn_s, jn_p, jset_jset, jset_jpush2, ckR_is, ckr_is, rR_is, ckW_is, cR_is, obi2, ckW_int, eq_self, if_true, ref_null, if_false, ne_eq, not_true_eq_false, not_false_eq_true, decide_true, decide_false, decide_not, Bool.true_and, Bool.false_and, Bool.and_true, Bool.and_false, Bool.true_or, Bool.false_or, Bool.or_true, Bool.or_false, Bool.not_true, Bool.not_false, Bool.false_eq_true, bI_t, bI_f, Int.natCast_one, Int.cast_ofNat_Int, Int.natCast_zero, ju_self, ju_ne, n20, o20s_0, o20s_1, o20s_2, m6]
            have fr7 : Fr H6 H7 (fun u => u = H4.1) := by rw [hH7]; exact Fr.set rfl
            have m7 : jm H7 H4.1 = some (20, 3, o20 cv (nmv g z (nxt g z l (nxt g z l q))) v.1) := by rw [hH7]; exact jm_s1
            have n7 : H7.1 = H6.1 ∧ H7.2.1 = H6.2.1 := by rw [hH7]; exact ⟨rfl, rfl⟩
            have h7 : RdC (fun u => (B u ∨ u = e) ∨ u = H4.1) H7 a t n tp sc g z l x y (nxt g z l (nxt g z l (nxt g z l (nxt g z l q)))) := h6.fr fr7 (fun u _ z => Or.inr z) (fun z => by omega)
            have e7 : jm H7 e = some (cAL cap mc lst) := (fr7.2.2 e (by omega) (by omega)).trans e6
            -- it is added
            have ad := h_add (d := d + 8) (v := .ref H4.1) e7 (by omega) (Or.inr ⟨H4.1, _, rfl, m7, by show (20 : Nat) < 1000; omega⟩)
            have up : alUp cap lst.length = 10 := by
              unfold alUp
              rcases hcp with ⟨rfl, rfl⟩ | rfl
              · rfl
              · rw [if_pos (by omega)]
            rw [up] at ad
            obtain ⟨H8, hH8⟩ : ∃ H8, H8 = jset (alBurn H7 cap lst.length) e (cAL 10 (mc + 1) (lst ++ [.ref H4.1])) := ⟨_, rfl⟩
            rw [← hH8] at ad
            have bu : Fr H7 (alBurn H7 cap lst.length) (fun _ => False) ∧ (alBurn H7 cap lst.length).1 ≤ H7.1 + 1 ∧ (alBurn H7 cap lst.length).2.1 ≤ H7.2.1 + 10 := by
              unfold alBurn
              rcases hcp with ⟨rfl, rfl⟩ | rfl
              · rw [if_neg (by simp)]
                exact ⟨Fr.burn, Nat.le_refl _, Nat.le_refl _⟩
              · rw [if_pos (by omega)]
                exact ⟨Fr.rf, by omega, by omega⟩
            have fr8 : Fr H7 H8 (fun u => u = e) := by rw [hH8]; exact (bu.1.mono fun _ _ z => z.elim).tr (Fr.set rfl)
            have n8 : H8.1 ≤ H7.1 + 1 ∧ H8.2.1 ≤ H7.2.1 + 10 := by rw [hH8]; exact bu.2
            have fr81 := fr8.1
            have m8 : jm H8 e = some (cAL 10 (mc + 1) (lst ++ [.ref H4.1])) := by rw [hH8]; exact jm_s1
            have h8 : RdC (fun u => B u ∨ u = e) H8 a t n tp sc g z l x y (nxt g z l (nxt g z l (nxt g z l (nxt g z l q)))) := (h7.fr fr8 (fun u _ z => Or.inl (Or.inr z)) (fun z => hea z.symm)).less (fun u hu => Or.inl hu) h.2.1
            have F58 : Fr H4 H8 (fun u => (u = a ∨ u = e)) := ((fr5.mono fun _ _ z => z.elim).tr (g2.mono fun _ _ z => Or.inl z)).new ((fr7.mono fun u _ z => Or.inr (by omega)).tr (fr8.mono fun u _ z => Or.inl (Or.inr z)))
            have F18 : Fr H H8 (fun u => u = a ∨ u = e) := F14.tr F58
            have S8 := S4.fr F58 fun u z => z.elim (fun z => by rw [z]; exact ca) fun z => by rw [z]; exact ce
            have w8 : jm H8 H4.1 = some (20, 3, o20 cv (nmv g z (nxt g z l (nxt g z l q))) v.1) := (fr8.2.2 _ (by omega) (by omega)).trans m7
            have sub8 : Sub (Fz (fun u => B u ∨ u = e) H) (Fz (fun u => B u ∨ u = e) H8) := Fz_sub F18 fun u _ z => z.elim (fun z => by rw [z]; exact h.2.1) Or.inr
            obtain ⟨w23, w23a, w23b⟩ := rc_isE h8 (k := 23) (by omega) (by omega) (nmE (by decide))
            have w23c := w23b (d + 7)
            rw [show pk (bsL 23) = wAND by decide] at w23c
            -- the line
            have hL3 : ∃ L3, L3 = fset (fset (fset (fset L (to + 8 + 3 * L (to + 7)) cv) (to + 8 + 3 * L (to + 7) + 1) (nmv g z (nxt g z l (nxt g z l q)))) (to + 8 + 3 * L (to + 7) + 2) v.1) (to + 7) (fset (fset (fset L (to + 8 + 3 * L (to + 7)) cv) (to + 8 + 3 * L (to + 7) + 1) (nmv g z (nxt g z l (nxt g z l q)))) (to + 8 + 3 * L (to + 7) + 2) v.1 (to + 7) + 1) := ⟨_, rfl⟩
            obtain ⟨L3, hL3⟩ := hL3
            have l37 : L3 (to + 7) = L (to + 7) + 1 := by rw [hL3, fset_eq]; simp (disch := omega) only [fset_ne]
            have l3a : L3 (to + 8 + 3 * L (to + 7)) = cv := by rw [hL3]; simp (disch := omega) only [fset_ne, fset_eq]
            have l3b : L3 (to + 8 + 3 * L (to + 7) + 1) = nmv g z (nxt g z l (nxt g z l q)) := by rw [hL3]; simp (disch := omega) only [fset_ne, fset_eq]
            have l3c : L3 (to + 8 + 3 * L (to + 7) + 2) = v.1 := by rw [hL3]; simp (disch := omega) only [fset_ne, fset_eq]
            have l3o : ∀ i, i < to + 8 + 3 * L (to + 7) → i ≠ to + 7 → L3 i = L i := fun i i0 i1 => by rw [hL3]; simp (disch := omega) only [fset_ne]
            have W8 : WhnF (Fz (fun u => B u ∨ u = e) H8) (lst ++ [.ref H4.1]) L3 to := fun k k0' k1' => by
              rw [l37] at k1'
              by_cases ek : k = L (to + 7)
              · subst ek
                refine ⟨H4.1, ?_, ?_⟩
                · rw [List.getD_eq_getElem?_getD, List.getElem?_append_right (by omega), show (L (to + 7)).toNat - lst.length = 0 by omega]; rfl
                · rw [l3a, l3b, l3c]
                  exact Fz_in (by omega) (fun z => z.elim (fun z => by have := h.2.2.1 _ (Or.inl z); have := F14.1; omega) fun z => by omega) w8
              · exact hW.cg (v := .ref H4.1) (L' := L3) (m := L (to + 7)) sub8 hl rfl (fun i i0 i1 => l3o i i1 (by omega)) k k0' (by omega)
            have len8 : ((lst ++ [(.ref H4.1 : Value)]).length : Int) = L3 (to + 7) := by rw [List.length_append, l37]; simp; omega
            have run : ∀ X : Rz, (if isW g z l (nxt g z l (nxt g z l (nxt g z l (nxt g z l q)))) wAND = true then G2 (d + 9) 8019 19 [.ref a, .int (zI tt), .ref e, .int (zI cv), .int (zI (nmv g z (nxt g z l (nxt g z l q))))] [] H8 else some (.inl (some (.ref e)), H8)) = X → G2 (d + 9) 8019 19 [.ref a, .int (zI tt), .ref e, v3, v4] [] H = X := by
              intro X hX
              rw [← hX, F8019_19]
              simp (disch := first | assumption | omega | decide | exact okF_i | exact okF_r | exact okF_n | exact okF_j | rfl) only [jc_ref, rI_int, rR_ref, rR_null, rJ_long, ckR_ref, ckR_null, ckr_ref, ckr_null, ckW_int, ckW_ref, ckW_null, cI_ok, cR_ok, cR_null, cV_ok, cJ_ok, qH_eq, qD_in, aG_ref, aS_ref, aL_ref, pF_ref, cK_ref, cK_null, zI_lit, zJ_lit, zI_add, zI_sub, zI_mul, zI_neg, zI_eq, zI_lt, zI_le, Int.reduceLT, Int.reduceLE, Int.reduceAdd, Int.reduceSub, Int.reduceMul, Int.reduceNeg, Int.reduceEq, Int.reduceNe, reduceIte, jf_in, pFc_in, aGi, aGb, aSi, aLc_in, cKc_in, nA_in, jm_s1, jm_s2, jm_p1, jm_p2, jm_b, jn_b, jn_s, jn_p, jset_jset, jset_jpush2, ckR_is, ckr_is, rR_is, ckW_is, cR_is, obi2, ckW_int, eq_self, if_true, ref_null, if_false, ne_eq, not_true_eq_false, not_false_eq_true, decide_true, decide_false, decide_not, Bool.true_and, Bool.false_and, Bool.and_true, Bool.and_false, Bool.true_or, Bool.false_or, Bool.or_true, Bool.or_false, Bool.not_true, Bool.not_false, Bool.false_eq_true, bI_t, bI_f, Int.natCast_one, Int.cast_ofNat_Int, Int.natCast_zero, ju_self, ju_ne, a1, r5, sz]
              rw [if_neg ge4, F8019_44]
              cases ea : isW g z l (nxt g z l (nxt g z l (nxt g z l (nxt g z l q)))) wAND with
              | true =>
                rw [ea, bZ_t] at w23c
                simp (disch := first | assumption | omega | decide | exact okF_i | exact okF_r | exact okF_n | exact okF_j | rfl) only [jc_ref, rI_int, rR_ref, rR_null, rJ_long, ckR_ref, ckR_null, ckr_ref, ckr_null, ckW_int, ckW_ref, ckW_null, cI_ok, cR_ok, cR_null, cV_ok, cJ_ok, qH_eq, qD_in, aG_ref, aS_ref, aL_ref, pF_ref, cK_ref, cK_null, zI_lit, zJ_lit, zI_add, zI_sub, zI_mul, zI_neg, zI_eq, zI_lt, zI_le, Int.reduceLT, Int.reduceLE, Int.reduceAdd, Int.reduceSub, Int.reduceMul, Int.reduceNeg, Int.reduceEq, Int.reduceNe, reduceIte, jf_in, pFc_in, aGi, aGb, aSi, aLc_in, cKc_in, nA_in, jm_s1, jm_s2, jm_p1, jm_p2, jm_b, jn_b, jn_s, jn_p, jset_jset, jset_jpush2, ckR_is, ckr_is, rR_is, ckW_is, cR_is, obi2, ckW_int, eq_self, if_true, ref_null, if_false, ne_eq, not_true_eq_false, not_false_eq_true, decide_true, decide_false, decide_not, Bool.true_and, Bool.false_and, Bool.and_true, Bool.and_false, Bool.true_or, Bool.false_or, Bool.or_true, Bool.or_false, Bool.not_true, Bool.not_false, Bool.false_eq_true, bI_t, bI_f, Int.natCast_one, Int.cast_ofNat_Int, Int.natCast_zero, ju_self, ju_ne, n1, c6, d6, ← hH5, g6, ini, ad, w23a, w23c]
              | false =>
                rw [ea, bZ_f] at w23c
                simp (disch := first | assumption | omega | decide | exact okF_i | exact okF_r | exact okF_n | exact okF_j | rfl) only [jc_ref, rI_int, rR_ref, rR_null, rJ_long, ckR_ref, ckR_null, ckr_ref, ckr_null, ckW_int, ckW_ref, ckW_null, cI_ok, cR_ok, cR_null, cV_ok, cJ_ok, qH_eq, qD_in, aG_ref, aS_ref, aL_ref, pF_ref, cK_ref, cK_null, zI_lit, zJ_lit, zI_add, zI_sub, zI_mul, zI_neg, zI_eq, zI_lt, zI_le, Int.reduceLT, Int.reduceLE, Int.reduceAdd, Int.reduceSub, Int.reduceMul, Int.reduceNeg, Int.reduceEq, Int.reduceNe, reduceIte, jf_in, pFc_in, aGi, aGb, aSi, aLc_in, cKc_in, nA_in, jm_s1, jm_s2, jm_p1, jm_p2, jm_b, jn_b, jn_s, jn_p, jset_jset, jset_jpush2, ckR_is, ckr_is, rR_is, ckW_is, cR_is, obi2, ckW_int, eq_self, if_true, ref_null, if_false, ne_eq, not_true_eq_false, not_false_eq_true, decide_true, decide_false, decide_not, Bool.true_and, Bool.false_and, Bool.and_true, Bool.and_false, Bool.true_or, Bool.false_or, Bool.or_true, Bool.or_false, Bool.not_true, Bool.not_false, Bool.false_eq_true, bI_t, bI_f, Int.natCast_one, Int.cast_ofNat_Int, Int.natCast_zero, ju_self, ju_ne, n1, c6, d6, ← hH5, g6, ini, ad, w23a, w23c]
            have cst : H8.1 ≤ H.1 + 30 ∧ H8.2.1 ≤ H.2.1 + 280 := by omega
            show CR (if isW g z l v.2 wAND = true then condF g z l S nm to m (fset (fset (fset (fset L (to + 8 + 3 * L (to + 7)) cv) (to + 8 + 3 * L (to + 7) + 1) (nmv g z (nxt g z l (nxt g z l q)))) (to + 8 + 3 * L (to + 7) + 2) v.1) (to + 7) (fset (fset (fset L (to + 8 + 3 * L (to + 7)) cv) (to + 8 + 3 * L (to + 7) + 1) (nmv g z (nxt g z l (nxt g z l q)))) (to + 8 + 3 * L (to + 7) + 2) v.1 (to + 7) + 1)) v.2 else .ok (fset (fset (fset (fset L (to + 8 + 3 * L (to + 7)) cv) (to + 8 + 3 * L (to + 7) + 1) (nmv g z (nxt g z l (nxt g z l q)))) (to + 8 + 3 * L (to + 7) + 2) v.1) (to + 7) (fset (fset (fset L (to + 8 + 3 * L (to + 7)) cv) (to + 8 + 3 * L (to + 7) + 1) (nmv g z (nxt g z l (nxt g z l q)))) (to + 8 + 3 * L (to + 7) + 2) v.1 (to + 7) + 1), v.2)) _ _ _ _ _ _
            rw [← hL3, g7]
            by_cases ea : isW g z l (nxt g z l (nxt g z l (nxt g z l (nxt g z l q)))) wAND = true
            · rw [if_pos ea]
              have r0 := run _ rfl
              rw [if_pos ea] at r0
              obtain ⟨H9, i1, i2, i3, i4⟩ := ih L3 _ H8 10 (mc + 1) (lst ++ [.ref H4.1]) (.int (zI cv)) (.int (zI (nmv g z (nxt g z l (nxt g z l q))))) h8 S8 m8 (Or.inr rfl) len8 (by omega) (by omega) (by rw [l3o _ (by omega) (by omega)]; exact hL) W8 (by omega)
              refine ⟨H9, F18.tr i1, by omega, by omega, ?_⟩
              rw [r0]
              cases hc : condF g z l S nm to m L3 (nxt g z l (nxt g z l (nxt g z l (nxt g z l q)))) with
              | error er => rw [hc] at i4; exact i4
              | ok b =>
                rw [hc] at i4
                obtain ⟨u9, j1, j2, j3, cap2, mc2, lst2, j4, j5, j6, j7, j8, j9⟩ := i4
                exact ⟨u9, j1, j2, j3, cap2, mc2, lst2, j4, j5, j6, j7, j8, fun j hj => by rw [j9 j hj, l3o j (by omega) (by omega)]⟩
            · rw [if_neg ea]
              have r0 := run _ rfl
              rw [if_neg ea] at r0
              exact ⟨H8, F18, by omega, by omega, _, r0, rfl, h8, 10, mc + 1, lst ++ [.ref H4.1], m8, Nat.le_refl _, len8, by show L3 (to + 7) ≤ 5; omega, W8, fun j hj => l3o j (by omega) (by omega)⟩
end
