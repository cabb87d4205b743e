/-! the component's reader: any statement; the one statement of a tape -/
-- jc_ref, rI_int, rR_ref, rR_null, rJ_long, ckR_ref, ckR_null, ckr_ref, ckr_null, ckW_int, ckW_ref, ckW_null, cI_ok, cR_ok, cR_null, cV_ok, cJ_ok, qH_eq, qD_in, aG_ref, aS_ref, aL_ref, pF_ref, cK_ref, cK_null, zI_lit, zJ_lit, zI_add, zI_sub, zI_mul, zI_neg, zI_eq, zI_lt, zI_le, Int.reduceLT, Int.reduceLE, Int.reduceAdd, Int.reduceSub, Int.reduceMul, Int.reduceNeg, Int.reduceEq, Int.reduceNe, reduceIte, jf_in, pFc_in, aGi, aGb, aSi, aLc_in, cKc_in, nA_in, jm_s1, jm_s2, jm_p1, jm_p2, jm_b, jn_b, jn_s, jn_p, jset_jset, jset_jpush2, ckR_is, ckr_is, rR_is, ckW_is, cR_is, obi2, ckW_int, eq_self, if_true, ref_null, if_false, ne_eq, not_true_eq_false, not_false_eq_true, decide_true, decide_false, decide_not, Bool.true_and, Bool.false_and, Bool.and_true, Bool.and_false, Bool.true_or, Bool.false_or, Bool.or_true, Bool.or_false, Bool.not_true, Bool.not_false, Bool.false_eq_true, bI_t, bI_f, Int.natCast_one, Int.cast_ofNat_Int, Int.natCast_zero, ju_self, ju_ne = jc_ref, rI_int, rR_ref, rR_null, rJ_long, ckR_ref, ckR_null, ckr_ref, ckr_null, ckW_int, ckW_ref, ckW_null, cI_ok, cR_ok, cR_null, cV_ok, cJ_ok, qH_eq, qD_in, aG_ref, aS_ref, aL_ref, pF_ref, cK_ref, cK_null, zI_lit, zJ_lit, zI_add, zI_sub, zI_mul, zI_neg, zI_eq, zI_lt, zI_le, Int.reduceLT, Int.reduceLE, Int.reduceAdd, Int.reduceSub, Int.reduceMul, Int.reduceNeg, Int.reduceEq, Int.reduceNe, reduceIte, jf_in, pFc_in, aGi, aGb, aSi, aLc_in, cKc_in, nA_in, jm_s1, jm_s2, jm_p1, jm_p2, jm_b, jn_b, jn_s, jn_p, jset_jset, jset_jpush2, ckR_is, ckr_is, rR_is, ckW_is, cR_is, obi2, ckW_int, eq_self, if_true, ref_null, if_false, ne_eq, not_true_eq_false, not_false_eq_true, decide_true, decide_false, decide_not, Bool.true_and, Bool.false_and, Bool.and_true, Bool.and_false, Bool.true_or, Bool.false_or, Bool.or_true, Bool.or_false, Bool.not_true, Bool.not_false, Bool.false_eq_true, bI_t, bI_f, Int.natCast_one, Int.cast_ofNat_Int, Int.natCast_zero, ju_self, ju_ne
section
variable {d : Nat} {H H2 : AH} {a b t n tp sc w c s c2 s2 e : Nat} {f : Nat → Value} {g : Int → Int} {z l p q k o tt but to : Int} {F : Nat → Option Cl} {B P Q C C2 : Nat → Prop} {x y : Value} {S nm L : Int → Int} {sw : List Int}
theorem CRl.go {α : Type} {r : Except Er α} {R : Rz} {H1 : AH} {c' s' : Nat} {K K' : α → Option Value → AH → Prop} {Kl : Int → Option Value → AH → Prop} (h : CRl g z l r R H1 P c s K Kl) (f : Fr H H1 P) (hc : H1.1 + c ≤ H.1 + c') (hs : H1.2.1 + s ≤ H.2.1 + s') (hk : ∀ v w H2, K v w H2 → K' v w H2) : CRl g z l r R H P c' s' K' Kl := by
  obtain ⟨H2, h1, h2, h3, h4⟩ := h
  refine ⟨H2, f.tr h1, by omega, by omega, ?_⟩
  cases r with
  | error e => exact h4
  | ok v => obtain ⟨w, w1, w2⟩ := h4; exact ⟨w, w1, hk _ _ _ w2⟩
/-- a statement's line, its table known -/
def ownL (L : Int → Int) (to kk tt : Int) : Int → Int := fset (fset (fset (fset L to kk) (to + 1) tt) (to + 2) 0) (to + 7) 0
theorem ownL_at {kk : Int} : ownL L to kk tt to = kk ∧ ownL L to kk tt (to + 1) = tt ∧ ownL L to kk tt (to + 2) = 0 ∧ ownL L to kk tt (to + 7) = 0 := by
  unfold ownL
  simp (disch := omega) only [fset_ne, fset_eq, and_self]
theorem ownP_eq {kk : Int} : ownP g z l S nm (fset L to kk) to q = eb (lookP g z l (fun k => nm k) (S 0).toNat q) fun v => .ok (ownL L to kk v, nxt g z l q) := by
  unfold ownP
  rw [show (fun k => nm (0 + k)) = (fun k => nm k) from funext fun k => by rw [Int.zero_add]]
  rfl
theorem rc_statement (h : RdC B H a t n tp sc g z l x y q) (hS : SchP C H sc S nm) (ca : C a) (W : ScW S) (hs : isW g z l q wINSERT = true ∨ isW g z l q wDELETE = true ∨ isW g z l q wSET = true) :
    CRl g z l (stmP g z l S nm L to q) (M2 (d + 12) 8015 [.ref a] H) H (fun u => u = a) 199 1815 (StmK B H a t n tp sc g z l x y S to H.1) (fun q' w H2 => RdC B H2 a t n tp sc g z l x y q' ∧ ∃ sb, w = some (.ref sb)) := by
  have W0 := W.1
  obtain ⟨f, m0, te, ht, -⟩ := h.fs
  have rv : (jtRecv 8015).elem t = true := by rcases ht with e | e | e | e <;> subst e <;> rfl
  obtain ⟨w19, w19a, w19b⟩ := rc_isE h (k := 19) (by omega) (by omega) (nmE (by decide))
  have w19c := w19b (d + 9)
  rw [show pk (bsL 19) = wINSERT by decide] at w19c
  obtain ⟨w20, w20a, w20b⟩ := rc_isE h (k := 20) (by omega) (by omega) (nmE (by decide))
  have w20c := w20b (d + 9)
  rw [show pk (bsL 20) = wDELETE by decide] at w20c
  obtain ⟨H1, a1, a2, a3, a4, h1⟩ := rc_go (d := d + 9) h
  have S1 := hS.fr a2 fun u z => by rw [z]; exact ca
  obtain ⟨H2, b1, b2, b3, b4⟩ := rc_table (d := d + 4) h1 S1 (by omega)
  have lr := fun v (e : lookP g z l (fun k => nm k) (S 0).toNat (nxt g z l q) = .ok v) => lookP_rg e
  -- a fault at the table
  have bad : ∀ er, lookP g z l (fun k => nm k) (S 0).toNat (nxt g z l q) = .error er → ∀ r : Except Er LQ, r = .error er → CRl g z l r (M2 (d + 12) 8015 [.ref a] H) H (fun u => u = a) 199 1815 (StmK B H a t n tp sc g z l x y S to H.1) (fun q' w H2 => RdC B H2 a t n tp sc g z l x y q' ∧ ∃ sb, w = some (.ref sb)) := by
    intro er he r hr
    subst hr
    rw [he] at b4
    obtain ⟨u, r5, r6⟩ := b4
    refine ⟨H2, a2.tr b1, by omega, by omega, Or.inl ⟨u, ?_, r6⟩⟩
    rw [Y8015 H (jrecv_in m0 rv), F8015_0]
    simp (disch := first | assumption | omega | decide | exact okF_i | exact okF_r | exact okF_n | exact okF_j | rfl) only [jc_ref, rI_int, rR_ref, rR_null, rJ_long, ckR_ref, ckR_null, ckr_ref, ckr_null, ckW_int, ckW_ref, ckW_null, cI_ok, cR_ok, cR_null, cV_ok, cJ_ok, qH_eq, qD_in, aG_ref, aS_ref, aL_ref, pF_ref, cK_ref, cK_null, zI_lit, zJ_lit, zI_add, zI_sub, zI_mul, zI_neg, zI_eq, zI_lt, zI_le, Int.reduceLT, Int.reduceLE, Int.reduceAdd, Int.reduceSub, Int.reduceMul, Int.reduceNeg, Int.reduceEq, Int.reduceNe, reduceIte, jf_in, pFc_in, aGi, aGb, aSi, aLc_in, cKc_in, nA_in, jm_s1, jm_s2, jm_p1, jm_p2, jm_b, jn_b, jn_s, jn_p, jset_jset, jset_jpush2, ckR_is, ckr_is, rR_is, ckW_is, cR_is, obi2, ckW_int, eq_self, if_true, ref_null, if_false, ne_eq, not_true_eq_false, not_false_eq_true, decide_true, decide_false, decide_not, Bool.true_and, Bool.false_and, Bool.and_true, Bool.and_false, Bool.true_or, Bool.false_or, Bool.or_true, Bool.or_false, Bool.not_true, Bool.not_false, Bool.false_eq_true, bI_t, bI_f, Int.natCast_one, Int.cast_ofNat_Int, Int.natCast_zero, ju_self, ju_ne, w19a, w19c, w20a, w20c, a1, r5, cI_th]
  unfold stmP
  cases e1 : isW g z l q wINSERT with
  | true =>
    rw [if_pos rfl]
    unfold insP
    rw [ownP_eq]
    cases hr : lookP g z l (fun k => nm k) (S 0).toNat (nxt g z l q) with
    | error er => exact bad er hr _ rfl
    | ok v =>
      rw [hr] at b4
      obtain ⟨u, r5, rfl, h2⟩ := b4
      obtain ⟨v0, v1⟩ := lr v hr
      have S2 := S1.fr b1 fun u z => by rw [z]; exact ca
      obtain ⟨o0, o1, o2, o7⟩ := ownL_at (L := L) (to := to) (tt := v) (kk := 0)
      have T := rc_insert (d := d + 2) (to := to) (L := ownL L to 0 v) h2 S2 ca W v0 v1 o1 o0
      rw [e1, bZ_t] at w19c
      have run : M2 (d + 12) 8015 [.ref a] H = (zqH (jpush H2 (17, 2, jL [.int (zI 0), .null])) (fun h18 => zcR (M2 (d + 11) 8001 [.ref a, .int (zI v)] h18) (fun r19 h20 => zcV (M2 (d + 11) 17900 [.ref H2.1, .int (zI v), r19] h20) (fun h22 => some (.inl (some (.ref H2.1)), h22)) ()) ()) ()) := by
        rw [Y8015 H (jrecv_in m0 rv), F8015_0]
        simp (disch := first | assumption | omega | decide | exact okF_i | exact okF_r | exact okF_n | exact okF_j | rfl) only [jc_ref, rI_int, rR_ref, rR_null, rJ_long, ckR_ref, ckR_null, ckr_ref, ckr_null, ckW_int, ckW_ref, ckW_null, cI_ok, cR_ok, cR_null, cV_ok, cJ_ok, qH_eq, qD_in, aG_ref, aS_ref, aL_ref, pF_ref, cK_ref, cK_null, zI_lit, zJ_lit, zI_add, zI_sub, zI_mul, zI_neg, zI_eq, zI_lt, zI_le, Int.reduceLT, Int.reduceLE, Int.reduceAdd, Int.reduceSub, Int.reduceMul, Int.reduceNeg, Int.reduceEq, Int.reduceNe, reduceIte, jf_in, pFc_in, aGi, aGb, aSi, aLc_in, cKc_in, nA_in, jm_s1, jm_s2, jm_p1, jm_p2, jm_b, jn_b, jn_s, jn_p, jset_jset, jset_jpush2, ckR_is, ckr_is, rR_is, ckW_is, cR_is, obi2, ckW_int, eq_self, if_true, ref_null, if_false, ne_eq, not_true_eq_false, not_false_eq_true, decide_true, decide_false, decide_not, Bool.true_and, Bool.false_and, Bool.and_true, Bool.and_false, Bool.true_or, Bool.false_or, Bool.or_true, Bool.or_false, Bool.not_true, Bool.not_false, Bool.false_eq_true, bI_t, bI_f, Int.natCast_one, Int.cast_ofNat_Int, Int.natCast_zero, ju_self, ju_ne, w19a, w19c, w20a, w20c, a1, r5]
      rw [eb_ok]
      show CRl g z l (eb (.ok (ownL L to 0 v, nxt g z l (nxt g z l q)) : Except Er LQ) fun a => vals g z l to (S (4 + a.1 (to + 1))).toNat 0 a.1 a.2) _ _ _ _ _ _ _
      rw [eb_ok]
      show CRl g z l (vals g z l to (S (4 + ownL L to 0 v (to + 1))).toNat 0 (ownL L to 0 v) (nxt g z l (nxt g z l q))) _ _ _ _ _ _ _
      rw [o1, run]
      exact T.li.go (a2.tr b1) (by omega) (by omega) fun v w H2 hk => hk.lo (Nat.le_trans a2.1 b1.1)
  | false =>
    rw [if_neg (by decide)]
    rw [e1, bZ_f] at w19c
    cases e2 : isW g z l q wDELETE with
    | true =>
      rw [if_pos rfl]
      unfold delP
      rw [ownP_eq]
      cases hr : lookP g z l (fun k => nm k) (S 0).toNat (nxt g z l q) with
      | error er => exact bad er hr _ rfl
      | ok v =>
        rw [hr] at b4
        obtain ⟨u, r5, rfl, h2⟩ := b4
        obtain ⟨v0, v1⟩ := lr v hr
        have S2 := S1.fr b1 fun u z => by rw [z]; exact ca
        obtain ⟨o0, o1, o2, o7⟩ := ownL_at (L := L) (to := to) (tt := v) (kk := 1)
        have T := rc_delete (d := d + 1) (to := to) (L := ownL L to 1 v) h2 S2 ca W v0 v1 o1 o0 o2 o7
        rw [e2, bZ_t] at w20c
        have run : M2 (d + 12) 8015 [.ref a] H = (zqH (jpush H2 (19, 2, jL [.int (zI 0), .null])) (fun h13 => zcR (M2 (d + 11) 8019 [.ref a, .int (zI v)] h13) (fun r14 h15 => zcV (M2 (d + 11) 19900 [.ref H2.1, .int (zI v), r14] h15) (fun h17 => some (.inl (some (.ref H2.1)), h17)) ()) ()) ()) := by
          rw [Y8015 H (jrecv_in m0 rv), F8015_0]
          simp (disch := first | assumption | omega | decide | exact okF_i | exact okF_r | exact okF_n | exact okF_j | rfl) only [jc_ref, rI_int, rR_ref, rR_null, rJ_long, ckR_ref, ckR_null, ckr_ref, ckr_null, ckW_int, ckW_ref, ckW_null, cI_ok, cR_ok, cR_null, cV_ok, cJ_ok, qH_eq, qD_in, aG_ref, aS_ref, aL_ref, pF_ref, cK_ref, cK_null, zI_lit, zJ_lit, zI_add, zI_sub, zI_mul, zI_neg, zI_eq, zI_lt, zI_le, Int.reduceLT, Int.reduceLE, Int.reduceAdd, Int.reduceSub, Int.reduceMul, Int.reduceNeg, Int.reduceEq, Int.reduceNe, reduceIte, jf_in, pFc_in, aGi, aGb, aSi, aLc_in, cKc_in, nA_in, jm_s1, jm_s2, jm_p1, jm_p2, jm_b, jn_b, jn_s, jn_p, jset_jset, jset_jpush2, ckR_is, ckr_is, rR_is, ckW_is, cR_is, obi2, ckW_int, eq_self, if_true, ref_null, if_false, ne_eq, not_true_eq_false, not_false_eq_true, decide_true, decide_false, decide_not, Bool.true_and, Bool.false_and, Bool.and_true, Bool.and_false, Bool.true_or, Bool.false_or, Bool.or_true, Bool.or_false, Bool.not_true, Bool.not_false, Bool.false_eq_true, bI_t, bI_f, Int.natCast_one, Int.cast_ofNat_Int, Int.natCast_zero, ju_self, ju_ne, w19a, w19c, w20a, w20c, a1, r5]
        rw [eb_ok]
        show CRl g z l (condsP g z l S nm (ownL L to 1 v) to (nxt g z l (nxt g z l q))) _ _ _ _ _ _ _
        rw [run]
        exact T.li.go (a2.tr b1) (by omega) (by omega) fun v w H2 hk => hk.lo (Nat.le_trans a2.1 b1.1)
    | false =>
      have e3 : isW g z l q wSET = true := by
        rcases hs with x | x | x
        · rw [e1] at x; cases x
        · rw [e2] at x; cases x
        · exact x
      rw [if_neg (by decide), if_pos e3]
      rw [e2, bZ_f] at w20c
      have eqS : setP g z l S nm L to q = eb (ownP g z l S nm (fset L to 2) to (nxt g z l q)) fun a => sttP g z l S nm a.1 to (a.1 (to + 1)) a.2 := rfl
      rw [eqS, ownP_eq]
      cases hr : lookP g z l (fun k => nm k) (S 0).toNat (nxt g z l q) with
      | error er => exact bad er hr _ rfl
      | ok v =>
        rw [hr] at b4
        obtain ⟨u, r5, rfl, h2⟩ := b4
        obtain ⟨v0, v1⟩ := lr v hr
        have S2 := S1.fr b1 fun u z => by rw [z]; exact ca
        obtain ⟨o0, o1, o2, o7⟩ := ownL_at (L := L) (to := to) (tt := v) (kk := 2)
        have T := rc_sets (d := d) (to := to) (L := ownL L to 2 v) h2 S2 ca W v0 v1 o1 o0 o7
        rw [eb_ok]
        show CRl g z l (sttP g z l S nm (ownL L to 2 v) to (ownL L to 2 v (to + 1)) (nxt g z l (nxt g z l q))) _ _ _ _ _ _ _
        rw [o1]
        obtain ⟨H3, t1, t2, t3, t4⟩ := T
        have lo2 := Nat.le_trans a2.1 b1.1
        refine ⟨H3, (a2.tr b1).tr t1, by omega, by omega, ?_⟩
        have run : ∀ (o : Option Value) (sb : Nat), o = some (.ref sb) → M2 (d + 11) 8014 [.ref a, .int (zI v)] H2 = some (.inl o, H3) → M2 (d + 12) 8015 [.ref a] H = some (.inl o, H3) := by
          intro o sb ho hm
          subst ho
          rw [Y8015 H (jrecv_in m0 rv), F8015_0]
          simp (disch := first | assumption | omega | decide | exact okF_i | exact okF_r | exact okF_n | exact okF_j | rfl) only [jc_ref, rI_int, rR_ref, rR_null, rJ_long, ckR_ref, ckR_null, ckr_ref, ckr_null, ckW_int, ckW_ref, ckW_null, cI_ok, cR_ok, cR_null, cV_ok, cJ_ok, qH_eq, qD_in, aG_ref, aS_ref, aL_ref, pF_ref, cK_ref, cK_null, zI_lit, zJ_lit, zI_add, zI_sub, zI_mul, zI_neg, zI_eq, zI_lt, zI_le, Int.reduceLT, Int.reduceLE, Int.reduceAdd, Int.reduceSub, Int.reduceMul, Int.reduceNeg, Int.reduceEq, Int.reduceNe, reduceIte, jf_in, pFc_in, aGi, aGb, aSi, aLc_in, cKc_in, nA_in, jm_s1, jm_s2, jm_p1, jm_p2, jm_b, jn_b, jn_s, jn_p, jset_jset, jset_jpush2, ckR_is, ckr_is, rR_is, ckW_is, cR_is, obi2, ckW_int, eq_self, if_true, ref_null, if_false, ne_eq, not_true_eq_false, not_false_eq_true, decide_true, decide_false, decide_not, Bool.true_and, Bool.false_and, Bool.and_true, Bool.and_false, Bool.true_or, Bool.false_or, Bool.or_true, Bool.or_false, Bool.not_true, Bool.not_false, Bool.false_eq_true, bI_t, bI_f, Int.natCast_one, Int.cast_ofNat_Int, Int.natCast_zero, ju_self, ju_ne, w19a, w19c, w20a, w20c, a1, r5, hm]
        cases hq : sttP g z l S nm (ownL L to 2 v) to v (nxt g z l (nxt g z l q)) with
        | error er =>
          rw [hq] at t4
          rcases t4 with ⟨u, u1, u2⟩ | ⟨w, q', u1, u2, u3, u4, sb, u5⟩
          · refine Or.inl ⟨u, ?_, u2⟩
            rw [Y8015 H (jrecv_in m0 rv), F8015_0]
            simp (disch := first | assumption | omega | decide | exact okF_i | exact okF_r | exact okF_n | exact okF_j | rfl) only [jc_ref, rI_int, rR_ref, rR_null, rJ_long, ckR_ref, ckR_null, ckr_ref, ckr_null, ckW_int, ckW_ref, ckW_null, cI_ok, cR_ok, cR_null, cV_ok, cJ_ok, qH_eq, qD_in, aG_ref, aS_ref, aL_ref, pF_ref, cK_ref, cK_null, zI_lit, zJ_lit, zI_add, zI_sub, zI_mul, zI_neg, zI_eq, zI_lt, zI_le, Int.reduceLT, Int.reduceLE, Int.reduceAdd, Int.reduceSub, Int.reduceMul, Int.reduceNeg, Int.reduceEq, Int.reduceNe, reduceIte, jf_in, pFc_in, aGi, aGb, aSi, aLc_in, cKc_in, nA_in, jm_s1, jm_s2, jm_p1, jm_p2, jm_b, jn_b, jn_s, jn_p, jset_jset, jset_jpush2, ckR_is, ckr_is, rR_is, ckW_is, cR_is, obi2, ckW_int, eq_self, if_true, ref_null, if_false, ne_eq, not_true_eq_false, not_false_eq_true, decide_true, decide_false, decide_not, Bool.true_and, Bool.false_and, Bool.and_true, Bool.and_false, Bool.true_or, Bool.false_or, Bool.or_true, Bool.or_false, Bool.not_true, Bool.not_false, Bool.false_eq_true, bI_t, bI_f, Int.natCast_one, Int.cast_ofNat_Int, Int.natCast_zero, ju_self, ju_ne, w19a, w19c, w20a, w20c, a1, r5, u1, cR_th]
          · exact Or.inr ⟨w, q', run _ sb u5 u1, u2, u3, u4, sb, u5⟩
        | ok b =>
          rw [hq] at t4
          obtain ⟨w, u1, u2⟩ := t4
          obtain ⟨k1, sb, k2, k3, k4⟩ := u2
          exact ⟨w, run _ sb k2 u1, k1, sb, k2, by omega, k4⟩
/-- is it a statement's word -/
theorem rc_isStm (h : RdC B H a t n tp sc g z l x y q) : M2 (d + 4) 8010 [.ref a] H = some (.inl (some (.int (zI (bZ (isW g z l q wINSERT || isW g z l q wDELETE || isW g z l q wSET))))), H) := by
  obtain ⟨f, m0, te, ht, -⟩ := h.fs
  have rv : (jtRecv 8010).elem t = true := by rcases ht with e | e | e | e <;> subst e <;> rfl
  obtain ⟨w19, w19a, w19b⟩ := rc_isE h (k := 19) (by omega) (by omega) (nmE (by decide))
  have w19c := w19b (d + 1)
  rw [show pk (bsL 19) = wINSERT by decide] at w19c
  obtain ⟨w20, w20a, w20b⟩ := rc_isE h (k := 20) (by omega) (by omega) (nmE (by decide))
  have w20c := w20b (d + 1)
  rw [show pk (bsL 20) = wDELETE by decide] at w20c
  obtain ⟨w21, w21a, w21b⟩ := rc_isE h (k := 21) (by omega) (by omega) (nmE (by decide))
  have w21c := w21b (d + 1)
  rw [show pk (bsL 21) = wSET by decide] at w21c
  rw [Y8010 H (jrecv_in m0 rv), F8010_0]
  cases e1 : isW g z l q wINSERT with
  | true =>
    rw [e1, bZ_t] at w19c
    simp (disch := first | assumption | omega | decide | exact okF_i | exact okF_r | exact okF_n | exact okF_j | rfl) only [jc_ref, rI_int, rR_ref, rR_null, rJ_long, ckR_ref, ckR_null, ckr_ref, ckr_null, ckW_int, ckW_ref, ckW_null, cI_ok, cR_ok, cR_null, cV_ok, cJ_ok, qH_eq, qD_in, aG_ref, aS_ref, aL_ref, pF_ref, cK_ref, cK_null, zI_lit, zJ_lit, zI_add, zI_sub, zI_mul, zI_neg, zI_eq, zI_lt, zI_le, Int.reduceLT, Int.reduceLE, Int.reduceAdd, Int.reduceSub, Int.reduceMul, Int.reduceNeg, Int.reduceEq, Int.reduceNe, reduceIte, jf_in, pFc_in, aGi, aGb, aSi, aLc_in, cKc_in, nA_in, jm_s1, jm_s2, jm_p1, jm_p2, jm_b, jn_b, jn_s, jn_p, jset_jset, jset_jpush2, ckR_is, ckr_is, rR_is, ckW_is, cR_is, obi2, ckW_int, eq_self, if_true, ref_null, if_false, ne_eq, not_true_eq_false, not_false_eq_true, decide_true, decide_false, decide_not, Bool.true_and, Bool.false_and, Bool.and_true, Bool.and_false, Bool.true_or, Bool.false_or, Bool.or_true, Bool.or_false, Bool.not_true, Bool.not_false, Bool.false_eq_true, bI_t, bI_f, Int.natCast_one, Int.cast_ofNat_Int, Int.natCast_zero, ju_self, ju_ne, w19a, w19c, bZ_t]
  | false =>
    rw [e1, bZ_f] at w19c
    cases e2 : isW g z l q wDELETE with
    | true =>
      rw [e2, bZ_t] at w20c
      simp (disch := first | assumption | omega | decide | exact okF_i | exact okF_r | exact okF_n | exact okF_j | rfl) only [jc_ref, rI_int, rR_ref, rR_null, rJ_long, ckR_ref, ckR_null, ckr_ref, ckr_null, ckW_int, ckW_ref, ckW_null, cI_ok, cR_ok, cR_null, cV_ok, cJ_ok, qH_eq, qD_in, aG_ref, aS_ref, aL_ref, pF_ref, cK_ref, cK_null, zI_lit, zJ_lit, zI_add, zI_sub, zI_mul, zI_neg, zI_eq, zI_lt, zI_le, Int.reduceLT, Int.reduceLE, Int.reduceAdd, Int.reduceSub, Int.reduceMul, Int.reduceNeg, Int.reduceEq, Int.reduceNe, reduceIte, jf_in, pFc_in, aGi, aGb, aSi, aLc_in, cKc_in, nA_in, jm_s1, jm_s2, jm_p1, jm_p2, jm_b, jn_b, jn_s, jn_p, jset_jset, jset_jpush2, ckR_is, ckr_is, rR_is, ckW_is, cR_is, obi2, ckW_int, eq_self, if_true, ref_null, if_false, ne_eq, not_true_eq_false, not_false_eq_true, decide_true, decide_false, decide_not, Bool.true_and, Bool.false_and, Bool.and_true, Bool.and_false, Bool.true_or, Bool.false_or, Bool.or_true, Bool.or_false, Bool.not_true, Bool.not_false, Bool.false_eq_true, bI_t, bI_f, Int.natCast_one, Int.cast_ofNat_Int, Int.natCast_zero, ju_self, ju_ne, w19a, w19c, w20a, w20c, bZ_t]
    | false =>
      rw [e2, bZ_f] at w20c
      cases e3 : isW g z l q wSET with
      | true =>
        rw [e3, bZ_t] at w21c
        simp (disch := first | assumption | omega | decide | exact okF_i | exact okF_r | exact okF_n | exact okF_j | rfl) only [jc_ref, rI_int, rR_ref, rR_null, rJ_long, ckR_ref, ckR_null, ckr_ref, ckr_null, ckW_int, ckW_ref, ckW_null, cI_ok, cR_ok, cR_null, cV_ok, cJ_ok, qH_eq, qD_in, aG_ref, aS_ref, aL_ref, pF_ref, cK_ref, cK_null, zI_lit, zJ_lit, zI_add, zI_sub, zI_mul, zI_neg, zI_eq, zI_lt, zI_le, Int.reduceLT, Int.reduceLE, Int.reduceAdd, Int.reduceSub, Int.reduceMul, Int.reduceNeg, Int.reduceEq, Int.reduceNe, reduceIte, jf_in, pFc_in, aGi, aGb, aSi, aLc_in, cKc_in, nA_in, jm_s1, jm_s2, jm_p1, jm_p2, jm_b, jn_b, jn_s, jn_p, jset_jset, jset_jpush2, ckR_is, ckr_is, rR_is, ckW_is, cR_is, obi2, ckW_int, eq_self, if_true, ref_null, if_false, ne_eq, not_true_eq_false, not_false_eq_true, decide_true, decide_false, decide_not, Bool.true_and, Bool.false_and, Bool.and_true, Bool.and_false, Bool.true_or, Bool.false_or, Bool.or_true, Bool.or_false, Bool.not_true, Bool.not_false, Bool.false_eq_true, bI_t, bI_f, Int.natCast_one, Int.cast_ofNat_Int, Int.natCast_zero, ju_self, ju_ne, w19a, w19c, w20a, w20c, w21a, w21c, bZ_t]
      | false =>
        rw [e3, bZ_f] at w21c
        simp (disch := first | assumption | omega | decide | exact okF_i | exact okF_r | exact okF_n | exact okF_j | rfl) only [jc_ref, rI_int, rR_ref, rR_null, rJ_long, ckR_ref, ckR_null, ckr_ref, ckr_null, ckW_int, ckW_ref, ckW_null, cI_ok, cR_ok, cR_null, cV_ok, cJ_ok, qH_eq, qD_in, aG_ref, aS_ref, aL_ref, pF_ref, cK_ref, cK_null, zI_lit, zJ_lit, zI_add, zI_sub, zI_mul, zI_neg, zI_eq, zI_lt, zI_le, Int.reduceLT, Int.reduceLE, Int.reduceAdd, Int.reduceSub, Int.reduceMul, Int.reduceNeg, Int.reduceEq, Int.reduceNe, reduceIte, jf_in, pFc_in, aGi, aGb, aSi, aLc_in, cKc_in, nA_in, jm_s1, jm_s2, jm_p1, jm_p2, jm_b, jn_b, jn_s, jn_p, jset_jset, jset_jpush2, ckR_is, ckr_is, rR_is, ckW_is, cR_is, obi2, ckW_int, eq_self, if_true, ref_null, if_false, ne_eq, not_true_eq_false, not_false_eq_true, decide_true, decide_false, decide_not, Bool.true_and, Bool.false_and, Bool.and_true, Bool.and_false, Bool.true_or, Bool.false_or, Bool.or_true, Bool.or_false, Bool.not_true, Bool.not_false, Bool.false_eq_true, bI_t, bI_f, Int.natCast_one, Int.cast_ofNat_Int, Int.natCast_zero, ju_self, ju_ne, w19a, w19c, w20a, w20c, w21a, w21c, bZ_f]
/-- a reader that is new, ahead of its first token -/
def RdN (B : Nat → Prop) (H : AH) (a t n tp sc : Nat) (g : Int → Int) (z l : Int) (x y : Value) : Prop := RdK (Fz B H) (je H) tp g z l ∧ B a ∧ (∀ u, B u → u < H.1) ∧ ∃ f, RdO H a t n f tp sc z l 0 ∧ (∃ v : Int32, f 7 = .int v) ∧ (∃ w, f 9 = .ref w) ∧ f 10 = x ∧ f 11 = y
theorem rn_go (h : RdN B H a t n tp sc g z l x y) : ∃ H2, M2 (d + 2) 8004 [.ref a] H = some (.inl none, H2) ∧ Fr H H2 (fun u => u = a) ∧ H2.1 ≤ H.1 + 4 ∧ H2.2.1 ≤ H.2.1 + 31 ∧ RdC B H2 a t n tp sc g z l x y 0 := by
  obtain ⟨K, ha, hB, f, h1, h2, h3, h4, h5⟩ := h
  have kz := K.2.2.1
  obtain ⟨H2, a1, a2, a3, a4, a5⟩ := c_go (d := d) K ha hB h1 h2 h3 (Int.le_refl _) kz.1
  rw [h4, h5] at a5
  exact ⟨H2, a1, a2, a3, a4, by rw [a2.2.1]; exact K.fr a2 (fun u _ e => by rw [e]; exact ha), ha, fun u hu => Nat.lt_of_lt_of_le (hB u hu) a2.1, a5⟩
/-- the one statement of a tape -/
theorem rc_one (h : RdN B H a 15 n tp sc g z l x y) (hS : SchP C H sc S nm) (ca : C a) (W : ScW S) : CR (oneP g z l S nm L) (M2 (d + 13) 15000 [.ref a] H) H (fun u => u = a) 204 1860 (fun L' w H2 => ∃ sb, w = some (.ref sb) ∧ H.1 ≤ sb ∧ StmF (Fz B H2) sb S L' 0) := by
  obtain ⟨f, m0⟩ : ∃ f, jm H a = some (15, n, f) := by obtain ⟨-, -, -, f, h1, -⟩ := h; exact ⟨f, h1.1⟩
  have rv : (jtRecv 15000).elem 15 = true := rfl
  obtain ⟨H1, a1, a2, a3, a4, h1⟩ := rn_go (d := d + 10) h
  have S1 := hS.fr a2 fun u z => by rw [z]; exact ca
  have is := rc_isStm (d := d + 8) h1
  have nd := fun b => rc_need (d := d + 7) h1 (b := b) (k := 1) (by omega) (by omega)
  obtain ⟨f1, m1, -⟩ := h1.fs
  have mg : MvH (d + 12) 9132 [.ref a] H = M2 (d + 12) 8004 [.ref a] H := by simp only [MvH, m0]; rfl
  have mi : MvH (d + 12) 9133 [.ref a] H1 = M2 (d + 12) 8010 [.ref a] H1 := by simp only [MvH, m1]; rfl
  have mn : ∀ (v : Int32), MvH (d + 12) 9134 [.ref a, .int v, .int (zI 1)] H1 = M2 (d + 12) 8012 [.ref a, .int v, .int (zI 1)] H1 := fun v => by simp only [MvH, m1]; rfl
  have ms : MvH (d + 12) 9135 [.ref a] H1 = M2 (d + 12) 8015 [.ref a] H1 := by simp only [MvH, m1]; rfl
  have mg' := mg.trans a1
  have mi' := mi.trans is
  rw [Y15000 H (jrecv_in m0 rv), F15000_0]
  unfold oneP
  by_cases hs : isW g z l 0 wINSERT = true ∨ isW g z l 0 wDELETE = true ∨ isW g z l 0 wSET = true
  · have eb1 : (isW g z l 0 wINSERT || isW g z l 0 wDELETE || isW g z l 0 wSET) = true := by
      rcases hs with e | e | e <;> simp [e]
    rw [eb1] at mi'
    have n1 := nd true
    rw [if_pos rfl] at n1
    have mn' := (mn _).trans n1
    obtain ⟨H2, b1, b2, b3, b4⟩ := rc_statement (d := d) (L := L) (to := 0) h1 S1 ca W hs
    have lo := a2.1
    cases hr : stmP g z l S nm L 0 0 with
    | error er =>
      rw [hr] at b4
      rw [eb_er]
      rcases b4 with ⟨u, r5, r6⟩ | ⟨w, q', r5, r6, r7, r8, sb, rfl⟩
      · have ms' := ms.trans r5
        refine ⟨H2, a2.tr b1, by omega, by omega, u, ?_, r6⟩
        simp (disch := first | assumption | omega | decide | exact okF_i | exact okF_r | exact okF_n | exact okF_j | rfl) only [jc_ref, rI_int, rR_ref, rR_null, rJ_long, ckR_ref, ckR_null, ckr_ref, ckr_null, ckW_int, ckW_ref, ckW_null, cI_ok, cR_ok, cR_null, cV_ok, cJ_ok, qH_eq, qD_in, aG_ref, aS_ref, aL_ref, pF_ref, cK_ref, cK_null, zI_lit, zJ_lit, zI_add, zI_sub, zI_mul, zI_neg, zI_eq, zI_lt, zI_le, Int.reduceLT, Int.reduceLE, Int.reduceAdd, Int.reduceSub, Int.reduceMul, Int.reduceNeg, Int.reduceEq, Int.reduceNe, reduceIte, jf_in, pFc_in, aGi, aGb, aSi, aLc_in, cKc_in, nA_in, jm_s1, jm_s2, jm_p1, jm_p2, jm_b, jn_b, jn_s, jn_p, jset_jset, jset_jpush2, ckR_is, ckr_is, rR_is, ckW_is, cR_is, obi2, ckW_int, eq_self, if_true, ref_null, if_false, ne_eq, not_true_eq_false, not_false_eq_true, decide_true, decide_false, decide_not, Bool.true_and, Bool.false_and, Bool.and_true, Bool.and_false, Bool.true_or, Bool.false_or, Bool.or_true, Bool.or_false, Bool.not_true, Bool.not_false, Bool.false_eq_true, bI_t, bI_f, Int.natCast_one, Int.cast_ofNat_Int, Int.natCast_zero, ju_self, ju_ne, mg', mi', mn', ms', cR_th]
      · have ms' := ms.trans r5
        obtain ⟨f2, m2, t2, -, -, f5, -⟩ := r8.fs
        obtain ⟨-, -, c0, -⟩ := ckd_is (g := g) (z := z) (l := l) (q := q')
        have cr := ckd_rg (g := g) (z := z) (l := l) (q := q')
        have ck : ¬ ckd g z l q' = 0 := fun e => by have := c0.mp e; omega
        have nd2 := rc_need (d := d + 7) r8 (b := false) (k := 1) (by omega) (by omega)
        rw [if_neg (by decide), bZ_f] at nd2
        obtain ⟨H3, s1, s2, s3, s4, s5⟩ := nd2
        have mn2 : MvH (d + 12) 9134 [.ref a, .int (zI 0), .int (zI 1)] H2 = M2 (d + 12) 8012 [.ref a, .int (zI 0), .int (zI 1)] H2 := by simp only [MvH, m2]; rfl
        have mn2' := mn2.trans s1
        rw [r7]
        refine ⟨H3, (a2.tr b1).tr (s2.mono fun _ _ z => z.elim), by omega, by omega, H2.1, ?_, s5⟩
        simp (disch := first | assumption | omega | decide | exact okF_i | exact okF_r | exact okF_n | exact okF_j | rfl) only [jc_ref, rI_int, rR_ref, rR_null, rJ_long, ckR_ref, ckR_null, ckr_ref, ckr_null, ckW_int, ckW_ref, ckW_null, cI_ok, cR_ok, cR_null, cV_ok, cJ_ok, qH_eq, qD_in, aG_ref, aS_ref, aL_ref, pF_ref, cK_ref, cK_null, zI_lit, zJ_lit, zI_add, zI_sub, zI_mul, zI_neg, zI_eq, zI_lt, zI_le, Int.reduceLT, Int.reduceLE, Int.reduceAdd, Int.reduceSub, Int.reduceMul, Int.reduceNeg, Int.reduceEq, Int.reduceNe, reduceIte, jf_in, pFc_in, aGi, aGb, aSi, aLc_in, cKc_in, nA_in, jm_s1, jm_s2, jm_p1, jm_p2, jm_b, jn_b, jn_s, jn_p, jset_jset, jset_jpush2, ckR_is, ckr_is, rR_is, ckW_is, cR_is, obi2, ckW_int, eq_self, if_true, ref_null, if_false, ne_eq, not_true_eq_false, not_false_eq_true, decide_true, decide_false, decide_not, Bool.true_and, Bool.false_and, Bool.and_true, Bool.and_false, Bool.true_or, Bool.false_or, Bool.or_true, Bool.or_false, Bool.not_true, Bool.not_false, Bool.false_eq_true, bI_t, bI_f, Int.natCast_one, Int.cast_ofNat_Int, Int.natCast_zero, ju_self, ju_ne, mg', mi', mn', ms', m2, f5, ck, mn2', cV_th]
    | ok b =>
      rw [hr] at b4
      obtain ⟨w, r5, r6, sb, rfl, r7, r8⟩ := b4
      rw [eb_ok]
      have ms' := ms.trans r5
      obtain ⟨f2, m2, t2, -, -, f5, -⟩ := r6.fs
      obtain ⟨-, -, c0, -⟩ := ckd_is (g := g) (z := z) (l := l) (q := b.2)
      have cr := ckd_rg (g := g) (z := z) (l := l) (q := b.2)
      by_cases k0 : kd g z l b.2 = 0
      · rw [if_pos k0]
        have ck := c0.mpr k0
        have nd2 := rc_need (d := d + 7) r6 (b := true) (k := 1) (by omega) (by omega)
        rw [if_pos rfl, bZ_t] at nd2
        have mn2 : MvH (d + 12) 9134 [.ref a, .int (zI 1), .int (zI 1)] H2 = M2 (d + 12) 8012 [.ref a, .int (zI 1), .int (zI 1)] H2 := by simp only [MvH, m2]; rfl
        have mn2' := mn2.trans nd2
        refine ⟨H2, a2.tr b1, by omega, by omega, some (.ref sb), ?_, sb, rfl, by omega, r8⟩
        simp (disch := first | assumption | omega | decide | exact okF_i | exact okF_r | exact okF_n | exact okF_j | rfl) only [jc_ref, rI_int, rR_ref, rR_null, rJ_long, ckR_ref, ckR_null, ckr_ref, ckr_null, ckW_int, ckW_ref, ckW_null, cI_ok, cR_ok, cR_null, cV_ok, cJ_ok, qH_eq, qD_in, aG_ref, aS_ref, aL_ref, pF_ref, cK_ref, cK_null, zI_lit, zJ_lit, zI_add, zI_sub, zI_mul, zI_neg, zI_eq, zI_lt, zI_le, Int.reduceLT, Int.reduceLE, Int.reduceAdd, Int.reduceSub, Int.reduceMul, Int.reduceNeg, Int.reduceEq, Int.reduceNe, reduceIte, jf_in, pFc_in, aGi, aGb, aSi, aLc_in, cKc_in, nA_in, jm_s1, jm_s2, jm_p1, jm_p2, jm_b, jn_b, jn_s, jn_p, jset_jset, jset_jpush2, ckR_is, ckr_is, rR_is, ckW_is, cR_is, obi2, ckW_int, eq_self, if_true, ref_null, if_false, ne_eq, not_true_eq_false, not_false_eq_true, decide_true, decide_false, decide_not, Bool.true_and, Bool.false_and, Bool.and_true, Bool.and_false, Bool.true_or, Bool.false_or, Bool.or_true, Bool.or_false, Bool.not_true, Bool.not_false, Bool.false_eq_true, bI_t, bI_f, Int.natCast_one, Int.cast_ofNat_Int, Int.natCast_zero, ju_self, ju_ne, mg', mi', mn', ms', m2, f5, ck, mn2']
      · rw [if_neg k0]
        have ck : ¬ ckd g z l b.2 = 0 := fun e => k0 (c0.mp e)
        have nd2 := rc_need (d := d + 7) r6 (b := false) (k := 1) (by omega) (by omega)
        rw [if_neg (by decide), bZ_f] at nd2
        obtain ⟨H3, s1, s2, s3, s4, s5⟩ := nd2
        have mn2 : MvH (d + 12) 9134 [.ref a, .int (zI 0), .int (zI 1)] H2 = M2 (d + 12) 8012 [.ref a, .int (zI 0), .int (zI 1)] H2 := by simp only [MvH, m2]; rfl
        have mn2' := mn2.trans s1
        refine ⟨H3, (a2.tr b1).tr (s2.mono fun _ _ z => z.elim), by omega, by omega, H2.1, ?_, s5⟩
        simp (disch := first | assumption | omega | decide | exact okF_i | exact okF_r | exact okF_n | exact okF_j | rfl) only [jc_ref, rI_int, rR_ref, rR_null, rJ_long, ckR_ref, ckR_null, ckr_ref, ckr_null, ckW_int, ckW_ref, ckW_null, cI_ok, cR_ok, cR_null, cV_ok, cJ_ok, qH_eq, qD_in, aG_ref, aS_ref, aL_ref, pF_ref, cK_ref, cK_null, zI_lit, zJ_lit, zI_add, zI_sub, zI_mul, zI_neg, zI_eq, zI_lt, zI_le, Int.reduceLT, Int.reduceLE, Int.reduceAdd, Int.reduceSub, Int.reduceMul, Int.reduceNeg, Int.reduceEq, Int.reduceNe, reduceIte, jf_in, pFc_in, aGi, aGb, aSi, aLc_in, cKc_in, nA_in, jm_s1, jm_s2, jm_p1, jm_p2, jm_b, jn_b, jn_s, jn_p, jset_jset, jset_jpush2, ckR_is, ckr_is, rR_is, ckW_is, cR_is, obi2, ckW_int, eq_self, if_true, ref_null, if_false, ne_eq, not_true_eq_false, not_false_eq_true, decide_true, decide_false, decide_not, Bool.true_and, Bool.false_and, Bool.and_true, Bool.and_false, Bool.true_or, Bool.false_or, Bool.or_true, Bool.or_false, Bool.not_true, Bool.not_false, Bool.false_eq_true, bI_t, bI_f, Int.natCast_one, Int.cast_ofNat_Int, Int.natCast_zero, ju_self, ju_ne, mg', mi', mn', ms', m2, f5, ck, mn2', cV_th]
  · have f1' : isW g z l 0 wINSERT = false := Bool.eq_false_iff.mpr fun e => hs (Or.inl e)
    have f2' : isW g z l 0 wDELETE = false := Bool.eq_false_iff.mpr fun e => hs (Or.inr (Or.inl e))
    have f3' : isW g z l 0 wSET = false := Bool.eq_false_iff.mpr fun e => hs (Or.inr (Or.inr e))
    have er : stmP g z l S nm L 0 0 = .error (erx g z l 0 1) := by unfold stmP; rw [f1', f2', f3', if_neg (by decide), if_neg (by decide), if_neg (by decide)]
    rw [er, eb_er]
    rw [f1', f2', f3'] at mi'
    have n1 := nd false
    rw [if_neg (by decide)] at n1
    obtain ⟨H3, s1, s2, s3, s4, s5⟩ := n1
    have mn' := (mn _).trans s1
    refine ⟨H3, a2.tr (s2.mono fun _ _ z => z.elim), by omega, by omega, H1.1, ?_, s5⟩
    have ef : (false || false || false) = false := rfl
    rw [ef] at mi'
    simp (disch := first | assumption | omega | decide | exact okF_i | exact okF_r | exact okF_n | exact okF_j | rfl) only [jc_ref, rI_int, rR_ref, rR_null, rJ_long, ckR_ref, ckR_null, ckr_ref, ckr_null, ckW_int, ckW_ref, ckW_null, cI_ok, cR_ok, cR_null, cV_ok, cJ_ok, qH_eq, qD_in, aG_ref, aS_ref, aL_ref, pF_ref, cK_ref, cK_null, zI_lit, zJ_lit, zI_add, zI_sub, zI_mul, zI_neg, zI_eq, zI_lt, zI_le, Int.reduceLT, Int.reduceLE, Int.reduceAdd, Int.reduceSub, Int.reduceMul, Int.reduceNeg, Int.reduceEq, Int.reduceNe, reduceIte, jf_in, pFc_in, aGi, aGb, aSi, aLc_in, cKc_in, nA_in, jm_s1, jm_s2, jm_p1, jm_p2, jm_b, jn_b, jn_s, jn_p, jset_jset, jset_jpush2, ckR_is, ckr_is, rR_is, ckW_is, cR_is, obi2, ckW_int, eq_self, if_true, ref_null, if_false, ne_eq, not_true_eq_false, not_false_eq_true, decide_true, decide_false, decide_not, Bool.true_and, Bool.false_and, Bool.and_true, Bool.and_false, Bool.true_or, Bool.false_or, Bool.or_true, Bool.or_false, Bool.not_true, Bool.not_false, Bool.false_eq_true, bI_t, bI_f, Int.natCast_one, Int.cast_ofNat_Int, Int.natCast_zero, ju_self, ju_ne, mg', mi', mn', cV_th]
end
