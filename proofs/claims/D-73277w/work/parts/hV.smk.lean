/-! the component's reader of schemas: checks, read -/
-- jc_ref, rI_int, rR_ref, rR_null, rJ_long, ckR_ref, ckR_null, ckr_ref, ckr_null, ckW_int, ckW_ref, ckW_null, cI_ok, cR_ok, cR_null, cV_ok, cJ_ok, qH_eq, qD_in, aG_ref, aS_ref, aL_ref, pF_ref, cK_ref, cK_null, zI_lit, zJ_lit, zI_add, zI_sub, zI_mul, zI_neg, zI_eq, zI_lt, zI_le, Int.reduceLT, Int.reduceLE, Int.reduceAdd, Int.reduceSub, Int.reduceMul, Int.reduceNeg, Int.reduceEq, Int.reduceNe, reduceIte, jf_in, pFc_in, aGi, aGb, aSi, aLc_in, cKc_in, nA_in, jm_s1, jm_s2, jm_p1, jm_p2, jm_b, jn_b, jn_s, jn_p, jset_jset, jset_jpush2, ckR_is, ckr_is, rR_is, ckW_is, cR_is, obi2, ckW_int, eq_self, if_true, ref_null, if_false, ne_eq, not_true_eq_false, not_false_eq_true, decide_true, decide_false, decide_not, Bool.true_and, Bool.false_and, Bool.and_true, Bool.and_false, Bool.true_or, Bool.false_or, Bool.or_true, Bool.or_false, Bool.not_true, Bool.not_false, Bool.false_eq_true, bI_t, bI_f, Int.natCast_one, Int.cast_ofNat_Int, Int.natCast_zero, ju_self, ju_ne = jc_ref, rI_int, rR_ref, rR_null, rJ_long, ckR_ref, ckR_null, ckr_ref, ckr_null, ckW_int, ckW_ref, ckW_null, cI_ok, cR_ok, cR_null, cV_ok, cJ_ok, qH_eq, qD_in, aG_ref, aS_ref, aL_ref, pF_ref, cK_ref, cK_null, zI_lit, zJ_lit, zI_add, zI_sub, zI_mul, zI_neg, zI_eq, zI_lt, zI_le, Int.reduceLT, Int.reduceLE, Int.reduceAdd, Int.reduceSub, Int.reduceMul, Int.reduceNeg, Int.reduceEq, Int.reduceNe, reduceIte, jf_in, pFc_in, aGi, aGb, aSi, aLc_in, cKc_in, nA_in, jm_s1, jm_s2, jm_p1, jm_p2, jm_b, jn_b, jn_s, jn_p, jset_jset, jset_jpush2, ckR_is, ckr_is, rR_is, ckW_is, cR_is, obi2, ckW_int, eq_self, if_true, ref_null, if_false, ne_eq, not_true_eq_false, not_false_eq_true, decide_true, decide_false, decide_not, Bool.true_and, Bool.false_and, Bool.and_true, Bool.and_false, Bool.true_or, Bool.false_or, Bool.or_true, Bool.or_false, Bool.not_true, Bool.not_false, Bool.false_eq_true, bI_t, bI_f, Int.natCast_one, Int.cast_ofNat_Int, Int.natCast_zero, ju_self, ju_ne
section
variable {d : Nat} {H H2 : AH} {a b e e1 e2 q n tp c s c2 s2 tg : Nat} {m ln t tt but v one two o cc sg col : Int} {B P P0 C : Nat → Prop} {S nm g : Int → Int} {bt : Int → Nat} {z l p : Int} {x y : Value} {f : Nat → Value} {F : Nat → Option Cl}
/-- a table's column that a reader's word names, unlike another one -/
theorem rs_col (h : RdC (Bs a q bt (S 0)) H a 9 n tp q g z l x y p) (hM : SchM H a q bt (S 0) (S 0) ln S (nmS nm)) (t0 : 0 ≤ t) (t1 : t < S 0) (hb : -1 ≤ but ∧ but ≤ 1000) : CR (eb (colP g z l S nm t p) fun c => if c = but then .error (erx g z l p 3) else .ok c) (M2 (d + 8) 8002 [.ref a, .int (zI t), .int (zI but)] H) H (fun u => u = a) 9 90 (fun v w H2 => w = some (.int (zI v)) ∧ RdC (Bs a q bt (S 0)) H2 a 9 n tp q g z l x y (nxt g z l p) ∧ SchM H2 a q bt (S 0) (S 0) ln S (nmS nm) ∧ 0 ≤ v ∧ v < S (4 + t) ∧ v < 4) := by
  have W := hM.2.2.2.2.2.2.2.2
  have b0 := W.1.2.1
  have bc := W.1.2.2.1 t t0 (by omega)
  obtain ⟨H2, a1, a2, a3, a4⟩ := rc_col (d := d) (but := but) h (hM.p (Int.le_refl _)) (by omega) t0 t1 bc.1 (by omega) hb
  rw [hold_but] at a4
  refine ⟨H2, a1, a2, a3, ?_⟩
  cases hr : (eb (colP g z l S nm t p) fun c => if c = but then (.error (erx g z l p 3) : Except Er Int) else .ok c) with
  | error er => rw [hr] at a4; exact a4
  | ok v =>
    rw [hr] at a4
    obtain ⟨w, r1, r2, r3, r4, r5, -, -⟩ := a4
    exact ⟨w, r1, r2, r3, hM.fr a1, r4, r5, by omega⟩
theorem col_m1 : (eb (colP g z l S nm t p) fun c => if c = -1 then (.error (erx g z l p 3) : Except Er Int) else .ok c) = colP g z l S nm t p := by
  rw [← hold_but, hold_col]
theorem eb_eb {α β γ : Type} {r : Except Er α} {f : α → Except Er β} {k : β → Except Er γ} : eb (eb r f) k = eb r fun x => eb (f x) k := by cases r <;> rfl
theorem rs_chk (h : RdC (Bs a q bt (S 0)) H a 9 n tp q g z l x y p) (hM : SchM H a q bt (S 0) (S 0) ln S (nmS nm)) :
    CR (if isW g z l p wCHECK = true then (if S 3 = 6 then .error (erx g z l p 4) else chkP g z l S nm p) else .error (erx g z l p 1)) (M2 (d + 12) 9000 [.ref a] H) H (fun u => a ≤ u) 60 500 (LnK a n tp q g z l x y ln) := by
  obtain ⟨ord, h1, h2, h3, h4, h5, h6, h7, W⟩ := id hM
  obtain ⟨b1, b2, b3, b4, b5, b6⟩ := W.1
  obtain ⟨f, mm, e9, f4, al⟩ := rdc9 h
  have rv : (jtRecv 9000).elem 9 = true := rfl
  have sz := h5.sz (d := d + 10)
  obtain ⟨mi, mn, -⟩ := mvR h
  obtain ⟨w36, a36, b36⟩ := rc_isE h (k := 36) (by omega) (by omega) (nmE (by decide))
  have b36' := (mi (d + 11) _).trans (b36 (d + 9))
  rw [show pk (bsL 36) = wCHECK by decide] at b36'
  have nd := fun b => rc_need (d := d + 6) h (b := b) (k := 1) (by omega) (by omega)
  cases ew : isW g z l p wCHECK with
  | false =>
    rw [if_neg (by decide)]
    rw [ew, bZ_f] at b36'
    have n1 := nd false
    rw [if_neg (by decide), bZ_f] at n1
    obtain ⟨H2, r1, r2, r3, r4, r5⟩ := n1
    have r1' := (mn (d + 11) _ _).trans r1
    refine ⟨H2, r2.mono fun _ _ u => u.elim, by omega, by omega, H.1, ?_, r5⟩
    rw [Y9000 H (jrecv_in mm rv), F9000_0]
    simp (disch := first | assumption | omega | decide | exact okF_i | exact okF_r | exact okF_n | exact okF_j | rfl) only [jc_ref, rI_int, rR_ref, rR_null, rJ_long, ckR_ref, ckR_null, ckr_ref, ckr_null, ckW_int, ckW_ref, ckW_null, cI_ok, cR_ok, cR_null, cV_ok, cJ_ok, qH_eq, qD_in, aG_ref, aS_ref, aL_ref, pF_ref, cK_ref, cK_null, zI_lit, zJ_lit, zI_add, zI_sub, zI_mul, zI_neg, zI_eq, zI_lt, zI_le, Int.reduceLT, Int.reduceLE, Int.reduceAdd, Int.reduceSub, Int.reduceMul, Int.reduceNeg, Int.reduceEq, Int.reduceNe, reduceIte, jf_in, pFc_in, aGi, aGb, aSi, aLc_in, cKc_in, nA_in, jm_s1, jm_s2, jm_p1, jm_p2, jm_b, jn_b, jn_s, jn_p, jset_jset, jset_jpush2, ckR_is, ckr_is, rR_is, ckW_is, cR_is, obi2, ckW_int, eq_self, if_true, ref_null, if_false, ne_eq, not_true_eq_false, not_false_eq_true, decide_true, decide_false, decide_not, Bool.true_and, Bool.false_and, Bool.and_true, Bool.and_false, Bool.true_or, Bool.false_or, Bool.or_true, Bool.or_false, Bool.not_true, Bool.not_false, Bool.false_eq_true, bI_t, bI_f, Int.natCast_one, Int.cast_ofNat_Int, Int.natCast_zero, ju_self, ju_ne, a36, b36', r1', cV_th]
  | true =>
  rw [if_pos rfl]
  rw [ew, bZ_t] at b36'
  have n1 := nd true
  rw [if_pos rfl, bZ_t] at n1
  have nd' := (mn (d + 11) _ _).trans n1
  have rm := rs_room (d := d + 5) h (v := S 3) (mx := 6) (by omega) (by omega) (by omega) (by omega)
  have er : (if S 3 = 6 then (.error (erx g z l p 4) : Except Er ((Int → Int) × (Int → Int) × Int)) else chkP g z l S nm p) = eb (if (6 : Int) ≤ S 3 then .error (erx g z l p 4) else .ok (nxt g z l p)) fun _ => chkP g z l S nm p := by
    by_cases c : S 3 = 6
    · rw [if_pos c, if_pos (by omega)]; rfl
    · rw [if_neg c, if_neg (by omega)]; rfl
  rw [er]
  refine CR.wk (P0 := fun u => a ≤ u) (c := 4 + 50) (s := 31 + 400) (CR.bind rm (fun u z => by omega) (fun X H2 hr => ?_) fun p1 w1 H1 e1 r1 k1 f1 n1 n1' => ?_) (fun u z => z) (by omega) (by omega)
  · rw [Y9000 H (jrecv_in mm rv), F9000_0]
    simp (disch := first | assumption | omega | decide | exact okF_i | exact okF_r | exact okF_n | exact okF_j | rfl) only [jc_ref, rI_int, rR_ref, rR_null, rJ_long, ckR_ref, ckR_null, ckr_ref, ckr_null, ckW_int, ckW_ref, ckW_null, cI_ok, cR_ok, cR_null, cV_ok, cJ_ok, qH_eq, qD_in, aG_ref, aS_ref, aL_ref, pF_ref, cK_ref, cK_null, zI_lit, zJ_lit, zI_add, zI_sub, zI_mul, zI_neg, zI_eq, zI_lt, zI_le, Int.reduceLT, Int.reduceLE, Int.reduceAdd, Int.reduceSub, Int.reduceMul, Int.reduceNeg, Int.reduceEq, Int.reduceNe, reduceIte, jf_in, pFc_in, aGi, aGb, aSi, aLc_in, cKc_in, nA_in, jm_s1, jm_s2, jm_p1, jm_p2, jm_b, jn_b, jn_s, jn_p, jset_jset, jset_jpush2, ckR_is, ckr_is, rR_is, ckW_is, cR_is, obi2, ckW_int, eq_self, if_true, ref_null, if_false, ne_eq, not_true_eq_false, not_false_eq_true, decide_true, decide_false, decide_not, Bool.true_and, Bool.false_and, Bool.and_true, Bool.and_false, Bool.true_or, Bool.false_or, Bool.or_true, Bool.or_false, Bool.not_true, Bool.not_false, Bool.false_eq_true, bI_t, bI_f, Int.natCast_one, Int.cast_ofNat_Int, Int.natCast_zero, ju_self, ju_ne, o3_0, o3_1, o3_2, o3_3, o3_4, mm, f4, h1, a36, b36', nd', sz, hr, cV_th]
  have ep1 : p1 = nxt g z l p := by
    by_cases c : (6 : Int) ≤ S 3
    · rw [if_pos c] at e1; cases e1
    · rw [if_neg c] at e1; injection e1 with e1; exact e1.symm
  have f6 : S 3 < 6 := by
    by_cases c : (6 : Int) ≤ S 3
    · rw [if_pos c] at e1; cases e1
    · omega
  subst ep1
  obtain ⟨rfl, k1⟩ := k1
  have M1 := hM.fr f1
  obtain ⟨-, -, mt1, -⟩ := mvR k1
  have t1 := rs_tab (d := d + 4) k1 M1
  rw [← mt1 (d + 11)] at t1
  unfold chkP
  refine CR.wk (P0 := fun u => a ≤ u) (c := 9 + 41) (s := 80 + 320) (CR.bind t1 (fun u z => by omega) (fun X H2 hr => ?_) fun t w2 H2 e2 r2 k2 f2 n2 n2' => ?_) (fun u z => z) (by omega) (by omega)
  · rw [Y9000 H (jrecv_in mm rv), F9000_0]
    simp (disch := first | assumption | omega | decide | exact okF_i | exact okF_r | exact okF_n | exact okF_j | rfl) only [jc_ref, rI_int, rR_ref, rR_null, rJ_long, ckR_ref, ckR_null, ckr_ref, ckr_null, ckW_int, ckW_ref, ckW_null, cI_ok, cR_ok, cR_null, cV_ok, cJ_ok, qH_eq, qD_in, aG_ref, aS_ref, aL_ref, pF_ref, cK_ref, cK_null, zI_lit, zJ_lit, zI_add, zI_sub, zI_mul, zI_neg, zI_eq, zI_lt, zI_le, Int.reduceLT, Int.reduceLE, Int.reduceAdd, Int.reduceSub, Int.reduceMul, Int.reduceNeg, Int.reduceEq, Int.reduceNe, reduceIte, jf_in, pFc_in, aGi, aGb, aSi, aLc_in, cKc_in, nA_in, jm_s1, jm_s2, jm_p1, jm_p2, jm_b, jn_b, jn_s, jn_p, jset_jset, jset_jpush2, ckR_is, ckr_is, rR_is, ckW_is, cR_is, obi2, ckW_int, eq_self, if_true, ref_null, if_false, ne_eq, not_true_eq_false, not_false_eq_true, decide_true, decide_false, decide_not, Bool.true_and, Bool.false_and, Bool.and_true, Bool.and_false, Bool.true_or, Bool.false_or, Bool.or_true, Bool.or_false, Bool.not_true, Bool.not_false, Bool.false_eq_true, bI_t, bI_f, Int.natCast_one, Int.cast_ofNat_Int, Int.natCast_zero, ju_self, ju_ne, o3_0, o3_1, o3_2, o3_3, o3_4, mm, f4, h1, a36, b36', nd', sz, r1, hr, cI_th]
  obtain ⟨rfl, k2, M2', t0, t4, tc0, tc4⟩ := k2
  obtain ⟨-, -, -, mc2, -⟩ := mvR k2
  have t3 := rs_col (d := d + 3) (but := -1) k2 M2' t0 t4 (by omega)
  rw [col_m1, ← mc2 (d + 11)] at t3
  refine CR.wk (P0 := fun u => a ≤ u) (c := 9 + 32) (s := 90 + 230) (CR.bind t3 (fun u z => by omega) (fun X H2 hr => ?_) fun cc w3 H3 e3 r3 k3 f3 n3 n3' => ?_) (fun u z => z) (by omega) (by omega)
  · rw [Y9000 H (jrecv_in mm rv), F9000_0]
    simp (disch := first | assumption | omega | decide | exact okF_i | exact okF_r | exact okF_n | exact okF_j | rfl) only [jc_ref, rI_int, rR_ref, rR_null, rJ_long, ckR_ref, ckR_null, ckr_ref, ckr_null, ckW_int, ckW_ref, ckW_null, cI_ok, cR_ok, cR_null, cV_ok, cJ_ok, qH_eq, qD_in, aG_ref, aS_ref, aL_ref, pF_ref, cK_ref, cK_null, zI_lit, zJ_lit, zI_add, zI_sub, zI_mul, zI_neg, zI_eq, zI_lt, zI_le, Int.reduceLT, Int.reduceLE, Int.reduceAdd, Int.reduceSub, Int.reduceMul, Int.reduceNeg, Int.reduceEq, Int.reduceNe, reduceIte, jf_in, pFc_in, aGi, aGb, aSi, aLc_in, cKc_in, nA_in, jm_s1, jm_s2, jm_p1, jm_p2, jm_b, jn_b, jn_s, jn_p, jset_jset, jset_jpush2, ckR_is, ckr_is, rR_is, ckW_is, cR_is, obi2, ckW_int, eq_self, if_true, ref_null, if_false, ne_eq, not_true_eq_false, not_false_eq_true, decide_true, decide_false, decide_not, Bool.true_and, Bool.false_and, Bool.and_true, Bool.and_false, Bool.true_or, Bool.false_or, Bool.or_true, Bool.or_false, Bool.not_true, Bool.not_false, Bool.false_eq_true, bI_t, bI_f, Int.natCast_one, Int.cast_ofNat_Int, Int.natCast_zero, ju_self, ju_ne, o3_0, o3_1, o3_2, o3_3, o3_4, mm, f4, h1, a36, b36', nd', sz, r1, r2, hr, cI_th]
  obtain ⟨rfl, k3, M3, c0, c1, c4⟩ := k3
  obtain ⟨-, -, -, -, mh3, -⟩ := mvR k3
  have t5 := rc_than (d := d + 5) k3
  rw [← mh3 (d + 11)] at t5
  rw [than_eq (X := fun sg => eb (byP g z l S nm t cc (nxt g z l (nxt g z l (nxt g z l (nxt g z l p))))) fun b => .ok (chkW S (S 3) t cc sg b (bZ (isW g z l b.2.2 wLATE)), nm, may g z l b.2.2 wLATE))]
  refine CR.wk (P0 := fun u => a ≤ u) (c := 5 + 27) (s := 40 + 190) (CR.bind t5 (fun u z => by omega) (fun X H2 hr => ?_) fun sg w4 H4 e4 r4 k4 f4' n4 n4' => ?_) (fun u z => z) (by omega) (by omega)
  · rw [Y9000 H (jrecv_in mm rv), F9000_0]
    simp (disch := first | assumption | omega | decide | exact okF_i | exact okF_r | exact okF_n | exact okF_j | rfl) only [jc_ref, rI_int, rR_ref, rR_null, rJ_long, ckR_ref, ckR_null, ckr_ref, ckr_null, ckW_int, ckW_ref, ckW_null, cI_ok, cR_ok, cR_null, cV_ok, cJ_ok, qH_eq, qD_in, aG_ref, aS_ref, aL_ref, pF_ref, cK_ref, cK_null, zI_lit, zJ_lit, zI_add, zI_sub, zI_mul, zI_neg, zI_eq, zI_lt, zI_le, Int.reduceLT, Int.reduceLE, Int.reduceAdd, Int.reduceSub, Int.reduceMul, Int.reduceNeg, Int.reduceEq, Int.reduceNe, reduceIte, jf_in, pFc_in, aGi, aGb, aSi, aLc_in, cKc_in, nA_in, jm_s1, jm_s2, jm_p1, jm_p2, jm_b, jn_b, jn_s, jn_p, jset_jset, jset_jpush2, ckR_is, ckr_is, rR_is, ckW_is, cR_is, obi2, ckW_int, eq_self, if_true, ref_null, if_false, ne_eq, not_true_eq_false, not_false_eq_true, decide_true, decide_false, decide_not, Bool.true_and, Bool.false_and, Bool.and_true, Bool.and_false, Bool.true_or, Bool.false_or, Bool.or_true, Bool.or_false, Bool.not_true, Bool.not_false, Bool.false_eq_true, bI_t, bI_f, Int.natCast_one, Int.cast_ofNat_Int, Int.natCast_zero, ju_self, ju_ne, o3_0, o3_1, o3_2, o3_3, o3_4, mm, f4, h1, a36, b36', nd', sz, r1, r2, r3, hr, cI_th]
  obtain ⟨rfl, k4⟩ := k4
  have M4 := M3.fr f4'
  have esg : isThan g z l (nxt g z l (nxt g z l (nxt g z l p))) = true ∧ sg = nmv g z (nxt g z l (nxt g z l (nxt g z l p))) := by
    unfold thanP at e4
    cases ht : isThan g z l (nxt g z l (nxt g z l (nxt g z l p))) with
    | true => rw [ht, if_neg (by decide)] at e4; injection e4 with e4; exact ⟨rfl, e4.symm⟩
    | false => rw [ht, if_pos rfl] at e4; cases e4
  have hk : ∀ b, byP g z l S nm t cc (nxt g z l (nxt g z l (nxt g z l (nxt g z l p)))) = .ok b → HsW (chkW S (S 3) t cc sg b (bZ (isW g z l b.2.2 wLATE))) := by
    intro b hb
    have hk : chkP g z l S nm p = .ok (chkW S (S 3) t cc sg b (bZ (isW g z l b.2.2 wLATE)), nm, may g z l b.2.2 wLATE) := by
      unfold chkP
      rw [e2, eb_ok, e3, eb_ok, esg.1, if_neg (by decide), hb, eb_ok, esg.2]
    exact (chk_W W f6 hk).1
  -- a number, or a column
  obtain ⟨f9, mm4, -, -, f44, f45, -⟩ := k4.fs
  obtain ⟨-, c3', -⟩ := ckd_is (g := g) (z := z) (l := l) (q := nxt g z l (nxt g z l (nxt g z l (nxt g z l p))))
  have cr := ckd_rg (g := g) (z := z) (l := l) (q := nxt g z l (nxt g z l (nxt g z l (nxt g z l p))))
  obtain ⟨-, mn4, -, -, -, mm4', mu4, -⟩ := mvR k4
  have nd4 := fun b => rc_need (d := d + 6) k4 (b := b) (k := 1) (by omega) (by omega)
  obtain ⟨p4, hp4⟩ : ∃ p4, p4 = nxt g z l (nxt g z l (nxt g z l (nxt g z l p))) := ⟨_, rfl⟩
  rw [← hp4] at k4 f45 c3' cr nd4 hk ⊢
  have pre : M2 (d + 12) 9000 [.ref a] H = zpI (f9 5) (fun x18 => if x18 = 3 then (zcV (MvH (d + 11) 9114 [.ref a, .int 1, .int 1] H4) (fun h20 => zpI (jf (jc h20 (.ref a)) [9, 15, 27, 29] 5) (fun x21 => if x21 = 3 then (G2 (d + 11) 9000 82 [.ref a, .int (zI t), .int (zI cc), .int (zI sg), jno, jno, jno] [.int 1] h20) else (G2 (d + 11) 9000 82 [.ref a, .int (zI t), .int (zI cc), .int (zI sg), jno, jno, jno] [.int 0] h20)) ()) ()) else (zcI (MvH (d + 11) 9118 [.ref a] H4) (fun x22 h23 => if x22 = 0 then (zcV (MvH (d + 11) 9114 [.ref a, .int 0, .int 1] h23) (fun h25 => zpI (jf (jc h25 (.ref a)) [9, 15, 27, 29] 5) (fun x26 => if x26 = 3 then (G2 (d + 11) 9000 82 [.ref a, .int (zI t), .int (zI cc), .int (zI sg), jno, jno, jno] [.int 1] h25) else (G2 (d + 11) 9000 82 [.ref a, .int (zI t), .int (zI cc), .int (zI sg), jno, jno, jno] [.int 0] h25)) ()) ()) else (zcV (MvH (d + 11) 9114 [.ref a, .int 1, .int 1] h23) (fun h28 => zpI (jf (jc h28 (.ref a)) [9, 15, 27, 29] 5) (fun x29 => if x29 = 3 then (G2 (d + 11) 9000 82 [.ref a, .int (zI t), .int (zI cc), .int (zI sg), jno, jno, jno] [.int 1] h28) else (G2 (d + 11) 9000 82 [.ref a, .int (zI t), .int (zI cc), .int (zI sg), jno, jno, jno] [.int 0] h28)) ()) ())) ())) () := by
    rw [Y9000 H (jrecv_in mm rv), F9000_0]
    simp (disch := first | assumption | omega | decide | exact okF_i | exact okF_r | exact okF_n | exact okF_j | rfl) only [jc_ref, rI_int, rR_ref, rR_null, rJ_long, ckR_ref, ckR_null, ckr_ref, ckr_null, ckW_int, ckW_ref, ckW_null, cI_ok, cR_ok, cR_null, cV_ok, cJ_ok, qH_eq, qD_in, aG_ref, aS_ref, aL_ref, pF_ref, cK_ref, cK_null, zI_lit, zJ_lit, zI_add, zI_sub, zI_mul, zI_neg, zI_eq, zI_lt, zI_le, Int.reduceLT, Int.reduceLE, Int.reduceAdd, Int.reduceSub, Int.reduceMul, Int.reduceNeg, Int.reduceEq, Int.reduceNe, reduceIte, jf_in, pFc_in, aGi, aGb, aSi, aLc_in, cKc_in, nA_in, jm_s1, jm_s2, jm_p1, jm_p2, jm_b, jn_b, jn_s, jn_p, jset_jset, jset_jpush2, ckR_is, ckr_is, rR_is, ckW_is, cR_is, obi2, ckW_int, eq_self, if_true, ref_null, if_false, ne_eq, not_true_eq_false, not_false_eq_true, decide_true, decide_false, decide_not, Bool.true_and, Bool.false_and, Bool.and_true, Bool.and_false, Bool.true_or, Bool.false_or, Bool.or_true, Bool.or_false, Bool.not_true, Bool.not_false, Bool.false_eq_true, bI_t, bI_f, Int.natCast_one, Int.cast_ofNat_Int, Int.natCast_zero, ju_self, ju_ne, o3_0, o3_1, o3_2, o3_3, o3_4, mm, f4, h1, a36, b36', nd', sz, r1, r2, r3, r4, mm4]
  rw [pre, f45]
  unfold byP at hk ⊢
  by_cases k2' : kd g z l p4 = 2
  · have ck := c3'.mpr k2'
    have n4x := nd4 true
    rw [if_pos rfl, bZ_t] at n4x
    have n4y := (mn4 (d + 11) _ _).trans n4x
    rw [if_pos k2'] at hk ⊢
    have tn := rc_number (d := d + 4) k4 (low := 0) (high := 99) (by omega) (by omega) (by omega) (by omega)
    rw [← mu4 (d + 11)] at tn
    have pre2 : zpI (.int (zI (ckd g z l p4))) (fun x18 => if x18 = 3 then (zcV (MvH (d + 11) 9114 [.ref a, .int 1, .int 1] H4) (fun h20 => zpI (jf (jc h20 (.ref a)) [9, 15, 27, 29] 5) (fun x21 => if x21 = 3 then (G2 (d + 11) 9000 82 [.ref a, .int (zI t), .int (zI cc), .int (zI sg), jno, jno, jno] [.int 1] h20) else (G2 (d + 11) 9000 82 [.ref a, .int (zI t), .int (zI cc), .int (zI sg), jno, jno, jno] [.int 0] h20)) ()) ()) else (zcI (MvH (d + 11) 9118 [.ref a] H4) (fun x22 h23 => if x22 = 0 then (zcV (MvH (d + 11) 9114 [.ref a, .int 0, .int 1] h23) (fun h25 => zpI (jf (jc h25 (.ref a)) [9, 15, 27, 29] 5) (fun x26 => if x26 = 3 then (G2 (d + 11) 9000 82 [.ref a, .int (zI t), .int (zI cc), .int (zI sg), jno, jno, jno] [.int 1] h25) else (G2 (d + 11) 9000 82 [.ref a, .int (zI t), .int (zI cc), .int (zI sg), jno, jno, jno] [.int 0] h25)) ()) ()) else (zcV (MvH (d + 11) 9114 [.ref a, .int 1, .int 1] h23) (fun h28 => zpI (jf (jc h28 (.ref a)) [9, 15, 27, 29] 5) (fun x29 => if x29 = 3 then (G2 (d + 11) 9000 82 [.ref a, .int (zI t), .int (zI cc), .int (zI sg), jno, jno, jno] [.int 1] h28) else (G2 (d + 11) 9000 82 [.ref a, .int (zI t), .int (zI cc), .int (zI sg), jno, jno, jno] [.int 0] h28)) ()) ())) ())) () = (zcI (MvH (d + 11) 9119 [.ref a, .int (zI 0), .int (zI 99)] H4) (fun x3 h4 => G2 (d + 11) 9000 117 [.ref a, .int (zI t), .int (zI cc), .int (zI sg), .int (zI 1), .int x3, jno] [.int (zI (-1))] h4) () : Rz) := by
      simp (disch := first | assumption | omega | decide | exact okF_i | exact okF_r | exact okF_n | exact okF_j | rfl) only [jc_ref, rI_int, rR_ref, rR_null, rJ_long, ckR_ref, ckR_null, ckr_ref, ckr_null, ckW_int, ckW_ref, ckW_null, cI_ok, cR_ok, cR_null, cV_ok, cJ_ok, qH_eq, qD_in, aG_ref, aS_ref, aL_ref, pF_ref, cK_ref, cK_null, zI_lit, zJ_lit, zI_add, zI_sub, zI_mul, zI_neg, zI_eq, zI_lt, zI_le, Int.reduceLT, Int.reduceLE, Int.reduceAdd, Int.reduceSub, Int.reduceMul, Int.reduceNeg, Int.reduceEq, Int.reduceNe, reduceIte, jf_in, pFc_in, aGi, aGb, aSi, aLc_in, cKc_in, nA_in, jm_s1, jm_s2, jm_p1, jm_p2, jm_b, jn_b, jn_s, jn_p, jset_jset, jset_jpush2, ckR_is, ckr_is, rR_is, ckW_is, cR_is, obi2, ckW_int, eq_self, if_true, ref_null, if_false, ne_eq, not_true_eq_false, not_false_eq_true, decide_true, decide_false, decide_not, Bool.true_and, Bool.false_and, Bool.and_true, Bool.and_false, Bool.true_or, Bool.false_or, Bool.or_true, Bool.or_false, Bool.not_true, Bool.not_false, Bool.false_eq_true, bI_t, bI_f, Int.natCast_one, Int.cast_ofNat_Int, Int.natCast_zero, ju_self, ju_ne, ck, n4y, mm4, f45, F9000_82]
      exact congrArg (fun k => zcI _ k ()) (funext fun x3 => funext fun h4 => if_neg (by decide))
    rw [pre2, eb_eb]
    refine CR.wk (P0 := fun u => a ≤ u) (c := 5 + 6) (s := 40 + 50) (CR.bind tn (fun u z => by omega) (fun X H2 hr => ?_) fun v w5 H5 e5 r5 k5 f5 n5 n5' => ?_) (fun u z => z) (by omega) (by omega)
    · rw [hr, cI_th]
    obtain ⟨rfl, k5⟩ := k5
    rw [r5, cI_ok, eb_ok]
    exact rs_117 k5 (M4.fr f5) f6 (Or.inl ⟨rfl, rfl, rfl⟩) (hk _ (by rw [e5, eb_ok]))
  · have ck : ¬ ckd g z l p4 = 3 := fun u => k2' (c3'.mp u)
    rw [if_neg k2'] at hk ⊢
    obtain ⟨H5, i1, i2, i3, i4⟩ := rc_isName (d := d + 6) k4
    have i1' := (mm4' (d + 11)).trans i1
    have k5 := k4.no i2
    have M5 := M4.fr (i2.mono fun _ _ z => z.elim)
    obtain ⟨f10, mm5, -, -, f54, f55, -⟩ := k5.fs
    obtain ⟨-, mn5, -, mc5, -⟩ := mvR k5
    have nd5 := fun b => rc_need (d := d + 6) k5 (b := b) (k := 1) (by omega) (by omega)
    refine CR.wk (c := 4 + 23) (s := 33 + 157) (CR.stp (P := fun u => a ≤ u) i2 (fun u z => z.elim) i3 i4 ?_) (fun u z => z) (by omega) (by omega)
    cases en : isNm g z l p4 with
    | false =>
      rw [en, bZ_f] at i1'
      have lk : colP g z l S nm t p4 = .error (erx g z l p4 1) := by unfold colP lookP; rw [if_pos en]
      rw [lk, eb_er, eb_er]
      have n5 := nd5 false
      rw [if_neg (by decide), bZ_f] at n5
      obtain ⟨H6, s1, s2, s3, s4, s5⟩ := n5
      have s1' := (mn5 (d + 11) _ _).trans s1
      refine ⟨H6, s2.mono fun _ _ u => u.elim, by omega, by omega, H5.1, ?_, s5⟩
      simp (disch := first | assumption | omega | decide | exact okF_i | exact okF_r | exact okF_n | exact okF_j | rfl) only [jc_ref, rI_int, rR_ref, rR_null, rJ_long, ckR_ref, ckR_null, ckr_ref, ckr_null, ckW_int, ckW_ref, ckW_null, cI_ok, cR_ok, cR_null, cV_ok, cJ_ok, qH_eq, qD_in, aG_ref, aS_ref, aL_ref, pF_ref, cK_ref, cK_null, zI_lit, zJ_lit, zI_add, zI_sub, zI_mul, zI_neg, zI_eq, zI_lt, zI_le, Int.reduceLT, Int.reduceLE, Int.reduceAdd, Int.reduceSub, Int.reduceMul, Int.reduceNeg, Int.reduceEq, Int.reduceNe, reduceIte, jf_in, pFc_in, aGi, aGb, aSi, aLc_in, cKc_in, nA_in, jm_s1, jm_s2, jm_p1, jm_p2, jm_b, jn_b, jn_s, jn_p, jset_jset, jset_jpush2, ckR_is, ckr_is, rR_is, ckW_is, cR_is, obi2, ckW_int, eq_self, if_true, ref_null, if_false, ne_eq, not_true_eq_false, not_false_eq_true, decide_true, decide_false, decide_not, Bool.true_and, Bool.false_and, Bool.and_true, Bool.and_false, Bool.true_or, Bool.false_or, Bool.or_true, Bool.or_false, Bool.not_true, Bool.not_false, Bool.false_eq_true, bI_t, bI_f, Int.natCast_one, Int.cast_ofNat_Int, Int.natCast_zero, ju_self, ju_ne, ck, i1', s1', cV_th]
    | true =>
      rw [en, bZ_t] at i1'
      have n5 := nd5 true
      rw [if_pos rfl, bZ_t] at n5
      have n5' := (mn5 (d + 11) _ _).trans n5
      have tc := rs_col (d := d + 3) (but := cc) k5 M5 t0 t4 (by omega)
      rw [← mc5 (d + 11)] at tc
      have pre2 : zpI (.int (zI (ckd g z l p4))) (fun x18 => if x18 = 3 then (zcV (MvH (d + 11) 9114 [.ref a, .int 1, .int 1] H4) (fun h20 => zpI (jf (jc h20 (.ref a)) [9, 15, 27, 29] 5) (fun x21 => if x21 = 3 then (G2 (d + 11) 9000 82 [.ref a, .int (zI t), .int (zI cc), .int (zI sg), jno, jno, jno] [.int 1] h20) else (G2 (d + 11) 9000 82 [.ref a, .int (zI t), .int (zI cc), .int (zI sg), jno, jno, jno] [.int 0] h20)) ()) ()) else (zcI (MvH (d + 11) 9118 [.ref a] H4) (fun x22 h23 => if x22 = 0 then (zcV (MvH (d + 11) 9114 [.ref a, .int 0, .int 1] h23) (fun h25 => zpI (jf (jc h25 (.ref a)) [9, 15, 27, 29] 5) (fun x26 => if x26 = 3 then (G2 (d + 11) 9000 82 [.ref a, .int (zI t), .int (zI cc), .int (zI sg), jno, jno, jno] [.int 1] h25) else (G2 (d + 11) 9000 82 [.ref a, .int (zI t), .int (zI cc), .int (zI sg), jno, jno, jno] [.int 0] h25)) ()) ()) else (zcV (MvH (d + 11) 9114 [.ref a, .int 1, .int 1] h23) (fun h28 => zpI (jf (jc h28 (.ref a)) [9, 15, 27, 29] 5) (fun x29 => if x29 = 3 then (G2 (d + 11) 9000 82 [.ref a, .int (zI t), .int (zI cc), .int (zI sg), jno, jno, jno] [.int 1] h28) else (G2 (d + 11) 9000 82 [.ref a, .int (zI t), .int (zI cc), .int (zI sg), jno, jno, jno] [.int 0] h28)) ()) ())) ())) () = (zcI (MvH (d + 11) 9116 [.ref a, .int (zI t), .int (zI cc)] H5) (fun x3 h4 => G2 (d + 11) 9000 117 [.ref a, .int (zI t), .int (zI cc), .int (zI sg), .int (zI 0), .int (zI 0), jno] [.int x3] h4) () : Rz) := by
        simp (disch := first | assumption | omega | decide | exact okF_i | exact okF_r | exact okF_n | exact okF_j | rfl) only [jc_ref, rI_int, rR_ref, rR_null, rJ_long, ckR_ref, ckR_null, ckr_ref, ckr_null, ckW_int, ckW_ref, ckW_null, cI_ok, cR_ok, cR_null, cV_ok, cJ_ok, qH_eq, qD_in, aG_ref, aS_ref, aL_ref, pF_ref, cK_ref, cK_null, zI_lit, zJ_lit, zI_add, zI_sub, zI_mul, zI_neg, zI_eq, zI_lt, zI_le, Int.reduceLT, Int.reduceLE, Int.reduceAdd, Int.reduceSub, Int.reduceMul, Int.reduceNeg, Int.reduceEq, Int.reduceNe, reduceIte, jf_in, pFc_in, aGi, aGb, aSi, aLc_in, cKc_in, nA_in, jm_s1, jm_s2, jm_p1, jm_p2, jm_b, jn_b, jn_s, jn_p, jset_jset, jset_jpush2, ckR_is, ckr_is, rR_is, ckW_is, cR_is, obi2, ckW_int, eq_self, if_true, ref_null, if_false, ne_eq, not_true_eq_false, not_false_eq_true, decide_true, decide_false, decide_not, Bool.true_and, Bool.false_and, Bool.and_true, Bool.and_false, Bool.true_or, Bool.false_or, Bool.or_true, Bool.or_false, Bool.not_true, Bool.not_false, Bool.false_eq_true, bI_t, bI_f, Int.natCast_one, Int.cast_ofNat_Int, Int.natCast_zero, ju_self, ju_ne, ck, i1', n5', mm5, f55, F9000_82]
        rfl
      rw [pre2]
      have eq2 : (eb (eb (colP g z l S nm t p4) fun a => if a = cc then (.error (erx g z l p4 3) : Except Er (Bool × Int × Int)) else .ok (false, a, nxt g z l p4)) fun b => (.ok (chkW S (S 3) t cc sg b (bZ (isW g z l b.2.2 wLATE)), nm, may g z l b.2.2 wLATE) : Except Er ((Int → Int) × (Int → Int) × Int))) = eb (eb (colP g z l S nm t p4) fun c => if c = cc then .error (erx g z l p4 3) else .ok c) fun v => .ok (chkW S (S 3) t cc sg (false, v, nxt g z l p4) (bZ (isW g z l (nxt g z l p4) wLATE)), nm, may g z l (nxt g z l p4) wLATE) := by
        cases colP g z l S nm t p4 with
        | error er => rfl
        | ok v =>
          rw [eb_ok, eb_ok]
          by_cases c : v = cc
          · rw [if_pos c, if_pos c]; rfl
          · rw [if_neg c, if_neg c]; rfl
      rw [eq2]
      refine CR.wk (P0 := fun u => a ≤ u) (c := 9 + 6) (s := 90 + 50) (CR.bind tc (fun u z => by omega) (fun X H2 hr => ?_) fun v w5 H6 e5 r5 k6 f5 n5 n5' => ?_) (fun u z => z) (by omega) (by omega)
      · rw [hr, cI_th]
      obtain ⟨rfl, k6, M6, v0, v1, v4⟩ := k6
      rw [r5, cI_ok]
      refine rs_117 (v := 0) (bb := (false, v, nxt g z l p4)) k6 M6 f6 (Or.inr ⟨rfl, rfl, rfl⟩) (hk (false, v, nxt g z l p4) ?_)
      cases hc : colP g z l S nm t p4 with
      | error er => rw [hc] at e5; cases e5
      | ok v' =>
        rw [hc, eb_ok] at e5
        rw [eb_ok]
        by_cases c : v' = cc
        · rw [if_pos c] at e5; cases e5
        · rw [if_neg c] at e5
          rw [if_neg c]
          injection e5 with e5
          rw [e5]
end
