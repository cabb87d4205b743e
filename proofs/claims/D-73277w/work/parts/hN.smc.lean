/-! the component's reader of schemas: keys, defaults, needs -/
-- jc_ref, rI_int, rR_ref, rR_null, rJ_long, ckR_ref, ckR_null, ckr_ref, ckr_null, ckW_int, ckW_ref, ckW_null, cI_ok, cR_ok, cR_null, cV_ok, cJ_ok, qH_eq, qD_in, aG_ref, aS_ref, aL_ref, pF_ref, cK_ref, cK_null, zI_lit, zJ_lit, zI_add, zI_sub, zI_mul, zI_neg, zI_eq, zI_lt, zI_le, Int.reduceLT, Int.reduceLE, Int.reduceAdd, Int.reduceSub, Int.reduceMul, Int.reduceNeg, Int.reduceEq, Int.reduceNe, reduceIte, jf_in, pFc_in, aGi, aGb, aSi, aLc_in, cKc_in, nA_in, jm_s1, jm_s2, jm_p1, jm_p2, jm_b, jn_b, jn_s, jn_p, jset_jset, jset_jpush2, ckR_is, ckr_is, rR_is, ckW_is, cR_is, obi2, ckW_int, eq_self, if_true, ref_null, if_false, ne_eq, not_true_eq_false, not_false_eq_true, decide_true, decide_false, decide_not, Bool.true_and, Bool.false_and, Bool.and_true, Bool.and_false, Bool.true_or, Bool.false_or, Bool.or_true, Bool.or_false, Bool.not_true, Bool.not_false, Bool.false_eq_true, bI_t, bI_f, Int.natCast_one, Int.cast_ofNat_Int, Int.natCast_zero, ju_self, ju_ne = jc_ref, rI_int, rR_ref, rR_null, rJ_long, ckR_ref, ckR_null, ckr_ref, ckr_null, ckW_int, ckW_ref, ckW_null, cI_ok, cR_ok, cR_null, cV_ok, cJ_ok, qH_eq, qD_in, aG_ref, aS_ref, aL_ref, pF_ref, cK_ref, cK_null, zI_lit, zJ_lit, zI_add, zI_sub, zI_mul, zI_neg, zI_eq, zI_lt, zI_le, Int.reduceLT, Int.reduceLE, Int.reduceAdd, Int.reduceSub, Int.reduceMul, Int.reduceNeg, Int.reduceEq, Int.reduceNe, reduceIte, jf_in, pFc_in, aGi, aGb, aSi, aLc_in, cKc_in, nA_in, jm_s1, jm_s2, jm_p1, jm_p2, jm_b, jn_b, jn_s, jn_p, jset_jset, jset_jpush2, ckR_is, ckr_is, rR_is, ckW_is, cR_is, obi2, ckW_int, eq_self, if_true, ref_null, if_false, ne_eq, not_true_eq_false, not_false_eq_true, decide_true, decide_false, decide_not, Bool.true_and, Bool.false_and, Bool.and_true, Bool.and_false, Bool.true_or, Bool.false_or, Bool.or_true, Bool.or_false, Bool.not_true, Bool.not_false, Bool.false_eq_true, bI_t, bI_f, Int.natCast_one, Int.cast_ofNat_Int, Int.natCast_zero, ju_self, ju_ne
/-- what a line leaves -/
def LnK (a n tp q : Nat) (g : Int → Int) (z l : Int) (x y : Value) (ln : Int) : ((Int → Int) × (Int → Int) × Int) → Option Value → AH → Prop := fun v w H2 => w = none ∧ ∃ bt, RdC (Bs a q bt (v.1 0)) H2 a 9 n tp q g z l x y v.2.2 ∧ SchM H2 a q bt (v.1 0) (v.1 0) ln v.1 (nmS v.2.1)
def LnL (a n tp q : Nat) (g : Int → Int) (z l : Int) (x y : Value) : Int → Option Value → AH → Prop := fun p' w H2 => w = none ∧ ∃ B, RdC B H2 a 9 n tp q g z l x y p'
section
variable {d : Nat} {H H2 : AH} {a b e q n tp c s c2 s2 tg : Nat} {m ln t tt but v : Int} {B P C : Nat → Prop} {S nm g : Int → Int} {bt : Int → Nat} {z l p : Int} {x y : Value} {f : Nat → Value}
theorem ck_12900 (hm : jm H b = some (tg, n, f)) (ht : tg = 12 ∨ tg = 13) : M2 (d + 2) 12900 [.ref b, .int (zI v), .ref e] H = some (.inl none, jset H b (tg, n, ju (ju f 0 (.int (zI v))) 1 (.ref e))) := by
  have rv : (jtRecv 12900).elem tg = true := by rcases ht with e | e <;> subst e <;> rfl
  have t1 : (([12, 13] : List Nat).elem tg && Nat.blt tg 100) = true := by rcases ht with e | e <;> subst e <;> rfl
  rw [Y12900 H rfl (jrecv_in hm rv), F12900_0]
  simp (disch := first | assumption | omega | decide | exact okF_i | exact okF_r | exact okF_n | exact okF_j | rfl) only [jc_ref, rI_int, rR_ref, rR_null, rJ_long, ckR_ref, ckR_null, ckr_ref, ckr_null, ckW_int, ckW_ref, ckW_null, cI_ok, cR_ok, cR_null, cV_ok, cJ_ok, qH_eq, qD_in, aG_ref, aS_ref, aL_ref, pF_ref, cK_ref, cK_null, zI_lit, zJ_lit, zI_add, zI_sub, zI_mul, zI_neg, zI_eq, zI_lt, zI_le, Int.reduceLT, Int.reduceLE, Int.reduceAdd, Int.reduceSub, Int.reduceMul, Int.reduceNeg, Int.reduceEq, Int.reduceNe, reduceIte, jf_in, pFc_in, aGi, aGb, aSi, aLc_in, cKc_in, nA_in, jm_s1, jm_s2, jm_p1, jm_p2, jm_b, jn_b, jn_s, jn_p, jset_jset, jset_jpush2, ckR_is, ckr_is, rR_is, ckW_is, cR_is, obi2, ckW_int, eq_self, if_true, ref_null, if_false, ne_eq, not_true_eq_false, not_false_eq_true, decide_true, decide_false, decide_not, Bool.true_and, Bool.false_and, Bool.and_true, Bool.and_false, Bool.true_or, Bool.false_or, Bool.or_true, Bool.or_false, Bool.not_true, Bool.not_false, Bool.false_eq_true, bI_t, bI_f, Int.natCast_one, Int.cast_ofNat_Int, Int.natCast_zero, ju_self, ju_ne, hm]
/-- the table that a reader's word names -/
theorem rs_tab (h : RdC (Bs a q bt (S 0)) H a 9 n tp q g z l x y p) (hM : SchM H a q bt (S 0) (S 0) ln S (nmS nm)) : CR (tabP g z l S nm p) (M2 (d + 7) 8016 [.ref a] H) H (fun u => u = a) 9 80 (fun v w H2 => w = some (.int (zI v)) ∧ RdC (Bs a q bt (S 0)) H2 a 9 n tp q g z l x y (nxt g z l p) ∧ SchM H2 a q bt (S 0) (S 0) ln S (nmS nm) ∧ 0 ≤ v ∧ v < S 0 ∧ 0 ≤ S (4 + v) ∧ S (4 + v) ≤ 4) := by
  obtain ⟨o, h1, h2, h3, h4, h5, h6, h7, W⟩ := id hM
  have b0 := W.1.2.1
  obtain ⟨H2, a1, a2, a3, a4⟩ := rc_table (d := d) h (hM.p (Int.le_refl _)) (by omega)
  rw [tab_look] at a4
  refine ⟨H2, a1, a2, a3, ?_⟩
  cases hr : tabP g z l S nm p with
  | error er => rw [hr] at a4; exact a4
  | ok v =>
    rw [hr] at a4
    obtain ⟨w, r1, r2, r3⟩ := a4
    have r := tab_rg W.1 hr
    have r4 := W.1.2.2.1 v r.1 (by omega)
    exact ⟨w, r1, r2, r3, hM.fr a1, r.1, r.2, r4.1, r4.2⟩
theorem rs_key (h : RdC (Bs a q bt (S 0)) H a 9 n tp q g z l x y p) (hM : SchM H a q bt (S 0) (S 0) ln S (nmS nm)) :
    CRl g z l (if S 1 = 6 then .error (erx g z l p 4) else keyP g z l S nm p) (M2 (d + 12) 9004 [.ref a] H) H (fun u => a ≤ u) 60 500 (LnK a n tp q g z l x y ln) (LnL a n tp q g z l x y) := by
  obtain ⟨o, h1, h2, h3, h4, h5, h6, h7, W⟩ := id hM
  obtain ⟨b1, b2, b3, b4, b5, b6⟩ := W.1
  obtain ⟨f, mm, e9, f4, al⟩ := rdc9 h
  have rv : (jtRecv 9004).elem 9 = true := rfl
  have sz := h3.sz (d := d + 10)
  have oa := o.1.1
  have ob := o.1.2
  obtain ⟨H1, a1, a2, a3, a4⟩ := rs_room (d := d + 5) h (v := S 1) (mx := 6) (by omega) (by omega) (by omega) (by omega)
  rw [Y9004 H (jrecv_in mm rv), F9004_0]
  by_cases c6 : S 1 = 6
  · rw [if_pos (by omega)] at a4
    rw [if_pos c6]
    obtain ⟨u, r1, r2⟩ := a4
    refine ⟨H1, a1.mono fun u _ z => by omega, by omega, by omega, Or.inl ⟨u, ?_, r2⟩⟩
    simp (disch := first | assumption | omega | decide | exact okF_i | exact okF_r | exact okF_n | exact okF_j | rfl) only [jc_ref, rI_int, rR_ref, rR_null, rJ_long, ckR_ref, ckR_null, ckr_ref, ckr_null, ckW_int, ckW_ref, ckW_null, cI_ok, cR_ok, cR_null, cV_ok, cJ_ok, qH_eq, qD_in, aG_ref, aS_ref, aL_ref, pF_ref, cK_ref, cK_null, zI_lit, zJ_lit, zI_add, zI_sub, zI_mul, zI_neg, zI_eq, zI_lt, zI_le, Int.reduceLT, Int.reduceLE, Int.reduceAdd, Int.reduceSub, Int.reduceMul, Int.reduceNeg, Int.reduceEq, Int.reduceNe, reduceIte, jf_in, pFc_in, aGi, aGb, aSi, aLc_in, cKc_in, nA_in, jm_s1, jm_s2, jm_p1, jm_p2, jm_b, jn_b, jn_s, jn_p, jset_jset, jset_jpush2, ckR_is, ckr_is, rR_is, ckW_is, cR_is, obi2, ckW_int, eq_self, if_true, ref_null, if_false, ne_eq, not_true_eq_false, not_false_eq_true, decide_true, decide_false, decide_not, Bool.true_and, Bool.false_and, Bool.and_true, Bool.and_false, Bool.true_or, Bool.false_or, Bool.or_true, Bool.or_false, Bool.not_true, Bool.not_false, Bool.false_eq_true, bI_t, bI_f, Int.natCast_one, Int.cast_ofNat_Int, Int.natCast_zero, ju_self, ju_ne, o3_0, o3_1, o3_2, o3_3, o3_4, mm, f4, h1, sz, r1, cV_th]
  · rw [if_neg (by omega)] at a4
    rw [if_neg c6]
    obtain ⟨w, r1, rfl, k1⟩ := a4
    have M1 := hM.fr a1
    unfold keyP
    obtain ⟨-, -, mt, -⟩ := mvR k1
    obtain ⟨H2, c1, c2, c3, c4⟩ := rs_tab (d := d + 4) k1 M1
    have F2 := a1.tr c1
    cases ht : tabP g z l S nm (nxt g z l p) with
    | error er =>
      rw [ht] at c4
      obtain ⟨u, r3, r4⟩ := c4
      have r3' := (mt (d + 11)).trans r3
      rw [eb_er]
      refine ⟨H2, F2.mono fun u _ z => by omega, by omega, by omega, Or.inl ⟨u, ?_, r4⟩⟩
      simp (disch := first | assumption | omega | decide | exact okF_i | exact okF_r | exact okF_n | exact okF_j | rfl) only [jc_ref, rI_int, rR_ref, rR_null, rJ_long, ckR_ref, ckR_null, ckr_ref, ckr_null, ckW_int, ckW_ref, ckW_null, cI_ok, cR_ok, cR_null, cV_ok, cJ_ok, qH_eq, qD_in, aG_ref, aS_ref, aL_ref, pF_ref, cK_ref, cK_null, zI_lit, zJ_lit, zI_add, zI_sub, zI_mul, zI_neg, zI_eq, zI_lt, zI_le, Int.reduceLT, Int.reduceLE, Int.reduceAdd, Int.reduceSub, Int.reduceMul, Int.reduceNeg, Int.reduceEq, Int.reduceNe, reduceIte, jf_in, pFc_in, aGi, aGb, aSi, aLc_in, cKc_in, nA_in, jm_s1, jm_s2, jm_p1, jm_p2, jm_b, jn_b, jn_s, jn_p, jset_jset, jset_jpush2, ckR_is, ckr_is, rR_is, ckW_is, cR_is, obi2, ckW_int, eq_self, if_true, ref_null, if_false, ne_eq, not_true_eq_false, not_false_eq_true, decide_true, decide_false, decide_not, Bool.true_and, Bool.false_and, Bool.and_true, Bool.and_false, Bool.true_or, Bool.false_or, Bool.or_true, Bool.or_false, Bool.not_true, Bool.not_false, Bool.false_eq_true, bI_t, bI_f, Int.natCast_one, Int.cast_ofNat_Int, Int.natCast_zero, ju_self, ju_ne, o3_0, o3_1, o3_2, o3_3, o3_4, mm, f4, h1, sz, r1, r3', cI_th]
    | ok t =>
      rw [ht] at c4
      obtain ⟨w, r3, rfl, k2, M2', t0, t1, t2, t3⟩ := c4
      have r3' := (mt (d + 11)).trans r3
      rw [eb_ok]
      obtain ⟨f', mm', -, f4', al'⟩ := rdc9 k2
      have h1' := M2'.2.1
      -- the object
      obtain ⟨H3, hH3⟩ : ∃ H3, H3 = jpush H2 (12, 2, o12 0 .null) := ⟨_, rfl⟩
      have m3 : jm H3 H2.1 = some (12, 2, o12 0 .null) := by rw [hH3]; exact jm_p1
      have f3 : Fr H2 H3 (fun _ => False) := by rw [hH3]; exact Fr.push
      have n3 : H3.1 = H2.1 + 1 ∧ H3.2.1 = H2.2.1 + 2 := by rw [hH3]; exact ⟨rfl, rfl⟩
      have k3 : RdC (fun u => Bs a q bt (S 0) u ∨ u = H2.1) H3 a 9 n tp q g z l x y (nxt g z l (nxt g z l p)) := k2.more f3 (fun _ _ e => e.elim) (fun e => e) (fun u hu => hu.elim Or.inl fun e => Or.inr (by omega)) fun u hu => Or.inl hu
      have M3 := M2'.fr (f3.mono fun _ _ z => z.elim)
      have F3 := F2.tr (f3.mono fun _ _ z => z.elim)
      obtain ⟨H4, d1, d2, d3, d4⟩ := rs_cols (d := d + 1) k3 (M3.p (Int.le_refl _)) rfl (by omega) t0 t1 t2 t3
      have F4 := F3.tr d1
      have l2 := F2.1
      have l4 := d1.1
      have F24 : Fr H2 H4 (fun u => u = a) := (f3.mono fun _ _ z => z.elim).tr d1
      have m4 : jm H4 H2.1 = some (12, 2, o12 0 .null) := (d1.2.2 _ (by omega) (by omega)).trans m3
      -- what comes after the columns
      have rest : ∀ (e : Nat) (p' : Int), RdC (fun u => Bs a q bt (S 0) u ∨ u = H2.1) H4 a 9 n tp q g z l x y p' → ∃ H6, zcV (M2 (d + 11) 12900 [.ref H2.1, .int (zI t), .ref e] H4) (fun h15 => zcI (M2 (d + 11) 43000 [.ref (q + 2), .ref H2.1] h15) (fun x16 h17 => some (.inl none, h17)) ()) () = (some (.inl none, H6) : Rz) ∧ Fr H4 H6 (fun u => u = H2.1 ∨ u = q + 2) ∧ H6.1 ≤ H4.1 + 1 ∧ H6.2.1 ≤ H4.2.1 + 10 ∧ RdC (Bs a q bt (S 0)) H6 a 9 n tp q g z l x y p' ∧ jm H6 H2.1 = some (12, 2, o12 t (.ref e)) ∧ ∀ Q : Int → Nat → Prop, (∀ k u, 0 ≤ k → k < S 1 → KeyF (Fz (Bs a q bt (S 0)) H2) u k S → Q k u) → Q (S 1) H2.1 → LstM H6 (q + 2) (S 1 + 1) Q := by
        intro e p' k4
        have i1 := ck_12900 (d := d + 9) (v := t) (e := e) m4 (Or.inl rfl)
        obtain ⟨H5, hH5⟩ : ∃ H5, H5 = jset H4 H2.1 (12, 2, o12 t (.ref e)) := ⟨_, rfl⟩
        rw [o12s_0, o12s_1, ← hH5] at i1
        have m5 : jm H5 H2.1 = some (12, 2, o12 t (.ref e)) := by rw [hH5]; exact jm_s1
        have f5 : Fr H4 H5 (fun u => u = H2.1) := by rw [hH5]; exact Fr.set rfl
        have n5 : H5.1 = H4.1 ∧ H5.2.1 = H4.2.1 := by rw [hH5]; exact ⟨rfl, rfl⟩
        have ob2 := M2'.1.1.2
        have L5 : LstM H5 (q + 2) (S 1) (fun k b => KeyF (Fz (Bs a q bt (S 0)) H2) b k S) := M2'.2.2.2.1.up ((f5.2.2 _ (by omega) (by omega)).trans (F24.2.2 _ (by omega) (by omega))) fun _ _ _ _ x => x
        obtain ⟨H6, i2, i3, i4, i5, i6⟩ := L5.add (by omega) m5 (by show (12 : Nat) < 1000; omega)
        have k5 := k4.fr f5 (fun u _ z => Or.inr z) (by omega)
        have k6 := (k5.fr i3 (fun u _ z => Or.inl (Or.inr (Or.inl (by omega)))) (by omega)).less (B := Bs a q bt (S 0)) (fun u hu => Or.inl hu) (Or.inl rfl)
        refine ⟨H6, ?_, (f5.mono fun u _ z => Or.inl z).tr (i3.mono fun u _ z => Or.inr z), by omega, by omega, k6, (i3.2.2 _ (by omega) (by omega)).trans m5, i6⟩
        rw [i1, cV_ok, i2 (d + 10)]
        rfl
      have run : ∀ (X : Rz) (w : Option Value), M2 (d + 11) 9001 [.ref a, .int (zI t)] H3 = X → (zpR (jf (jc H (.ref a)) [9, 15, 27, 29] 4) (fun r1 => zpR (jf (jc H r1) [3] 2) (fun r2 => zcI (M2 (d + 11) 43017 [r2] H) (fun x3 h4 => zcV (M2 (d + 11) 9003 [.ref a, .int x3, .int 6] h4) (fun h6 => zcI (MvH (d + 11) 9115 [.ref a] h6) (fun x7 h8 => zpR (jf (jc h8 (.ref a)) [9, 15, 27, 29] 4) (fun r9 => zpR (jf (jc h8 r9) [3] 2) (fun r10 => zqH (jpush h8 (12, 2, jL [.int 0, .null])) (fun h11 => zcR (M2 (d + 11) 9001 [.ref a, .int x7] h11) (fun r12 h13 => zcV (M2 (d + 11) 12900 [.ref h8.1, .int x7, r12] h13) (fun h15 => zcI (M2 (d + 11) 43000 [r10, .ref h8.1] h15) (fun x16 h17 => some (.inl none, h17)) ()) ()) ()) ()) ()) ()) ()) ()) ()) ()) () : Rz) = zcR X (fun r12 h13 => zcV (M2 (d + 11) 12900 [.ref H2.1, .int (zI t), r12] h13) (fun h15 => zcI (M2 (d + 11) 43000 [.ref (q + 2), .ref H2.1] h15) (fun x16 h17 => some (.inl none, h17)) ()) ()) () := by
        intro X w hX
        rw [← hX]
        simp (disch := first | assumption | omega | decide | exact okF_i | exact okF_r | exact okF_n | exact okF_j | rfl) only [jc_ref, rI_int, rR_ref, rR_null, rJ_long, ckR_ref, ckR_null, ckr_ref, ckr_null, ckW_int, ckW_ref, ckW_null, cI_ok, cR_ok, cR_null, cV_ok, cJ_ok, qH_eq, qD_in, aG_ref, aS_ref, aL_ref, pF_ref, cK_ref, cK_null, zI_lit, zJ_lit, zI_add, zI_sub, zI_mul, zI_neg, zI_eq, zI_lt, zI_le, Int.reduceLT, Int.reduceLE, Int.reduceAdd, Int.reduceSub, Int.reduceMul, Int.reduceNeg, Int.reduceEq, Int.reduceNe, reduceIte, jf_in, pFc_in, aGi, aGb, aSi, aLc_in, cKc_in, nA_in, jm_s1, jm_s2, jm_p1, jm_p2, jm_b, jn_b, jn_s, jn_p, jset_jset, jset_jpush2, ckR_is, ckr_is, rR_is, ckW_is, cR_is, obi2, ckW_int, eq_self, if_true, ref_null, if_false, ne_eq, not_true_eq_false, not_false_eq_true, decide_true, decide_false, decide_not, Bool.true_and, Bool.false_and, Bool.and_true, Bool.and_false, Bool.true_or, Bool.false_or, Bool.or_true, Bool.or_false, Bool.not_true, Bool.not_false, Bool.false_eq_true, bI_t, bI_f, Int.natCast_one, Int.cast_ofNat_Int, Int.natCast_zero, ju_self, ju_ne, o3_0, o3_1, o3_2, o3_3, o3_4, n12, o12s_0, o12s_1, mm, f4, h1, sz, r1, r3', mm', f4', h1', ← hH3]
      cases hc : colsP g z l S nm t (nxt g z l (nxt g z l p)) with
      | error er =>
        rw [hc] at d4
        rw [eb_er]
        rcases d4 with ⟨u, r5, r6⟩ | ⟨w, p', r5, r6, r7, k4, -, e, rfl⟩
        · refine ⟨H4, F4.mono fun u _ z => by omega, by omega, by omega, Or.inl ⟨u, ?_, r6⟩⟩
          rw [run _ none r5, cR_th]
        · obtain ⟨H6, j1, j2, j3, j4, j5, -⟩ := rest e p' k4
          refine ⟨H6, (F4.mono fun u _ z => by omega).tr (j2.mono fun u _ z => by omega), by omega, by omega, Or.inr ⟨none, p', ?_, r6, r7, rfl, _, j5⟩⟩
          rw [run _ none r5, cR_ok, j1]
      | ok v =>
        rw [hc] at d4
        rw [eb_ok]
        obtain ⟨w, r5, k4, c0, c1', e, rfl, el, cf⟩ := d4
        obtain ⟨H6, j1, j2, j3, j4, j5, j6, j7⟩ := rest e v.2.2 k4
        have hk : keyP g z l S nm p = .ok (fset (fset (fset (fset S (40 + S 1) t) (46 + S 1) v.1) (52 + S 1) v.2.1) 1 (S 1 + 1), nm, v.2.2) := by unfold keyP; rw [ht, eb_ok, hc, eb_ok]
        obtain ⟨W', -⟩ := key_W W (by omega) hk
        refine ⟨H6, (F4.mono fun u _ z => by omega).tr (j2.mono fun u _ z => by omega), by omega, by omega, none, ?_, rfl, bt, ?_⟩
        · rw [run _ none r5, cR_ok, j1]
        show RdC (Bs a q bt (fset (fset (fset (fset S (40 + S 1) t) (46 + S 1) v.1) (52 + S 1) v.2.1) 1 (S 1 + 1) 0)) H6 a 9 n tp q g z l x y v.2.2 ∧ SchM H6 a q bt (fset (fset (fset (fset S (40 + S 1) t) (46 + S 1) v.1) (52 + S 1) v.2.1) 1 (S 1 + 1) 0) (fset (fset (fset (fset S (40 + S 1) t) (46 + S 1) v.1) (52 + S 1) v.2.1) 1 (S 1 + 1) 0) ln (fset (fset (fset (fset S (40 + S 1) t) (46 + S 1) v.1) (52 + S 1) v.2.1) 1 (S 1 + 1)) (nmS nm)
        change HsW (fset (fset (fset (fset S (40 + S 1) t) (46 + S 1) v.1) (52 + S 1) v.2.1) 1 (S 1 + 1)) at W'
        have ee : ∀ i, i ≠ 1 → i ≠ 40 + S 1 → i ≠ 46 + S 1 → i ≠ 52 + S 1 → fset (fset (fset (fset S (40 + S 1) t) (46 + S 1) v.1) (52 + S 1) v.2.1) 1 (S 1 + 1) i = S i := fun i i1 i2 i3 i4 => by rw [fset_ne i1, fset_ne i4, fset_ne i3, fset_ne i2]
        have e1 : fset (fset (fset (fset S (40 + S 1) t) (46 + S 1) v.1) (52 + S 1) v.2.1) 1 (S 1 + 1) 1 = S 1 + 1 := fset_eq
        have e2 : fset (fset (fset (fset S (40 + S 1) t) (46 + S 1) v.1) (52 + S 1) v.2.1) 1 (S 1 + 1) (40 + S 1) = t := by simp (disch := omega) only [fset_eq, fset_ne]
        have e3 : fset (fset (fset (fset S (40 + S 1) t) (46 + S 1) v.1) (52 + S 1) v.2.1) 1 (S 1 + 1) (46 + S 1) = v.1 := by simp (disch := omega) only [fset_eq, fset_ne]
        have e4 : fset (fset (fset (fset S (40 + S 1) t) (46 + S 1) v.1) (52 + S 1) v.2.1) 1 (S 1 + 1) (52 + S 1) = v.2.1 := by simp (disch := omega) only [fset_eq, fset_ne]
        generalize fset (fset (fset (fset S (40 + S 1) t) (46 + S 1) v.1) (52 + S 1) v.2.1) 1 (S 1 + 1) = S' at W' ee e1 e2 e3 e4 ⊢
        have e0 : S' 0 = S 0 := ee 0 (by decide) (by omega) (by omega) (by omega)
        have eR : S' 2 = S 2 := ee 2 (by decide) (by omega) (by omega) (by omega)
        have eC : S' 3 = S 3 := ee 3 (by decide) (by omega) (by omega) (by omega)
        rw [e0]
        have nb : ¬ Bs a q bt (S 0) H2.1 := fun hb => by have := k2.2.2.1 _ hb; omega
        have ob2 := M2'.1.1.2
        have F26 : Fr H2 H6 (fun u => u = a ∨ u = q + 2) := (F24.mono fun _ _ z => Or.inl z).new (j2.mono fun u _ z => z.elim (fun z => Or.inr (by omega)) fun z => Or.inl (Or.inr z))
        have sb : Sub (Fz (Bs a q bt (S 0)) H2) (Fz (Bs a q bt (S 0)) H6) := Fz_sub F26 fun u _ z => z.elim Or.inl fun z => Or.inr (Or.inl (by omega))
        have s4 : Sub (Fz (fun u => Bs a q bt (S 0) u ∨ u = H2.1) H4) (Fz (Bs a q bt (S 0)) H6) := (Fz_sub j2 fun u _ z => z.elim Or.inr fun z => Or.inl (Or.inr (Or.inl (by omega)))).tr (sub_less fun u hu => Or.inl hu)
        have zb : Fz (Bs a q bt (S 0)) H6 H2.1 = some (12, 2, o12 t (.ref e)) := Fz_in (by have := F26.1; have := j2.1; omega) nb j6
        refine ⟨j5, M2'.up3 (P0 := fun u => u = a ∨ u = q + 2) F26 (fun u z => z.elim Or.inl fun z => Or.inr (by omega)) W' (fun i i0 i1 => ee i (by omega) (by omega) (by omega) (by omega)) ?_ ?_ ?_ (by omega) (by omega) fun k k0 k1 => by rw [eC] at k0; rw [ee _ (by omega) (by omega) (by omega) (by omega)]; exact M2'.2.2.2.2.2.2.2.1.2 k k0 k1⟩
        · rw [e1]
          refine j7 _ (fun k u k0 k1 z => z.cg sb (ee _ (by omega) (by omega) (by omega) (by omega)) (ee _ (by omega) (by omega) (by omega) (by omega)) (ee _ (by omega) (by omega) (by omega) (by omega))) ⟨e, ?_, ?_⟩
          · rw [e2]; exact zb
          · rw [e3, e4]; exact cf.sub s4
        · rw [eR]
          exact M2'.2.2.2.2.1.up (F26.2.2 _ (by omega) (by omega)) fun k u k0 k1 z => z.cg sb fun j j0 j1 => ee _ (by omega) (by omega) (by omega) (by omega)
        · rw [eC]
          exact M2'.2.2.2.2.2.1.up (F26.2.2 _ (by omega) (by omega)) fun k u k0 k1 z => z.cg sb (ee _ (by omega) (by omega) (by omega) (by omega)) (ee _ (by omega) (by omega) (by omega) (by omega)) (ee _ (by omega) (by omega) (by omega) (by omega)) (ee _ (by omega) (by omega) (by omega) (by omega)) (ee _ (by omega) (by omega) (by omega) (by omega)) (ee _ (by omega) (by omega) (by omega) (by omega))
end
