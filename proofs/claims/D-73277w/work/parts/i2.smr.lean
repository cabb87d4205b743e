/-! the component's reader of schemas: a schema, whole -/
-- jc_ref, rI_int, rR_ref, rR_null, rJ_long, ckR_ref, ckR_null, ckr_ref, ckr_null, ckW_int, ckW_ref, ckW_null, cI_ok, cR_ok, cR_null, cV_ok, cJ_ok, qH_eq, qD_in, aG_ref, aS_ref, aL_ref, pF_ref, cK_ref, cK_null, zI_lit, zJ_lit, zI_add, zI_sub, zI_mul, zI_neg, zI_eq, zI_lt, zI_le, Int.reduceLT, Int.reduceLE, Int.reduceAdd, Int.reduceSub, Int.reduceMul, Int.reduceNeg, Int.reduceEq, Int.reduceNe, reduceIte, jf_in, pFc_in, aGi, aGb, aSi, aLc_in, cKc_in, nA_in, jm_s1, jm_s2, jm_p1, jm_p2, jm_b, jn_b, jn_s, jn_p, jset_jset, jset_jpush2, ckR_is, ckr_is, rR_is, ckW_is, cR_is, obi2, ckW_int, eq_self, if_true, ref_null, if_false, ne_eq, not_true_eq_false, not_false_eq_true, decide_true, decide_false, decide_not, Bool.true_and, Bool.false_and, Bool.and_true, Bool.and_false, Bool.true_or, Bool.false_or, Bool.or_true, Bool.or_false, Bool.not_true, Bool.not_false, Bool.false_eq_true, bI_t, bI_f, Int.natCast_one, Int.cast_ofNat_Int, Int.natCast_zero, ju_self, ju_ne = jc_ref, rI_int, rR_ref, rR_null, rJ_long, ckR_ref, ckR_null, ckr_ref, ckr_null, ckW_int, ckW_ref, ckW_null, cI_ok, cR_ok, cR_null, cV_ok, cJ_ok, qH_eq, qD_in, aG_ref, aS_ref, aL_ref, pF_ref, cK_ref, cK_null, zI_lit, zJ_lit, zI_add, zI_sub, zI_mul, zI_neg, zI_eq, zI_lt, zI_le, Int.reduceLT, Int.reduceLE, Int.reduceAdd, Int.reduceSub, Int.reduceMul, Int.reduceNeg, Int.reduceEq, Int.reduceNe, reduceIte, jf_in, pFc_in, aGi, aGb, aSi, aLc_in, cKc_in, nA_in, jm_s1, jm_s2, jm_p1, jm_p2, jm_b, jn_b, jn_s, jn_p, jset_jset, jset_jpush2, ckR_is, ckr_is, rR_is, ckW_is, cR_is, obi2, ckW_int, eq_self, if_true, ref_null, if_false, ne_eq, not_true_eq_false, not_false_eq_true, decide_true, decide_false, decide_not, Bool.true_and, Bool.false_and, Bool.and_true, Bool.and_false, Bool.true_or, Bool.false_or, Bool.or_true, Bool.or_false, Bool.not_true, Bool.not_false, Bool.false_eq_true, bI_t, bI_f, Int.natCast_one, Int.cast_ofNat_Int, Int.natCast_zero, ju_self, ju_ne
section
variable {d : Nat} {H H2 : AH} {a b e e1 e2 q n tp c s c2 s2 tg w : Nat} {k m ln t tt but v one two o cc sg col : Int} {B P P0 C : Nat → Prop} {S S' nm nm' g : Int → Int} {bt : Int → Nat} {z l p : Int} {x y : Value} {f : Nat → Value} {F : Nat → Option Cl}
theorem SchM.lns {n' : Int} (h : SchM H a q bt n' m ln S nm) (f : Fr H H2 (fun u => u = q)) (hq : jm H2 q = some (3, 5, o3 k (.ref (q + 1)) (.ref (q + 2)) (.ref (q + 3)) (.ref (q + 4)))) : SchM H2 a q bt n' m k S nm := by
  obtain ⟨o, h1, h2, h3, h4, h5, h6, h7, h8⟩ := h
  have oa := o.1.1
  have ob := o.1.2
  have sb : Sub (Fz (Bs a q bt m) H) (Fz (Bs a q bt m) H2) := Fz_sub f fun u _ e => Or.inr (Or.inl (by omega))
  have e : ∀ u, u < H.1 → u ≠ q → jm H2 u = jm H u := fun u u0 u1 => f.2.2 u u0 u1
  refine ⟨o.fr f.1, hq, h2.up (e _ (by omega) (by omega)) fun _ _ _ _ x => x, h3.up (e _ (by omega) (by omega)) fun _ _ _ _ x => x.sub sb, h4.up (e _ (by omega) (by omega)) fun _ _ _ _ x => x.sub sb, h5.up (e _ (by omega) (by omega)) fun _ _ _ _ x => x.sub sb, fun t t0 t1 => ?_, h7, h8⟩
  refine (h6 t t0 t1).up (fun i hi => ?_) sb rfl (fun _ _ _ => rfl) (fun _ _ _ => rfl) rfl fun _ _ _ => rfl
  have := o.out t0 t1 hi
  exact e _ this.1 (by omega)
/-- what reading a schema leaves -/
def RsK (a n tp q : Nat) (g : Int → Int) (z l : Int) (x y : Value) : ((Int → Int) × (Int → Int) × Int) → Option Value → AH → Prop := fun v w H2 => w = some (.ref q) ∧ ∃ bt p, RdC (Bs a q bt (v.1 0)) H2 a 9 n tp q g z l x y p ∧ SchM H2 a q bt (v.1 0) (v.1 0) v.2.2 v.1 (nmS v.2.1)
set_option maxRecDepth 8000 in
theorem rs_lines : ∀ (fu : Nat) (S nm : Int → Int) (ln p : Int) (H : AH) (bt : Int → Nat), RdC (Bs a q bt (S 0)) H a 9 n tp q g z l x y p → SchM H a q bt (S 0) (S 0) ln S (nmS nm) → (z - p).toNat + 1 ≤ fu →
    CR (linesP g z l fu S nm ln p) (G2 (d + 14) 9010 4 [.ref a] [] H) H (fun u => a ≤ u) (110 * (z - p).toNat + 220) (550 * (z - p).toNat + 1100) (RsK a n tp q g z l x y) := by
  intro fu
  induction fu with
  | zero => intro S nm ln p H bt h hM hf; omega
  | succ fu ih =>
    intro S nm ln p H bt h hM hf
    obtain ⟨f, mm, -, -, f4, f5, -⟩ := h.fs
    have oa := hM.1.1.1
    have pz := h.2.2.2
    obtain ⟨-, -, -, -, -, pr, -⟩ := pz
    obtain ⟨-, -, c0, -⟩ := ckd_is (g := g) (z := z) (l := l) (q := p)
    have cr := ckd_rg (g := g) (z := z) (l := l) (q := p)
    have e9 : ([9, 15, 27, 29] : List Nat).elem 9 = true := rfl
    rw [F9010_4]
    unfold linesP
    by_cases k0 : kd g z l p = 0
    · rw [if_pos k0]
      have ck := c0.mpr k0
      refine ⟨H, Fr.rf, by omega, by omega, _, ?_, rfl, bt, p, h, hM⟩
      simp (disch := first | assumption | omega | decide | exact okF_i | exact okF_r | exact okF_n | exact okF_j | rfl) only [jc_ref, rI_int, rR_ref, rR_null, rJ_long, ckR_ref, ckR_null, ckr_ref, ckr_null, ckW_int, ckW_ref, ckW_null, cI_ok, cR_ok, cR_null, cV_ok, cJ_ok, qH_eq, qD_in, aG_ref, aS_ref, aL_ref, pF_ref, cK_ref, cK_null, zI_lit, zJ_lit, zI_add, zI_sub, zI_mul, zI_neg, zI_eq, zI_lt, zI_le, Int.reduceLT, Int.reduceLE, Int.reduceAdd, Int.reduceSub, Int.reduceMul, Int.reduceNeg, Int.reduceEq, Int.reduceNe, reduceIte, jf_in, pFc_in, aGi, aGb, aSi, aLc_in, cKc_in, nA_in, jm_s1, jm_s2, jm_p1, jm_p2, jm_b, jn_b, jn_s, jn_p, jset_jset, jset_jpush2, ckR_is, ckr_is, rR_is, ckW_is, cR_is, obi2, ckW_int, eq_self, if_true, ref_null, if_false, ne_eq, not_true_eq_false, not_false_eq_true, decide_true, decide_false, decide_not, Bool.true_and, Bool.false_and, Bool.and_true, Bool.and_false, Bool.true_or, Bool.false_or, Bool.or_true, Bool.or_false, Bool.not_true, Bool.not_false, Bool.false_eq_true, bI_t, bI_f, Int.natCast_one, Int.cast_ofNat_Int, Int.natCast_zero, ju_self, ju_ne, mm, f5, ck, f4]
    · rw [if_neg k0]
      have ck : ¬ ckd g z l p = 0 := fun u => k0 (c0.mp u)
      have pre : zpI (jf (jc H (.ref a)) [9, 15, 27, 29] 5) (fun x1 => if x1 = 0 then (zpR (jf (jc H (.ref a)) [9, 15, 27, 29] 4) (fun r2 => ckR r2 (some (.inl (some r2), H))) ()) else (zcV (M2 (d + 14) 9006 [.ref a] H) (fun h4 => zcV (MvH (d + 14) 9122 [.ref a] h4) (fun h6 => zpR (jf (jc h6 (.ref a)) [9, 15, 27, 29] 4) (fun r7 => zkW r7 (zpI (jf (jc h6 r7) [3] 0) (fun x8 => zqF h6 r7 [3] 0 0 (.int (x8 + 1)) (fun h9 => G2 (d + 14) 9010 4 [.ref a] [] h9) ()) ()) ()) ()) ()) ())) () = (zcV (M2 (d + 14) 9006 [.ref a] H) (fun h4 => zcV (MvH (d + 14) 9122 [.ref a] h4) (fun h6 => zpR (jf (jc h6 (.ref a)) [9, 15, 27, 29] 4) (fun r7 => zkW r7 (zpI (jf (jc h6 r7) [3] 0) (fun x8 => zqF h6 r7 [3] 0 0 (.int (x8 + 1)) (fun h9 => G2 (d + 14) 9010 4 [.ref a] [] h9) ()) ()) ()) ()) ()) () : Rz) := by
        simp (disch := first | assumption | omega | decide | exact okF_i | exact okF_r | exact okF_n | exact okF_j | rfl) only [jc_ref, rI_int, rR_ref, rR_null, rJ_long, ckR_ref, ckR_null, ckr_ref, ckr_null, ckW_int, ckW_ref, ckW_null, cI_ok, cR_ok, cR_null, cV_ok, cJ_ok, qH_eq, qD_in, aG_ref, aS_ref, aL_ref, pF_ref, cK_ref, cK_null, zI_lit, zJ_lit, zI_add, zI_sub, zI_mul, zI_neg, zI_eq, zI_lt, zI_le, Int.reduceLT, Int.reduceLE, Int.reduceAdd, Int.reduceSub, Int.reduceMul, Int.reduceNeg, Int.reduceEq, Int.reduceNe, reduceIte, jf_in, pFc_in, aGi, aGb, aSi, aLc_in, cKc_in, nA_in, jm_s1, jm_s2, jm_p1, jm_p2, jm_b, jn_b, jn_s, jn_p, jset_jset, jset_jpush2, ckR_is, ckr_is, rR_is, ckW_is, cR_is, obi2, ckW_int, eq_self, if_true, ref_null, if_false, ne_eq, not_true_eq_false, not_false_eq_true, decide_true, decide_false, decide_not, Bool.true_and, Bool.false_and, Bool.and_true, Bool.and_false, Bool.true_or, Bool.false_or, Bool.or_true, Bool.or_false, Bool.not_true, Bool.not_false, Bool.false_eq_true, bI_t, bI_f, Int.natCast_one, Int.cast_ofNat_Int, Int.natCast_zero, ju_self, ju_ne, mm, f5, ck]
      rw [pre]
      obtain ⟨H1, a1, a2, a3, a4⟩ := rs_line (d := d + 1) h hM
      cases hl : lineP g z l S nm p with
      | error er =>
        rw [hl] at a4
        rw [eb_er]
        rcases a4 with ⟨u, r1, r2⟩ | ⟨w, p', r1, r2, r3, rfl, B, k1⟩
        · exact ⟨H1, a1, by omega, by omega, u, by rw [r1, cV_th], r2⟩
        · obtain ⟨-, -, -, -, -, -, -, -, -, me⟩ := mvR k1
          obtain ⟨H2, i1, i2, i3, i4⟩ := rc_end (d := d + 8) k1
          have es : signP g z l 59 p' = .error (erx g z l p' 1) := by unfold signP; rw [r2, if_neg (by decide)]
          rw [es] at i4
          obtain ⟨u, r5, r6⟩ := i4
          have r5' := (me (d + 14)).trans r5
          rw [r3]
          exact ⟨H2, a1.tr (i1.mono fun u _ z => by omega), by omega, by omega, u, by rw [r1, cV_ok, r5', cV_th], r6⟩
      | ok v =>
        rw [hl] at a4
        obtain ⟨w, r1, rfl, bt1, k1, M1⟩ := a4
        rw [eb_ok]
        obtain ⟨W1, ge⟩ := line_W hM.2.2.2.2.2.2.2.2 hl
        obtain ⟨nx1, nx2⟩ := line_nx hM.2.2.2.2.2.2.2.2 hl
        obtain ⟨-, -, -, -, -, -, -, -, -, me⟩ := mvR k1
        obtain ⟨H2, i1, i2, i3, i4⟩ := rc_end (d := d + 8) k1
        cases hs : signP g z l 59 v.2.2 with
        | error er =>
          rw [hs] at i4
          rw [eb_er]
          obtain ⟨u, r5, r6⟩ := i4
          have r5' := (me (d + 14)).trans r5
          exact ⟨H2, a1.tr (i1.mono fun u _ z => by omega), by omega, by omega, u, by rw [r1, cV_ok, r5', cV_th], r6⟩
        | ok p2 =>
          rw [hs] at i4
          rw [eb_ok]
          obtain ⟨u, r5, rfl, rfl, k2⟩ := i4
          have r5' := (me (d + 14)).trans r5
          have M2' := M1.fr i1
          have isg : isS g z l v.2.2 59 = true := by
            unfold signP at hs
            cases h' : isS g z l v.2.2 59 with
            | true => rfl
            | false => rw [h', if_neg (by decide)] at hs; cases hs
          have gt3 : v.2.2 < nxt g z l v.2.2 := nxt_gt3 (by simp only [isS, decide_eq_true_eq] at isg; exact isg.1)
          obtain ⟨f2, mm2, -, f24, al2⟩ := rdc9 k2
          have h12 := M2'.2.1
          have oa2 := M2'.1.1.1
          have ob2 := M2'.1.1.2
          obtain ⟨H3, hH3⟩ : ∃ H3, H3 = jset H2 q (3, 5, o3 (ln + 1) (.ref (q + 1)) (.ref (q + 2)) (.ref (q + 3)) (.ref (q + 4))) := ⟨_, rfl⟩
          have m3 : jm H3 q = some (3, 5, o3 (ln + 1) (.ref (q + 1)) (.ref (q + 2)) (.ref (q + 3)) (.ref (q + 4))) := by rw [hH3]; exact jm_s1
          have f3 : Fr H2 H3 (fun u => u = q) := by rw [hH3]; exact Fr.set rfl
          have n3 : H3.1 = H2.1 ∧ H3.2.1 = H2.2.1 := by rw [hH3]; exact ⟨rfl, rfl⟩
          have M3 := M2'.lns f3 m3
          have k3 := k2.fr f3 (fun u _ z => Or.inr (Or.inl (by omega))) (by omega)
          have pr2 := k3.2.2.2
          obtain ⟨-, -, -, -, -, pr2, -⟩ := pr2
          have IH := ih v.1 v.2.1 (ln + 1) (nxt g z l v.2.2) H3 bt1 k3 M3 (by omega)
          have run : zcV (M2 (d + 14) 9006 [.ref a] H) (fun h4 => zcV (MvH (d + 14) 9122 [.ref a] h4) (fun h6 => zpR (jf (jc h6 (.ref a)) [9, 15, 27, 29] 4) (fun r7 => zkW r7 (zpI (jf (jc h6 r7) [3] 0) (fun x8 => zqF h6 r7 [3] 0 0 (.int (x8 + 1)) (fun h9 => G2 (d + 14) 9010 4 [.ref a] [] h9) ()) ()) ()) ()) ()) () = G2 (d + 14) 9010 4 [.ref a] [] H3 := by
            rw [r1, cV_ok, r5', cV_ok]
            simp (disch := first | assumption | omega | decide | exact okF_i | exact okF_r | exact okF_n | exact okF_j | rfl) only [jc_ref, rI_int, rR_ref, rR_null, rJ_long, ckR_ref, ckR_null, ckr_ref, ckr_null, ckW_int, ckW_ref, ckW_null, cI_ok, cR_ok, cR_null, cV_ok, cJ_ok, qH_eq, qD_in, aG_ref, aS_ref, aL_ref, pF_ref, cK_ref, cK_null, zI_lit, zJ_lit, zI_add, zI_sub, zI_mul, zI_neg, zI_eq, zI_lt, zI_le, Int.reduceLT, Int.reduceLE, Int.reduceAdd, Int.reduceSub, Int.reduceMul, Int.reduceNeg, Int.reduceEq, Int.reduceNe, reduceIte, jf_in, pFc_in, aGi, aGb, aSi, aLc_in, cKc_in, nA_in, jm_s1, jm_s2, jm_p1, jm_p2, jm_b, jn_b, jn_s, jn_p, jset_jset, jset_jpush2, ckR_is, ckr_is, rR_is, ckW_is, cR_is, obi2, ckW_int, eq_self, if_true, ref_null, if_false, ne_eq, not_true_eq_false, not_false_eq_true, decide_true, decide_false, decide_not, Bool.true_and, Bool.false_and, Bool.and_true, Bool.and_false, Bool.true_or, Bool.false_or, Bool.or_true, Bool.or_false, Bool.not_true, Bool.not_false, Bool.false_eq_true, bI_t, bI_f, Int.natCast_one, Int.cast_ofNat_Int, Int.natCast_zero, ju_self, ju_ne, o3_0, o3_1, o3_2, o3_3, o3_4, n3, o3s_0, o3s_1, o3s_2, o3s_3, o3s_4, mm2, f24, h12, ← hH3]
          rw [run]
          have FH : Fr H H3 (fun u => a ≤ u) := (a1.tr (i1.mono fun u _ z => by omega)).tr (f3.mono fun u _ z => by omega)
          exact CR.wk (CR.stp (c := 205) (s := 1040) FH (fun _ z => z) (by omega) (by omega) IH) (fun _ z => z) (by omega) (by omega)
end
