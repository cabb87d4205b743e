/-! the component's reader of schemas: checks -/
-- jc_ref, rI_int, rR_ref, rR_null, rJ_long, ckR_ref, ckR_null, ckr_ref, ckr_null, ckW_int, ckW_ref, ckW_null, cI_ok, cR_ok, cR_null, cV_ok, cJ_ok, qH_eq, qD_in, aG_ref, aS_ref, aL_ref, pF_ref, cK_ref, cK_null, zI_lit, zJ_lit, zI_add, zI_sub, zI_mul, zI_neg, zI_eq, zI_lt, zI_le, Int.reduceLT, Int.reduceLE, Int.reduceAdd, Int.reduceSub, Int.reduceMul, Int.reduceNeg, Int.reduceEq, Int.reduceNe, reduceIte, jf_in, pFc_in, aGi, aGb, aSi, aLc_in, cKc_in, nA_in, jm_s1, jm_s2, jm_p1, jm_p2, jm_b, jn_b, jn_s, jn_p, jset_jset, jset_jpush2, ckR_is, ckr_is, rR_is, ckW_is, cR_is, obi2, ckW_int, eq_self, if_true, ref_null, if_false, ne_eq, not_true_eq_false, not_false_eq_true, decide_true, decide_false, decide_not, Bool.true_and, Bool.false_and, Bool.and_true, Bool.and_false, Bool.true_or, Bool.false_or, Bool.or_true, Bool.or_false, Bool.not_true, Bool.not_false, Bool.false_eq_true, bI_t, bI_f, Int.natCast_one, Int.cast_ofNat_Int, Int.natCast_zero, ju_self, ju_ne = jc_ref, rI_int, rR_ref, rR_null, rJ_long, ckR_ref, ckR_null, ckr_ref, ckr_null, ckW_int, ckW_ref, ckW_null, cI_ok, cR_ok, cR_null, cV_ok, cJ_ok, qH_eq, qD_in, aG_ref, aS_ref, aL_ref, pF_ref, cK_ref, cK_null, zI_lit, zJ_lit, zI_add, zI_sub, zI_mul, zI_neg, zI_eq, zI_lt, zI_le, Int.reduceLT, Int.reduceLE, Int.reduceAdd, Int.reduceSub, Int.reduceMul, Int.reduceNeg, Int.reduceEq, Int.reduceNe, reduceIte, jf_in, pFc_in, aGi, aGb, aSi, aLc_in, cKc_in, nA_in, jm_s1, jm_s2, jm_p1, jm_p2, jm_b, jn_b, jn_s, jn_p, jset_jset, jset_jpush2, ckR_is, ckr_is, rR_is, ckW_is, cR_is, obi2, ckW_int, eq_self, if_true, ref_null, if_false, ne_eq, not_true_eq_false, not_false_eq_true, decide_true, decide_false, decide_not, Bool.true_and, Bool.false_and, Bool.and_true, Bool.and_false, Bool.true_or, Bool.false_or, Bool.or_true, Bool.or_false, Bool.not_true, Bool.not_false, Bool.false_eq_true, bI_t, bI_f, Int.natCast_one, Int.cast_ofNat_Int, Int.natCast_zero, ju_self, ju_ne
section
variable {d : Nat} {H H2 : AH} {a b e e1 e2 q n tp c s c2 s2 tg : Nat} {m ln t tt but v one two o cc sg col : Int} {B P P0 C : Nat → Prop} {S nm g : Int → Int} {bt : Int → Nat} {z l p : Int} {x y : Value} {f : Nat → Value} {F : Nat → Option Cl}
theorem ck_14900 {la : Int} (hm : jm H b = some (14, 6, o14 0 0 0 0 0 0)) (hl : la = 0 ∨ la = 1) : M2 (d + 2) 14900 [.ref b, .int (zI t), .int (zI cc), .int (zI sg), .int (zI col), .int (zI v), .int (zI la)] H = some (.inl none, jset H b (14, 6, o14 t cc sg col v la)) := by
  have rv : (jtRecv 14900).elem 14 = true := rfl
  have o2 := okF_z hl
  rw [Y14900 H (jrecv_in hm rv), F14900_0]
  simp (disch := first | assumption | omega | decide | exact okF_i | exact okF_r | exact okF_n | exact okF_j | rfl) only [jc_ref, rI_int, rR_ref, rR_null, rJ_long, ckR_ref, ckR_null, ckr_ref, ckr_null, ckW_int, ckW_ref, ckW_null, cI_ok, cR_ok, cR_null, cV_ok, cJ_ok, qH_eq, qD_in, aG_ref, aS_ref, aL_ref, pF_ref, cK_ref, cK_null, zI_lit, zJ_lit, zI_add, zI_sub, zI_mul, zI_neg, zI_eq, zI_lt, zI_le, Int.reduceLT, Int.reduceLE, Int.reduceAdd, Int.reduceSub, Int.reduceMul, Int.reduceNeg, Int.reduceEq, Int.reduceNe, reduceIte, jf_in, pFc_in, aGi, aGb, aSi, aLc_in, cKc_in, nA_in, jm_s1, jm_s2, jm_p1, jm_p2, jm_b, jn_b, jn_s, jn_p, jset_jset, jset_jpush2, ckR_is, ckr_is, rR_is, ckW_is, cR_is, obi2, ckW_int, eq_self, if_true, ref_null, if_false, ne_eq, not_true_eq_false, not_false_eq_true, decide_true, decide_false, decide_not, Bool.true_and, Bool.false_and, Bool.and_true, Bool.and_false, Bool.true_or, Bool.false_or, Bool.or_true, Bool.or_false, Bool.not_true, Bool.not_false, Bool.false_eq_true, bI_t, bI_f, Int.natCast_one, Int.cast_ofNat_Int, Int.natCast_zero, ju_self, ju_ne, n14, o14s_0, o14s_1, o14s_2, o14s_3, o14s_4, o14s_5, hm]
theorem than_eq {α : Type} {X : Int → Except Er α} : (if isThan g z l p = false then .error (erx g z l p 1) else X (nmv g z p)) = eb (thanP g z l p) X := by
  unfold thanP
  by_cases c : isThan g z l p = false
  · rw [if_pos c, if_pos c]; rfl
  · rw [if_neg c, if_neg c]; rfl
theorem rs_117 {i4 : Int32} {bb : Bool × Int × Int} (h : RdC (Bs a q bt (S 0)) H a 9 n tp q g z l x y p) (hM : SchM H a q bt (S 0) (S 0) ln S (nmS nm)) (f6 : S 3 < 6) (hb : bb.1 = true ∧ col = -1 ∧ v = bb.2.1 ∨ bb.1 = false ∧ col = bb.2.1 ∧ v = 0) (W' : HsW (chkW S (S 3) t cc sg bb (bZ (isW g z l p wLATE)))) :
    CR (.ok (chkW S (S 3) t cc sg bb (bZ (isW g z l p wLATE)), nm, may g z l p wLATE)) (G2 (d + 11) 9000 117 [.ref a, .int (zI t), .int (zI cc), .int (zI sg), .int i4, .int (zI v), jno] [.int (zI col)] H) H (fun u => a ≤ u) 6 50 (LnK a n tp q g z l x y ln) := by
  obtain ⟨ord, h1, h2, h3, h4, h5, h6, h7, W⟩ := id hM
  obtain ⟨b1, b2, b3, b4, b5, b6⟩ := W.1
  obtain ⟨f, mm, e9, f4, al⟩ := rdc9 h
  have oa := ord.1.1
  have ob := ord.1.2
  have nb : ¬ Bs a q bt (S 0) H.1 := fun hb => by have := h.2.2.1 _ hb; omega
  obtain ⟨H10, hH10⟩ : ∃ H10, H10 = jpush H (14, 6, o14 0 0 0 0 0 0) := ⟨_, rfl⟩
  have m10 : jm H10 H.1 = some (14, 6, o14 0 0 0 0 0 0) := by rw [hH10]; exact jm_p1
  have f10 : Fr H H10 (fun _ => False) := by rw [hH10]; exact Fr.push
  have n10 : H10.1 = H.1 + 1 ∧ H10.2.1 = H.2.1 + 6 := by rw [hH10]; exact ⟨rfl, rfl⟩
  have k10 : RdC (fun u => Bs a q bt (S 0) u ∨ u = H.1) H10 a 9 n tp q g z l x y _ := h.more f10 (fun _ _ e => e.elim) (fun e => e) (fun u hu => hu.elim Or.inl fun e => Or.inr (by omega)) fun u hu => Or.inl hu
  obtain ⟨w35, a35, H11, r11, f11, n11, n11', k11⟩ := rs_may (d := d + 8) k10 (k := 35) (by omega) (by omega) (nmE (by decide))
  rw [show pk (bsL 35) = wLATE by decide] at r11 k11
  have l10 := f11.1
  have m11 : jm H11 H.1 = some (14, 6, o14 0 0 0 0 0 0) := (f11.2.2 _ (by omega) (by omega)).trans m10
  obtain ⟨la, hla⟩ : ∃ la, la = bZ (isW g z l p wLATE) := ⟨_, rfl⟩
  rw [← hla] at r11 W' ⊢
  have la01 : la = 0 ∨ la = 1 := by rw [hla]; exact bZ_01 _
  have i1 := ck_14900 (d := d + 9) (t := t) (cc := cc) (sg := sg) (col := col) (v := v) m11 la01
  obtain ⟨H12, hH12⟩ : ∃ H12, H12 = jset H11 H.1 (14, 6, o14 t cc sg col v la) := ⟨_, rfl⟩
  rw [← hH12] at i1
  have m12 : jm H12 H.1 = some (14, 6, o14 t cc sg col v la) := by rw [hH12]; exact jm_s1
  have f12 : Fr H11 H12 (fun u => u = H.1) := by rw [hH12]; exact Fr.set rfl
  have n12 : H12.1 = H11.1 ∧ H12.2.1 = H11.2.1 := by rw [hH12]; exact ⟨rfl, rfl⟩
  have F912 : Fr H H12 (fun u => u = a) := ((f10.mono fun _ _ z => z.elim).tr f11).new (f12.mono fun u _ z => Or.inr (by omega))
  have L12 : LstM H12 (q + 4) (S 3) (fun k b => ChkF (Fz (Bs a q bt (S 0)) H) b k S) := h5.up (F912.2.2 _ (by omega) (by omega)) fun _ _ _ _ x => x
  obtain ⟨H13, i2, i3, i4', i5, i6⟩ := L12.add (by omega) m12 (by show (14 : Nat) < 1000; omega)
  have k12 := k11.fr f12 (fun u _ z => Or.inr z) (by omega)
  have k13 := (k12.fr i3 (fun u _ z => Or.inl (Or.inr (Or.inl (by omega)))) (by omega)).less (B := Bs a q bt (S 0)) (fun u hu => Or.inl hu) (Or.inl rfl)
  have F913 : Fr H H13 (fun u => u = a ∨ u = q + 4) := (F912.mono fun _ _ z => Or.inl z).tr (i3.mono fun _ _ z => Or.inr z)
  have i2' := i2 (d + 10)
  refine ⟨H13, ((f10.mono fun _ _ z => z.elim)).tr (((f11.mono fun u _ z => by omega).tr (f12.mono fun u _ z => by omega)).tr (i3.mono fun u _ z => by omega)), by omega, by omega, none, ?_, rfl, bt, ?_⟩
  · rw [F9000_117]
    simp (disch := first | assumption | omega | decide | exact okF_i | exact okF_r | exact okF_n | exact okF_j | rfl) only [jc_ref, rI_int, rR_ref, rR_null, rJ_long, ckR_ref, ckR_null, ckr_ref, ckr_null, ckW_int, ckW_ref, ckW_null, cI_ok, cR_ok, cR_null, cV_ok, cJ_ok, qH_eq, qD_in, aG_ref, aS_ref, aL_ref, pF_ref, cK_ref, cK_null, zI_lit, zJ_lit, zI_add, zI_sub, zI_mul, zI_neg, zI_eq, zI_lt, zI_le, Int.reduceLT, Int.reduceLE, Int.reduceAdd, Int.reduceSub, Int.reduceMul, Int.reduceNeg, Int.reduceEq, Int.reduceNe, reduceIte, jf_in, pFc_in, aGi, aGb, aSi, aLc_in, cKc_in, nA_in, jm_s1, jm_s2, jm_p1, jm_p2, jm_b, jn_b, jn_s, jn_p, jset_jset, jset_jpush2, ckR_is, ckr_is, rR_is, ckW_is, cR_is, obi2, ckW_int, eq_self, if_true, ref_null, if_false, ne_eq, not_true_eq_false, not_false_eq_true, decide_true, decide_false, decide_not, Bool.true_and, Bool.false_and, Bool.and_true, Bool.and_false, Bool.true_or, Bool.false_or, Bool.or_true, Bool.or_false, Bool.not_true, Bool.not_false, Bool.false_eq_true, bI_t, bI_f, Int.natCast_one, Int.cast_ofNat_Int, Int.natCast_zero, ju_self, ju_ne, o3_0, o3_1, o3_2, o3_3, o3_4, n14, o14s_0, o14s_1, o14s_2, o14s_3, o14s_4, o14s_5, mm, f4, h1, ← hH10, a35, r11, i1, i2']
  show RdC (Bs a q bt (chkW S (S 3) t cc sg bb la 0)) H13 a 9 n tp q g z l x y _ ∧ SchM H13 a q bt (chkW S (S 3) t cc sg bb la 0) (chkW S (S 3) t cc sg bb la 0) ln (chkW S (S 3) t cc sg bb la) (nmS nm)
  have ee : ∀ i, i ≠ 3 → (∀ j : Int, 0 ≤ j → j < 6 → i ≠ 112 + 6 * j + S 3) → chkW S (S 3) t cc sg bb la i = S i := fun i i0 ij => by
    have j0 := ij 0 (by omega) (by omega)
    have j1 := ij 1 (by omega) (by omega)
    have j2 := ij 2 (by omega) (by omega)
    have j3 := ij 3 (by omega) (by omega)
    have j4 := ij 4 (by omega) (by omega)
    have j5 := ij 5 (by omega) (by omega)
    unfold chkW
    split <;> simp (disch := omega) only [fset_ne]
  have e_3 : chkW S (S 3) t cc sg bb la 3 = S 3 + 1 := by unfold chkW; exact fset_eq
  have e_112 : chkW S (S 3) t cc sg bb la (112 + S 3) = t := by unfold chkW; simp (disch := omega) only [fset_ne, fset_eq]
  have e_118 : chkW S (S 3) t cc sg bb la (118 + S 3) = cc := by unfold chkW; simp (disch := omega) only [fset_ne, fset_eq]
  have e_124 : chkW S (S 3) t cc sg bb la (124 + S 3) = sg := by unfold chkW; split <;> simp (disch := omega) only [fset_ne, fset_eq]
  have e_142 : chkW S (S 3) t cc sg bb la (142 + S 3) = la := by unfold chkW; simp (disch := omega) only [fset_ne, fset_eq]
  have e_136 : chkW S (S 3) t cc sg bb la (136 + S 3) = col := by
    unfold chkW
    rcases hb with ⟨y1, y2, y3⟩ | ⟨y1, y2, y3⟩
    · rw [y1, if_pos rfl, y2]; simp (disch := omega) only [fset_ne, fset_eq]
    · rw [y1, if_neg (by decide), y2]; simp (disch := omega) only [fset_ne, fset_eq]
  have e_130 : chkW S (S 3) t cc sg bb la (130 + S 3) = v := by
    unfold chkW
    rcases hb with ⟨y1, y2, y3⟩ | ⟨y1, y2, y3⟩
    · rw [y1, if_pos rfl, y3]; simp (disch := omega) only [fset_ne, fset_eq]
    · rw [y1, if_neg (by decide), y3]; simp (disch := omega) only [fset_ne]
      exact h7.2 _ (Int.le_refl _) f6
  generalize chkW S (S 3) t cc sg bb la = S' at W' ee e_3 e_112 e_118 e_124 e_130 e_136 e_142 ⊢
  rw [ee 0 (by omega) (by omega)]
  have sb : Sub (Fz (Bs a q bt (S 0)) H) (Fz (Bs a q bt (S 0)) H13) := Fz_sub F913 fun u _ z => z.elim Or.inl fun z => Or.inr (Or.inl (by omega))
  have zb : Fz (Bs a q bt (S 0)) H13 H.1 = some (14, 6, o14 t cc sg col v la) := Fz_in (by have := f12.1; have := i3.1; omega) nb ((i3.2.2 _ (by omega) (by omega)).trans m12)
  refine ⟨k13, hM.up3 (P0 := fun u => u = a ∨ u = q + 4) F913 (fun u z => z.elim Or.inl fun z => Or.inr (by omega)) W' (fun i i0 i1 => ee i (by omega) (by omega)) ?_ ?_ ?_ (by omega) (by omega) fun k k0 k1 => by rw [e_3] at k0; rw [ee _ (by omega) (by omega)]; exact h7.2 k (by omega) k1⟩
  · rw [ee 1 (by omega) (by omega)]
    exact h3.up (F913.2.2 _ (by omega) (by omega)) fun k u k0 k1 z => z.cg sb (ee _ (by omega) (by omega)) (ee _ (by omega) (by omega)) (ee _ (by omega) (by omega))
  · rw [ee 2 (by omega) (by omega)]
    exact h4.up (F913.2.2 _ (by omega) (by omega)) fun k u k0 k1 z => z.cg sb fun j j0 j1 => ee _ (by omega) (by omega)
  · rw [e_3]
    refine i6 _ (fun k u k0 k1 z => z.cg sb (ee _ (by omega) (by omega)) (ee _ (by omega) (by omega)) (ee _ (by omega) (by omega)) (ee _ (by omega) (by omega)) (ee _ (by omega) (by omega)) (ee _ (by omega) (by omega))) ?_
    unfold ChkF
    rw [e_112, e_118, e_124, e_136, e_130, e_142]
    exact zb
end
