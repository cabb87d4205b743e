/-! a reader of schemas, made; a schema, read -/
-- jc_ref, rI_int, rR_ref, rR_null, rJ_long, ckR_ref, ckR_null, ckr_ref, ckr_null, ckW_int, ckW_ref, ckW_null, cI_ok, cR_ok, cR_null, cV_ok, cJ_ok, qH_eq, qD_in, aG_ref, aS_ref, aL_ref, pF_ref, cK_ref, cK_null, zI_lit, zJ_lit, zI_add, zI_sub, zI_mul, zI_neg, zI_eq, zI_lt, zI_le, Int.reduceLT, Int.reduceLE, Int.reduceAdd, Int.reduceSub, Int.reduceMul, Int.reduceNeg, Int.reduceEq, Int.reduceNe, reduceIte, jf_in, pFc_in, aGi, aGb, aSi, aLc_in, cKc_in, nA_in, jm_s1, jm_s2, jm_p1, jm_p2, jm_b, jn_b, jn_s, jn_p, jset_jset, jset_jpush2, ckR_is, ckr_is, rR_is, ckW_is, cR_is, obi2, ckW_int, eq_self, if_true, ref_null, if_false, ne_eq, not_true_eq_false, not_false_eq_true, decide_true, decide_false, decide_not, Bool.true_and, Bool.false_and, Bool.and_true, Bool.and_false, Bool.true_or, Bool.false_or, Bool.or_true, Bool.or_false, Bool.not_true, Bool.not_false, Bool.false_eq_true, bI_t, bI_f, Int.natCast_one, Int.cast_ofNat_Int, Int.natCast_zero, ju_self, ju_ne = jc_ref, rI_int, rR_ref, rR_null, rJ_long, ckR_ref, ckR_null, ckr_ref, ckr_null, ckW_int, ckW_ref, ckW_null, cI_ok, cR_ok, cR_null, cV_ok, cJ_ok, qH_eq, qD_in, aG_ref, aS_ref, aL_ref, pF_ref, cK_ref, cK_null, zI_lit, zJ_lit, zI_add, zI_sub, zI_mul, zI_neg, zI_eq, zI_lt, zI_le, Int.reduceLT, Int.reduceLE, Int.reduceAdd, Int.reduceSub, Int.reduceMul, Int.reduceNeg, Int.reduceEq, Int.reduceNe, reduceIte, jf_in, pFc_in, aGi, aGb, aSi, aLc_in, cKc_in, nA_in, jm_s1, jm_s2, jm_p1, jm_p2, jm_b, jn_b, jn_s, jn_p, jset_jset, jset_jpush2, ckR_is, ckr_is, rR_is, ckW_is, cR_is, obi2, ckW_int, eq_self, if_true, ref_null, if_false, ne_eq, not_true_eq_false, not_false_eq_true, decide_true, decide_false, decide_not, Bool.true_and, Bool.false_and, Bool.and_true, Bool.and_false, Bool.true_or, Bool.false_or, Bool.or_true, Bool.or_false, Bool.not_true, Bool.not_false, Bool.false_eq_true, bI_t, bI_f, Int.natCast_one, Int.cast_ofNat_Int, Int.natCast_zero, ju_self, ju_ne
section
variable {d : Nat} {H H2 : AH} {a b q n t tp sc : Nat} {z l : Int} {f : Nat → Value} {c : Cl} {g hx nm : Int → Int} {B : Nat → Prop} {x y : Value} {bt : Int → Nat}
theorem lst_nil {u : Nat} {P : Int → Nat → Prop} (h : jm H u = some (cAL 0 0 [])) : LstM H u 0 P := ⟨0, 0, [], h, Or.inl ⟨rfl, rfl⟩, rfl, fun k k0 k1 => by omega⟩
theorem rs_make (K : RdK (Fz B H) (je H) tp g z 900) : ∃ H2, M2 (d + 3) 9900 [.ref H.1, .ref tp, .int (zI z)] (jpush H (9, 10, o9 .null 0 0 0 .null 0 0 0 0 .null)) = some (.inl none, H2) ∧ Fr H H2 (fun _ => False) ∧ H2.1 = H.1 + 6 ∧ H2.2.1 = H.2.1 + 27 ∧ RdN (Bs H.1 (H.1 + 1) (fun _ => 0) 0) H2 H.1 9 10 tp (H.1 + 1) g z 900 .null .null ∧ SchM H2 H.1 (H.1 + 1) (fun _ => 0) 0 0 0 (bl 0 148 hs0 hx) nm := by
  obtain ⟨H1, hH1⟩ : ∃ H1, H1 = jpush H (9, 10, o9 .null 0 0 0 .null 0 0 0 0 .null) := ⟨_, rfl⟩
  have m1 : jm H1 H.1 = some (9, 10, o9 .null 0 0 0 .null 0 0 0 0 .null) := by rw [hH1]; exact jm_p1
  have f1 : Fr H H1 (fun _ => False) := by rw [hH1]; exact Fr.push
  have n1 : H1.1 = H.1 + 1 ∧ H1.2.1 = H.2.1 + 10 := by rw [hH1]; exact ⟨rfl, rfl⟩
  obtain ⟨H2, hH2⟩ : ∃ H2, H2 = jpush H1 (3, 5, o3 0 .null .null .null .null) := ⟨_, rfl⟩
  have m2 : jm H2 H1.1 = some (3, 5, o3 0 .null .null .null .null) := by rw [hH2]; exact jm_p1
  have f2 : Fr H1 H2 (fun _ => False) := by rw [hH2]; exact Fr.push
  have n2 : H2.1 = H1.1 + 1 ∧ H2.2.1 = H1.2.1 + 5 := by rw [hH2]; exact ⟨rfl, rfl⟩
  obtain ⟨H3, i1, i2, i3, i4, i5, i6, i7, i8, i9⟩ := ck_3900 (d := d) m2 (by omega)
  rw [n1.1] at i1 i5 i6 i7 i8 i9
  have F3 : Fr H H3 (fun _ => False) := (f1.tr f2).new (i2.mono fun u _ z => Or.inr (by omega))
  have m3 : jm H3 H.1 = some (9, 10, o9 .null 0 0 0 .null 0 0 0 0 .null) := (i2.2.2 _ (by omega) (by omega)).trans ((f2.2.2 _ (by omega) fun z => z).trans m1)
  have nb : ∀ u, u < H.1 → ¬ Bs H.1 (H.1 + 1) (fun _ => 0) 0 u := fun u hu hb => by
    rcases hb with z | z | ⟨t, t0, t1, -⟩
    · omega
    · omega
    · omega
  have sub : ∀ HX, Fr H HX (fun _ => False) → Sub (Fz B H) (Fz (Bs H.1 (H.1 + 1) (fun _ => 0) 0) HX) := fun HX fx u c hu => by
    obtain ⟨lt, -⟩ := Fz_lt hu
    exact Fz_in (Nat.lt_of_lt_of_le lt fx.1) (nb u lt) ((fx.2.2 u lt fun z => z).trans (Fz_F.m hu))
  have K3 := K.sub (sub H3 F3)
  have hE : EnvS (Fz (Bs H.1 (H.1 + 1) (fun _ => 0) 0) H3) (je H3) := by rw [F3.2.1]; exact K3.2.2.2.2
  obtain ⟨f', j1, j2, j3, j4, j5, j6⟩ := c_reader (d := d) (z := z) (l := 900) (tp := tp) (sc := H.1 + 1) m3 (Or.inl rfl) rfl ⟨_, rfl⟩ hE
  obtain ⟨H4, hH4⟩ : ∃ H4, H4 = jset H3 H.1 (9, 10, f') := ⟨_, rfl⟩
  rw [← hH4] at j1 j2
  have f4 : Fr H3 H4 (fun u => u = H.1) := by rw [hH4]; exact Fr.set rfl
  have n4 : H4.1 = H3.1 ∧ H4.2.1 = H3.2.1 := by rw [hH4]; exact ⟨rfl, rfl⟩
  have F4 : Fr H H4 (fun _ => False) := F3.new (f4.mono fun u _ z => Or.inr (by omega))
  have e0 : ∀ i, 0 ≤ i → i < 148 → bl 0 148 hs0 hx i = hs0 i := fun i i0 i1 => by unfold bl; rw [if_pos ⟨i0, i1⟩]
  have z0 : ∀ i, 0 ≤ i → i < 8 → bl 0 148 hs0 hx i = 0 := fun i i0 i1 => by rw [e0 i i0 (by omega)]; unfold hs0; rw [if_neg (by omega)]
  have z24 : ∀ i, 24 ≤ i → i < 148 → bl 0 148 hs0 hx i = 0 := fun i i0 i1 => by rw [e0 i (by omega) i1]; unfold hs0; rw [if_neg (by omega)]
  have z8 : ∀ i, 8 ≤ i → i < 24 → bl 0 148 hs0 hx i = -1 := fun i i0 i1 => by rw [e0 i (by omega) (by omega)]; unfold hs0; rw [if_pos (by omega)]
  refine ⟨H4, ?_, F4, by omega, by omega, ⟨by rw [F4.2.1]; exact K.sub (sub H4 F4), Or.inl rfl, fun u hu => ?_, f', j2, j3, j4, j5, j6⟩, ⟨⟨by omega, by omega⟩, fun t t0 t1 => by omega, fun t t' t0 t1 t2 => by omega⟩, (f4.2.2 _ (by omega) (by omega)).trans i5, ?_, ?_, ?_, ?_, fun t t0 t1 => by omega, ⟨fun t t0 t1 c c0 c1 => ⟨z8 _ (by omega) (by omega), z24 _ (by omega) (by omega)⟩, fun k k0 k1 => ?_⟩, HsW_bl⟩
  · have rv : (jtRecv 9900).elem 9 = true := rfl
    rw [← hH1, Y9900 H1 rfl (jrecv_in m1 rv), F9900_0]
    have e1 : H1.1 = H.1 + 1 := n1.1
    simp (disch := first | assumption | omega | decide | exact okF_i | exact okF_r | exact okF_n | exact okF_j | rfl) only [jc_ref, rI_int, rR_ref, rR_null, rJ_long, ckR_ref, ckR_null, ckr_ref, ckr_null, ckW_int, ckW_ref, ckW_null, cI_ok, cR_ok, cR_null, cV_ok, cJ_ok, qH_eq, qD_in, aG_ref, aS_ref, aL_ref, pF_ref, cK_ref, cK_null, zI_lit, zJ_lit, zI_add, zI_sub, zI_mul, zI_neg, zI_eq, zI_lt, zI_le, Int.reduceLT, Int.reduceLE, Int.reduceAdd, Int.reduceSub, Int.reduceMul, Int.reduceNeg, Int.reduceEq, Int.reduceNe, reduceIte, jf_in, pFc_in, aGi, aGb, aSi, aLc_in, cKc_in, nA_in, jm_s1, jm_s2, jm_p1, jm_p2, jm_b, jn_b, jn_s, jn_p, jset_jset, jset_jpush2, ckR_is, ckr_is, rR_is, ckW_is, cR_is, obi2, ckW_int, eq_self, if_true, ref_null, if_false, ne_eq, not_true_eq_false, not_false_eq_true, decide_true, decide_false, decide_not, Bool.true_and, Bool.false_and, Bool.and_true, Bool.and_false, Bool.true_or, Bool.false_or, Bool.or_true, Bool.or_false, Bool.not_true, Bool.not_false, Bool.false_eq_true, bI_t, bI_f, Int.natCast_one, Int.cast_ofNat_Int, Int.natCast_zero, ju_self, ju_ne, n3, o3s_0, o3s_1, o3s_2, o3s_3, o3s_4, ← hH2, e1, i1, j1]
  · rcases hu with z | z | ⟨t, t0, t1, -⟩
    · omega
    · omega
    · omega
  · exact lst_nil ((f4.2.2 _ (by omega) (by omega)).trans i6)
  · rw [z0 1 (by omega) (by omega)]; exact lst_nil ((f4.2.2 _ (by omega) (by omega)).trans i7)
  · rw [z0 2 (by omega) (by omega)]; exact lst_nil ((f4.2.2 _ (by omega) (by omega)).trans i8)
  · rw [z0 3 (by omega) (by omega)]; exact lst_nil ((f4.2.2 _ (by omega) (by omega)).trans i9)
  · rw [z0 3 (by omega) (by omega)] at k0
    exact z24 _ (by omega) (by omega)
set_option maxRecDepth 8000 in
/-- a schema is read -/
theorem rs_read (h : RdN (Bs a q bt 0) H a 9 n tp q g z 900 x y) (hM : SchM H a q bt 0 0 0 (bl 0 148 hs0 hx) (nmS nm)) : CR (schR g z hx nm) (M2 (d + 15) 9010 [.ref a] H) H (fun u => a ≤ u) (110 * z.toNat + 230) (550 * z.toNat + 1200) (RsK a n tp q g z 900 x y) := by
  obtain ⟨f, m0⟩ : ∃ f, jm H a = some (9, n, f) := by obtain ⟨-, -, -, f, h1, -⟩ := h; exact ⟨f, h1.1⟩
  have rv : (jtRecv 9010).elem 9 = true := rfl
  obtain ⟨H1, a1, a2, a3, a4, h1⟩ := rn_go (d := d + 12) h
  have mg : MvH (d + 14) 9120 [.ref a] H = M2 (d + 14) 8004 [.ref a] H := by simp only [MvH, m0]; rfl
  have mg' := mg.trans a1
  have z0 : bl 0 148 hs0 hx 0 = 0 := by unfold bl; rw [if_pos (by omega)]; rfl
  have M1 := hM.fr a2
  have L := rs_lines (d := d) (z.toNat + 2) (bl 0 148 hs0 hx) nm 0 0 H1 bt (by rw [z0]; exact h1) (by rw [z0]; exact M1) (by omega)
  rw [Y9010 H (jrecv_in m0 rv), F9010_0, mg', cV_ok]
  unfold schR
  rw [show z - 0 = z by omega] at L
  exact CR.wk (CR.stp (c := 4) (s := 31) a2 (P := fun u => a ≤ u) (fun u z => by omega) (by omega) (by omega) L) (fun _ z => z) (by omega) (by omega)
end
