/-! a statement is done to a store, or refused as a whole -/
-- jc_ref, rI_int, rR_ref, rR_null, rJ_long, ckR_ref, ckR_null, ckr_ref, ckr_null, ckW_int, ckW_ref, ckW_null, cI_ok, cR_ok, cR_null, cV_ok, cJ_ok, qH_eq, qD_in, aG_ref, aS_ref, aL_ref, pF_ref, cK_ref, cK_null, zI_lit, zJ_lit, zI_add, zI_sub, zI_mul, zI_neg, zI_eq, zI_lt, zI_le, Int.reduceLT, Int.reduceLE, Int.reduceAdd, Int.reduceSub, Int.reduceMul, Int.reduceNeg, Int.reduceEq, Int.reduceNe, reduceIte, jf_in, pFc_in, aGi, aGb, aSi, aLc_in, cKc_in, nA_in, jm_s1, jm_s2, jm_p1, jm_p2, jm_b, jn_b, jn_s, jn_p, jset_jset, jset_jpush2, ckR_is, ckr_is, rR_is, ckW_is, cR_is, obi2, ckW_int, eq_self, if_true, ref_null, if_false, ne_eq, not_true_eq_false, not_false_eq_true, decide_true, decide_false, decide_not, Bool.true_and, Bool.false_and, Bool.and_true, Bool.and_false, Bool.true_or, Bool.false_or, Bool.or_true, Bool.or_false, Bool.not_true, Bool.not_false, Bool.false_eq_true, bI_t, bI_f, Int.natCast_one, Int.cast_ofNat_Int, Int.natCast_zero, o23_0, o23_1, o23_2, n23, o23s_0, o23s_1, o23s_2, o12_0, o12_1, o13_0, o13_1, o13_2, o13_3, o13_4, o13_5, o13_6, o14_0, o14_1, o14_2, o14_3, o14_4, o14_5, o3_0, o3_1, o3_2, o3_3, o3_4, o11_0, o11_1, o11_2, o11_3, o4_0, o4_1, o4_2, o4_3, o4_4, o4_5, o4_6, n4, o4s_0, o4s_1, o4s_2, o4s_3, o4s_4, o4s_5, o4s_6, o5_0, o5_1, o5_2, o5_3, o5_4, o5_5, n5, o5s_0, o5s_1, o5s_2, o5s_3, o5s_4, o5s_5, o17_0, o17_1, o22_0, o22_1, o22_2, o22_3, o22_4, o22_5, n22, o22s_0, o22s_1, o22s_2, o22s_3, o22s_4, o22s_5, o47_0, o47_1, o47_2, o47_3, n47, o47s_0, o47s_1, o47s_2, o47s_3, o24_0, o24_1, o24_2, o24_3 = jc_ref, rI_int, rR_ref, rR_null, rJ_long, ckR_ref, ckR_null, ckr_ref, ckr_null, ckW_int, ckW_ref, ckW_null, cI_ok, cR_ok, cR_null, cV_ok, cJ_ok, qH_eq, qD_in, aG_ref, aS_ref, aL_ref, pF_ref, cK_ref, cK_null, zI_lit, zJ_lit, zI_add, zI_sub, zI_mul, zI_neg, zI_eq, zI_lt, zI_le, Int.reduceLT, Int.reduceLE, Int.reduceAdd, Int.reduceSub, Int.reduceMul, Int.reduceNeg, Int.reduceEq, Int.reduceNe, reduceIte, jf_in, pFc_in, aGi, aGb, aSi, aLc_in, cKc_in, nA_in, jm_s1, jm_s2, jm_p1, jm_p2, jm_b, jn_b, jn_s, jn_p, jset_jset, jset_jpush2, ckR_is, ckr_is, rR_is, ckW_is, cR_is, obi2, ckW_int, eq_self, if_true, ref_null, if_false, ne_eq, not_true_eq_false, not_false_eq_true, decide_true, decide_false, decide_not, Bool.true_and, Bool.false_and, Bool.and_true, Bool.and_false, Bool.true_or, Bool.false_or, Bool.or_true, Bool.or_false, Bool.not_true, Bool.not_false, Bool.false_eq_true, bI_t, bI_f, Int.natCast_one, Int.cast_ofNat_Int, Int.natCast_zero, o23_0, o23_1, o23_2, n23, o23s_0, o23s_1, o23s_2, o12_0, o12_1, o13_0, o13_1, o13_2, o13_3, o13_4, o13_5, o13_6, o14_0, o14_1, o14_2, o14_3, o14_4, o14_5, o3_0, o3_1, o3_2, o3_3, o3_4, o11_0, o11_1, o11_2, o11_3, o4_0, o4_1, o4_2, o4_3, o4_4, o4_5, o4_6, n4, o4s_0, o4s_1, o4s_2, o4s_3, o4s_4, o4s_5, o4s_6, o5_0, o5_1, o5_2, o5_3, o5_4, o5_5, n5, o5s_0, o5s_1, o5s_2, o5s_3, o5s_4, o5s_5, o17_0, o17_1, o22_0, o22_1, o22_2, o22_3, o22_4, o22_5, n22, o22s_0, o22s_1, o22s_2, o22s_3, o22s_4, o22s_5, o47_0, o47_1, o47_2, o47_3, n47, o47s_0, o47s_1, o47s_2, o47s_3, o24_0, o24_1, o24_2, o24_3
/-- how a statement went, as the component tells it: the twin's numbers (why, X) -/
def DoO (B : Nat → Prop) (T : Nat → Int → Int) (to : Int) (H H2 : AH) (a p q : Nat) (l2 : List Value) (wl wm : Nat) (bs : Nat → Bool) (why : Int) (X : Nat → Int → Int) : Prop :=
  ∃ (ll : Nat) (tou : Int) (S2 : Int → Int) (V : List Vi) (wl2 : Nat) (g : Nat → Bool) (w : WS) (D : Int → Int) (l1 l3 : List Value) (ra : Int → Nat),
    Fr H H2 (fun z => StP a z ∨ PlP p z) ∧
    VdH H2 H.1 why (X 0 31) (X 0 32) (if why = 5 then 0 else X 0 33) tou ll ∧ (why = 0 → tou = X 0 32 + X 0 33 + (if T 5 to = 0 then 1 else 0)) ∧
    VLat S2 H2 H.1 ll V ∧ VioT X V ∧
    PH H2 p a wl2 g w D ∧ GS g D ∧ (∀ r, 0 ≤ r → r < 99 → D r = X 13 r) ∧
    SH H2 a (.ref q) (X 2 148) (X 2 149) l1 l2 l3 wm bs ∧ RowsF (Fz B H2) l1 (X 2) 150 348 ra ∧ l3.length ≤ 40 ∧
    H2.1 + (2 - wl2) ≤ H.1 + 97 + 2 * V.length + (2 - wl) ∧ H2.2.1 + 2 * (2 - wl2) ≤ H.2.1 + 470 + 9 * V.length + 2 * (2 - wl)
section
variable {B : Nat → Prop} {T : Nat → Int → Int} {d : Nat} {H H3 : AH} {a b p q vb wm ll : Nat} {to : Int} {nm : Int → Int} {ra rb : Int → Nat} {wl wl2 : Nat} {g bs : Nat → Bool} {w : WS} {D : Int → Int} {l1 l2 l3 lr : List Value} {f0 g0 c0 t0 x8 why0 mo cl : Int} {X Y : Nat → Int → Int}
theorem SH.sq (hSH : SH H a (.ref q) f0 g0 l1 l2 l3 wm bs) {S : Int → Int} {F : Nat → Option Cl} (hRo : RowsF F l1 S 150 348 ra) : StoQ F H a q S ra := by
  obtain ⟨h0, ⟨m1, h1⟩, -, -, -, h5, -⟩ := hSH
  exact ⟨f0, g0, a + 1, _, _, _, 40, m1, l1, h0, h1, by omega, hRo, by omega, by omega⟩
/-- from the laying on: it is judged, and brought back -/
theorem do_59 {S : Int → Int} {vp : Value} (hvp : isR vp = true) (W : StW S) (hS : SchF (Fz B H3) q S nm) (hSH : SH H3 a (.ref q) (S 148) (S 149) lr l2 l1 wm bs) (hRo : RowsF (Fz B H3) lr S 150 348 rb) (hl1 : RwL H3 l1) (hv : VdH H3 vb 0 f0 g0 c0 t0 ll) (hva : ¬ StP a vb) :
    ∃ (H4 : AH), G2 (d + 14) 16000 59 [.ref b, .ref a, vp, .ref vb, .int (zI x8)] [.int (zI (bZ (decide (S 149 = 0)))), .ref a, .ref vb] H3 = some (.inl (some (.ref vb)), H4) ∧ VLat S H4 H3.1 H3.1 (violS S (decide (S 149 = 0))) ∧ Fr H3 H4 (fun z => z = vb ∨ z = a ∨ z = a + 1) ∧ H4.1 ≤ H3.1 + 8 + 2 * (violS S (decide (S 149 = 0))).length ∧ H4.2.1 ≤ H3.2.1 + 37 + 9 * (violS S (decide (S 149 = 0))).length ∧
      (violS S (decide (S 149 = 0)) = [] → VdH H4 vb 0 f0 g0 c0 t0 H3.1 ∧ SH H4 a (.ref q) (S 148) (S 149) lr l2 l1 wm bs) ∧
      ∀ x V, violS S (decide (S 149 = 0)) = x :: V → VdH H4 vb x.1 f0 g0 c0 t0 H3.1 ∧ SH H4 a (.ref q) x8 (S 149) l1 l2 l1 wm bs := by
  obtain ⟨H4, v1, v2, v3, v4, v5⟩ := c_viol (d := d) W Fz_F hS (hSH.sq hRo) (late := decide (S 149 = 0))
  have vlt := hv.2
  have hv4 := (hv.fr v3 id).1
  have hS4 := hSH.fr v3 fun _ _ z => z
  have hl4 := hl1.fr v3 fun _ _ _ z => z
  have s9 := hSH.2.2.2.2.2.1
  obtain ⟨H5, hH5⟩ : ∃ H5, H5 = jset H4 vb (22, 6, o22 0 f0 g0 c0 t0 (.ref H3.1)) := ⟨_, rfl⟩
  have f5 : Fr H4 H5 (fun z => z = vb) := by rw [hH5]; exact Fr.set rfl
  have hv5 : jm H5 vb = some (22, 6, o22 0 f0 g0 c0 t0 (.ref H3.1)) := by rw [hH5]; exact jm_s1
  have L5 := v2.fr f5 fun z hz => by omega
  have hS5 := hS4.fr f5 fun z hz h2 => hva (h2 ▸ hz)
  have hl5 := hl4.fr f5 fun z c hm hz => by rw [hz, hv4] at hm; cases hm
  have H51 : H5.1 = H4.1 := by rw [hH5]; rfl
  have H52 : H5.2.1 = H4.2.1 := by rw [hH5]; rfl
  obtain ⟨ns, vs, k1, ⟨k2, k3⟩, k4, k5, k6⟩ := id L5
  obtain ⟨⟨mc, km⟩, -⟩ := id k1
  have em := ll_empty (d := d + 12) k1
  have mv : MvH (d + 14) 9131 [.ref H3.1] H5 = M2 (d + 14) 41000 [.ref H3.1] H5 := by simp only [MvH, km]; rfl
  generalize violS S (decide (S 149 = 0)) = V at *
  cases V with
  | nil =>
    have : vs = [] := List.length_eq_zero_iff.mp k5
    subst this
    refine ⟨H5, ?_, L5, (v3.mono fun _ _ z => z.elim).tr (f5.mono fun _ _ z => Or.inl z), by omega, by omega, fun _ => ⟨⟨hv5, by omega⟩, hS5⟩, fun x V h => by cases h⟩
    rw [F16000_59]
    simp (disch := first | assumption | omega | decide | exact okF_i | exact okF_r | exact okF_n | exact okF_j | rfl) only [jc_ref, rI_int, rR_ref, rR_null, rJ_long, ckR_ref, ckR_null, ckr_ref, ckr_null, ckW_int, ckW_ref, ckW_null, cI_ok, cR_ok, cR_null, cV_ok, cJ_ok, qH_eq, qD_in, aG_ref, aS_ref, aL_ref, pF_ref, cK_ref, cK_null, zI_lit, zJ_lit, zI_add, zI_sub, zI_mul, zI_neg, zI_eq, zI_lt, zI_le, Int.reduceLT, Int.reduceLE, Int.reduceAdd, Int.reduceSub, Int.reduceMul, Int.reduceNeg, Int.reduceEq, Int.reduceNe, reduceIte, jf_in, pFc_in, aGi, aGb, aSi, aLc_in, cKc_in, nA_in, jm_s1, jm_s2, jm_p1, jm_p2, jm_b, jn_b, jn_s, jn_p, jset_jset, jset_jpush2, ckR_is, ckr_is, rR_is, ckW_is, cR_is, obi2, ckW_int, eq_self, if_true, ref_null, if_false, ne_eq, not_true_eq_false, not_false_eq_true, decide_true, decide_false, decide_not, Bool.true_and, Bool.false_and, Bool.and_true, Bool.and_false, Bool.true_or, Bool.false_or, Bool.or_true, Bool.or_false, Bool.not_true, Bool.not_false, Bool.false_eq_true, bI_t, bI_f, Int.natCast_one, Int.cast_ofNat_Int, Int.natCast_zero, o23_0, o23_1, o23_2, n23, o23s_0, o23s_1, o23s_2, o12_0, o12_1, o13_0, o13_1, o13_2, o13_3, o13_4, o13_5, o13_6, o14_0, o14_1, o14_2, o14_3, o14_4, o14_5, o3_0, o3_1, o3_2, o3_3, o3_4, o11_0, o11_1, o11_2, o11_3, o4_0, o4_1, o4_2, o4_3, o4_4, o4_5, o4_6, n4, o4s_0, o4s_1, o4s_2, o4s_3, o4s_4, o4s_5, o4s_6, o5_0, o5_1, o5_2, o5_3, o5_4, o5_5, n5, o5s_0, o5s_1, o5s_2, o5s_3, o5s_4, o5s_5, o17_0, o17_1, o22_0, o22_1, o22_2, o22_3, o22_4, o22_5, n22, o22s_0, o22s_1, o22s_2, o22s_3, o22s_4, o22s_5, o47_0, o47_1, o47_2, o47_3, n47, o47s_0, o47s_1, o47s_2, o47s_3, o24_0, o24_1, o24_2, o24_3, v1, hv4, ← hH5, hv5, mv, em, List.isEmpty_nil]
  | cons x V =>
    cases vs with
    | nil => simp at k5
    | cons y vs =>
      obtain ⟨yb, y1, y2, y3, y4⟩ := k6 0 x rfl
      have y1 : y = .ref yb := Option.some.inj y1
      subst y1
      have fi := ll_first (d := d + 13) k1
      obtain ⟨H6, hH6⟩ : ∃ H6, H6 = jset H5 vb (22, 6, o22 x.1 f0 g0 c0 t0 (.ref H3.1)) := ⟨_, rfl⟩
      have f6 : Fr H5 H6 (fun z => z = vb) := by rw [hH6]; exact Fr.set rfl
      have hS6 := hS5.fr f6 fun z hz h2 => hva (h2 ▸ hz)
      have hl6 := hl5.fr f6 fun z c hm hz => by rw [hz, hv5] at hm; cases hm
      have L6 := L5.fr f6 fun z hz => by omega
      have H61 : H6.1 = H5.1 := by rw [hH6]; rfl
      have H62 : H6.2.1 = H5.2.1 := by rw [hH6]; rfl
      obtain ⟨u0, ⟨n1, u1⟩, u2, ⟨n3, u3⟩, u4, u5, u6⟩ := id hS6
      obtain ⟨mc2, cp⟩ := c_copy (d := d + 12) (f := a + 5) (t := a + 1) u3 (by omega) (by omega) hl6 u1
      obtain ⟨H7, hH7⟩ : ∃ H7, H7 = jset H6 (a + 1) (cAL 40 mc2 l1) := ⟨_, rfl⟩
      rw [← hH7] at cp
      have f7 : Fr H6 H7 (fun z => z = a + 1) := by rw [hH7]; exact Fr.set rfl
      have hS7 : SH H7 a (.ref q) (S 148) (S 149) l1 l2 l1 wm bs := by rw [hH7]; exact hS6.sl1
      have H71 : H7.1 = H6.1 := by rw [hH7]; rfl
      have H72 : H7.2.1 = H6.2.1 := by rw [hH7]; rfl
      obtain ⟨w0, w1, w2, w3, w4, w5, w6⟩ := id hS7
      obtain ⟨H8, hH8⟩ : ∃ H8, H8 = jset H7 a (4, 7, o4 (.ref q) x8 (S 149) (.ref (a + 1)) (.ref (a + 3)) (.ref (a + 5)) (.ref (a + 7))) := ⟨_, rfl⟩
      have f8 : Fr H7 H8 (fun z => z = a) := by rw [hH8]; exact Fr.set rfl
      have H81 : H8.1 = H7.1 := by rw [hH8]; rfl
      have H82 : H8.2.1 = H7.2.1 := by rw [hH8]; rfl
      have va : vb ≠ a := by rintro rfl; exact hva (by unfold StP; omega)
      have va1 : vb ≠ a + 1 := by rintro rfl; exact hva (by unfold StP; omega)
      have hS8 : SH H8 a (.ref q) x8 (S 149) l1 l2 l1 wm bs := by
        obtain ⟨z1, w1⟩ := w1
        obtain ⟨z2, w2⟩ := w2
        obtain ⟨z3, w3⟩ := w3
        rw [hH8]
        exact ⟨jm_s1, ⟨z1, (jm_s2 (show a + 1 ≠ a by omega)).trans w1⟩, ⟨z2, (jm_s2 (show a + 3 ≠ a by omega)).trans w2⟩, ⟨z3, (jm_s2 (show a + 5 ≠ a by omega)).trans w3⟩, (jm_s2 (show a + 7 ≠ a by omega)).trans w4, w5, w6⟩
      have hv6 : jm H6 vb = some (22, 6, o22 x.1 f0 g0 c0 t0 (.ref H3.1)) := by rw [hH6]; exact jm_s1
      have hv8 : VdH H8 vb x.1 f0 g0 c0 t0 H3.1 := ⟨(f8.2.2 vb (by omega) va).trans ((f7.2.2 vb (by omega) va1).trans hv6), by omega⟩
      refine ⟨H8, ?_, (L6.fr f7 fun z hz => by omega).fr f8 fun z hz => by omega, (v3.mono fun _ _ z => z.elim).tr ((f5.mono fun _ _ z => Or.inl z).tr ((f6.mono fun _ _ z => Or.inl z).tr ((f7.mono fun _ _ z => Or.inr (Or.inr z)).tr (f8.mono fun _ _ z => Or.inr (Or.inl z))))), by omega, by omega, fun h => (by cases h), fun x' V' h => ?_⟩
      · rw [F16000_59]
        simp (disch := first | assumption | omega | decide | exact okF_i | exact okF_r | exact okF_n | exact okF_j | rfl) only [jc_ref, rI_int, rR_ref, rR_null, rJ_long, ckR_ref, ckR_null, ckr_ref, ckr_null, ckW_int, ckW_ref, ckW_null, cI_ok, cR_ok, cR_null, cV_ok, cJ_ok, qH_eq, qD_in, aG_ref, aS_ref, aL_ref, pF_ref, cK_ref, cK_null, zI_lit, zJ_lit, zI_add, zI_sub, zI_mul, zI_neg, zI_eq, zI_lt, zI_le, Int.reduceLT, Int.reduceLE, Int.reduceAdd, Int.reduceSub, Int.reduceMul, Int.reduceNeg, Int.reduceEq, Int.reduceNe, reduceIte, jf_in, pFc_in, aGi, aGb, aSi, aLc_in, cKc_in, nA_in, jm_s1, jm_s2, jm_p1, jm_p2, jm_b, jn_b, jn_s, jn_p, jset_jset, jset_jpush2, ckR_is, ckr_is, rR_is, ckW_is, cR_is, obi2, ckW_int, eq_self, if_true, ref_null, if_false, ne_eq, not_true_eq_false, not_false_eq_true, decide_true, decide_false, decide_not, Bool.true_and, Bool.false_and, Bool.and_true, Bool.and_false, Bool.true_or, Bool.false_or, Bool.or_true, Bool.or_false, Bool.not_true, Bool.not_false, Bool.false_eq_true, bI_t, bI_f, Int.natCast_one, Int.cast_ofNat_Int, Int.natCast_zero, o23_0, o23_1, o23_2, n23, o23s_0, o23s_1, o23s_2, o12_0, o12_1, o13_0, o13_1, o13_2, o13_3, o13_4, o13_5, o13_6, o14_0, o14_1, o14_2, o14_3, o14_4, o14_5, o3_0, o3_1, o3_2, o3_3, o3_4, o11_0, o11_1, o11_2, o11_3, o4_0, o4_1, o4_2, o4_3, o4_4, o4_5, o4_6, n4, o4s_0, o4s_1, o4s_2, o4s_3, o4s_4, o4s_5, o4s_6, o5_0, o5_1, o5_2, o5_3, o5_4, o5_5, n5, o5s_0, o5s_1, o5s_2, o5s_3, o5s_4, o5s_5, o17_0, o17_1, o22_0, o22_1, o22_2, o22_3, o22_4, o22_5, n22, o22s_0, o22s_1, o22s_2, o22s_3, o22s_4, o22s_5, o47_0, o47_1, o47_2, o47_3, n47, o47s_0, o47s_1, o47s_2, o47s_3, o24_0, o24_1, o24_2, o24_3, v1, hv4, ← hH5, hv5, mv, em, List.isEmpty_cons, fi, y4, ← hH6, u0, cp, w0, ← hH8]
      · cases h; exact ⟨hv8, hS8⟩
end
