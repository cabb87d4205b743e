/-! a plan is done to a store's rows: who goes is taken out, who changes is put anew -/
-- jc_ref, rI_int, rR_ref, rR_null, rJ_long, ckR_ref, ckR_null, ckr_ref, ckr_null, ckW_int, ckW_ref, ckW_null, cI_ok, cR_ok, cR_null, cV_ok, cJ_ok, qH_eq, qD_in, aG_ref, aS_ref, aL_ref, pF_ref, cK_ref, cK_null, zI_lit, zJ_lit, zI_add, zI_sub, zI_mul, zI_neg, zI_eq, zI_lt, zI_le, Int.reduceLT, Int.reduceLE, Int.reduceAdd, Int.reduceSub, Int.reduceMul, Int.reduceNeg, Int.reduceEq, Int.reduceNe, reduceIte, jf_in, pFc_in, aGi, aGb, aSi, aLc_in, cKc_in, nA_in, jm_s1, jm_s2, jm_p1, jm_p2, jm_b, jn_b, jn_s, jn_p, jset_jset, jset_jpush2, ckR_is, ckr_is, rR_is, ckW_is, cR_is, obi2, ckW_int, eq_self, if_true, ref_null, if_false, ne_eq, not_true_eq_false, not_false_eq_true, decide_true, decide_false, decide_not, Bool.true_and, Bool.false_and, Bool.and_true, Bool.and_false, Bool.true_or, Bool.false_or, Bool.or_true, Bool.or_false, Bool.not_true, Bool.not_false, Bool.false_eq_true, bI_t, bI_f, Int.natCast_one, Int.cast_ofNat_Int, Int.natCast_zero, o23_0, o23_1, o23_2, n23, o23s_0, o23s_1, o23s_2, o12_0, o12_1, o13_0, o13_1, o13_2, o13_3, o13_4, o13_5, o13_6, o14_0, o14_1, o14_2, o14_3, o14_4, o14_5, o3_0, o3_1, o3_2, o3_3, o3_4, o11_0, o11_1, o11_2, o11_3, o4_0, o4_1, o4_2, o4_3, o4_4, o4_5, o4_6, o5_0, o5_1, o5_2, o5_3, o5_4, o5_5, n5, o5s_0, o5s_1, o5s_2, o5s_3, o5s_4, o5s_5 = jc_ref, rI_int, rR_ref, rR_null, rJ_long, ckR_ref, ckR_null, ckr_ref, ckr_null, ckW_int, ckW_ref, ckW_null, cI_ok, cR_ok, cR_null, cV_ok, cJ_ok, qH_eq, qD_in, aG_ref, aS_ref, aL_ref, pF_ref, cK_ref, cK_null, zI_lit, zJ_lit, zI_add, zI_sub, zI_mul, zI_neg, zI_eq, zI_lt, zI_le, Int.reduceLT, Int.reduceLE, Int.reduceAdd, Int.reduceSub, Int.reduceMul, Int.reduceNeg, Int.reduceEq, Int.reduceNe, reduceIte, jf_in, pFc_in, aGi, aGb, aSi, aLc_in, cKc_in, nA_in, jm_s1, jm_s2, jm_p1, jm_p2, jm_b, jn_b, jn_s, jn_p, jset_jset, jset_jpush2, ckR_is, ckr_is, rR_is, ckW_is, cR_is, obi2, ckW_int, eq_self, if_true, ref_null, if_false, ne_eq, not_true_eq_false, not_false_eq_true, decide_true, decide_false, decide_not, Bool.true_and, Bool.false_and, Bool.and_true, Bool.and_false, Bool.true_or, Bool.false_or, Bool.or_true, Bool.or_false, Bool.not_true, Bool.not_false, Bool.false_eq_true, bI_t, bI_f, Int.natCast_one, Int.cast_ofNat_Int, Int.natCast_zero, o23_0, o23_1, o23_2, n23, o23s_0, o23s_1, o23s_2, o12_0, o12_1, o13_0, o13_1, o13_2, o13_3, o13_4, o13_5, o13_6, o14_0, o14_1, o14_2, o14_3, o14_4, o14_5, o3_0, o3_1, o3_2, o3_3, o3_4, o11_0, o11_1, o11_2, o11_3, o4_0, o4_1, o4_2, o4_3, o4_4, o4_5, o4_6, o5_0, o5_1, o5_2, o5_3, o5_4, o5_5, n5, o5s_0, o5s_1, o5s_2, o5s_3, o5s_4, o5s_5
theorem er_mid {α : Type} {x : α} {s : List α} : ∀ (K : List α), (K ++ x :: s).eraseIdx K.length = K ++ s
  | [] => rfl
  | k :: K => by
    show (k :: (K ++ x :: s)).eraseIdx (K.length + 1) = k :: (K ++ s)
    rw [List.eraseIdx_cons_succ, er_mid K]
theorem set_mid {α : Type} {x y : α} {s : List α} : ∀ (K : List α), (K ++ x :: s).set K.length y = K ++ y :: s
  | [] => rfl
  | k :: K => by
    show (k :: (K ++ x :: s)).set (K.length + 1) y = k :: (K ++ y :: s)
    rw [List.set_cons_succ, set_mid K]
theorem get_mid {x : Value} {s : List Value} : ∀ (K : List Value), (K ++ x :: s).getD K.length .null = x
  | [] => rfl
  | k :: K => by
    have := get_mid (x := x) (s := s) K
    rw [List.getD_eq_getElem?_getD] at this ⊢
    exact this
section
variable {F : Nat → Option Cl} {d : Nat} {H H2 : AH} {a b e p q fb pb qd it hd wb rb we tg ce ve wm : Nat} {r t c k n f v x to : Int} {cs S L nm : Int → Int} {ra : Int → Nat} {wl : Nat} {g bs : Nat → Bool} {w : WS} {sp : Int → Int} {P : Nat → Prop} {Q : List Int} {ins on : Int} {l1 l2 l3 : List Value}
theorem SH.sl1 {l4 : List Value} {mc : Int32} {v : Value} (h : SH H a v ins on l1 l2 l3 wm bs) : SH (jset H (a + 1) (cAL 40 mc l4)) a v ins on l4 l2 l3 wm bs := by
  obtain ⟨h0, ⟨m1, h1⟩, ⟨m2, h2⟩, ⟨m3, h3⟩, h4, h5, h6⟩ := h
  exact ⟨(jm_s2 (show a ≠ a + 1 by omega)).trans h0, ⟨mc, jm_s1⟩, ⟨m2, (jm_s2 (show a + 3 ≠ a + 1 by omega)).trans h2⟩, ⟨m3, (jm_s2 (show a + 5 ≠ a + 1 by omega)).trans h3⟩, (jm_s2 (show a + 7 ≠ a + 1 by omega)).trans h4, h5, h6⟩
theorem dn_8 (hFa : F (a + 1) = none) (hap : a + 8 < p ∨ p + 4 < a) (hit : F it = none ∧ ¬ StP a it ∧ ¬ PlP p it) : ∀ (s K : List Int) (H : AH) (mc : Int32) (lr : Int), Fzn F H → SH H a (.ref q) ins on ((K ++ s).map fun r => .ref (ra r)) l2 l3 wm bs → jm H (a + 1) = some (cAL 40 mc ((K ++ s).map fun r => .ref (ra r))) → PH H p a wl g w sp → it < H.1 → jm H it = some (67, 4, oIt K.length lr mc (a + 1)) → -1 ≤ lr → lr < 1000 → (K ++ s).length ≤ 40 → (∀ x ∈ s, 0 ≤ x ∧ x < 99 ∧ RowF F (ra x) x (S (249 + x)) (cellS S x)) →
    ∃ H2, G2 (d + 3) 5009 8 [.ref p, .ref a, .ref it, jno] [] H = G2 (d + 3) 5009 44 [.ref p, .ref a, .ref it, .int (zI 0)] [] H2 ∧ Fzn F H2 ∧ SH H2 a (.ref q) ins on ((K ++ s.filter fun x => !g x.toNat).map fun r => .ref (ra r)) l2 l3 wm bs ∧ PH H2 p a wl g w sp ∧ Fr H H2 (fun z => z = a + 1 ∨ z = it) ∧ H2.1 = H.1 ∧ H2.2.1 = H.2.1 := by
  intro s
  induction s with
  | nil =>
    intro K H mc lr hF hS ml hp li mi l0 l9 hle hr
    have hh := h_has (d := d + 2) mi (by omega) (by simp at hle; omega) l0 (by omega) ml (by omega)
    have e1 : MvH (d + 3) 9102 [.ref it] H = M2 (d + 3) 67001 [.ref it] H := by simp only [MvH, mi]; rfl
    refine ⟨H, ?_, hF, hS, hp, Fr.rf, rfl, rfl⟩
    have : decide ((K.length : Int) ≠ (((K ++ []).map fun r => (Value.ref (ra r) : Value)).length : Nat)) = false := decide_eq_false (by simp)
    rw [this] at hh
    rw [F5009_8]
    simp (disch := first | assumption | omega | decide | exact okF_i | exact okF_r | exact okF_n | exact okF_j | rfl) only [jc_ref, rI_int, rR_ref, rR_null, rJ_long, ckR_ref, ckR_null, ckr_ref, ckr_null, ckW_int, ckW_ref, ckW_null, cI_ok, cR_ok, cR_null, cV_ok, cJ_ok, qH_eq, qD_in, aG_ref, aS_ref, aL_ref, pF_ref, cK_ref, cK_null, zI_lit, zJ_lit, zI_add, zI_sub, zI_mul, zI_neg, zI_eq, zI_lt, zI_le, Int.reduceLT, Int.reduceLE, Int.reduceAdd, Int.reduceSub, Int.reduceMul, Int.reduceNeg, Int.reduceEq, Int.reduceNe, reduceIte, jf_in, pFc_in, aGi, aGb, aSi, aLc_in, cKc_in, nA_in, jm_s1, jm_s2, jm_p1, jm_p2, jm_b, jn_b, jn_s, jn_p, jset_jset, jset_jpush2, ckR_is, ckr_is, rR_is, ckW_is, cR_is, obi2, ckW_int, eq_self, if_true, ref_null, if_false, ne_eq, not_true_eq_false, not_false_eq_true, decide_true, decide_false, decide_not, Bool.true_and, Bool.false_and, Bool.and_true, Bool.and_false, Bool.true_or, Bool.false_or, Bool.or_true, Bool.or_false, Bool.not_true, Bool.not_false, Bool.false_eq_true, bI_t, bI_f, Int.natCast_one, Int.cast_ofNat_Int, Int.natCast_zero, o23_0, o23_1, o23_2, n23, o23s_0, o23s_1, o23s_2, o12_0, o12_1, o13_0, o13_1, o13_2, o13_3, o13_4, o13_5, o13_6, o14_0, o14_1, o14_2, o14_3, o14_4, o14_5, o3_0, o3_1, o3_2, o3_3, o3_4, o11_0, o11_1, o11_2, o11_3, o4_0, o4_1, o4_2, o4_3, o4_4, o4_5, o4_6, o5_0, o5_1, o5_2, o5_3, o5_4, o5_5, n5, o5s_0, o5s_1, o5s_2, o5s_3, o5s_4, o5s_5, e1, hh]
  | cons x s ih =>
    intro K H mc lr hF hS ml hp li mi l0 l9 hle hr
    obtain ⟨x0, x1, hrow⟩ := hr x List.mem_cons_self
    have hlen : ((K ++ x :: s).map fun r => (Value.ref (ra r) : Value)).length = K.length + s.length + 1 := by simp; omega
    have hle' : K.length + s.length + 1 ≤ 40 := by simp at hle; omega
    have hh := h_has (d := d + 2) mi (by omega) (by omega) l0 (by omega) ml (by omega)
    have hn := h_next (d := d + 2) mi (by omega) (by rw [hlen]; omega) l0 (by omega) ml (by omega) (by rw [hlen]; omega)
    have e1 : MvH (d + 3) 9102 [.ref it] H = M2 (d + 3) 67001 [.ref it] H := by simp only [MvH, mi]; rfl
    have e2 : MvH (d + 3) 9103 [.ref it] H = M2 (d + 3) 67002 [.ref it] H := by simp only [MvH, mi]; rfl
    have tr : decide ((K.length : Int) ≠ (((K ++ x :: s).map fun r => (Value.ref (ra r) : Value)).length : Nat)) = true := decide_eq_true (by rw [hlen]; omega)
    rw [tr] at hh
    have gm : ((K ++ x :: s).map fun r => (Value.ref (ra r) : Value)).getD ((K.length : Int)).toNat .null = .ref (ra x) := by
      have := get_mid (x := .ref (ra x)) (s := s.map fun r => .ref (ra r)) (K.map fun r => .ref (ra r))
      rw [List.length_map] at this
      rw [Int.toNat_natCast, List.map_append]
      exact this
    rw [gm] at hn
    obtain ⟨HI, hHI⟩ : ∃ HI, HI = jset H it (67, 4, oIt (K.length + 1) K.length mc (a + 1)) := ⟨_, rfl⟩
    have fI : Fr H HI (fun z => z = it) := by rw [hHI]; exact Fr.set rfl
    have hFI := hF.fr fI fun z hz => by rw [hz]; exact hit.1
    have hSI := hS.fr fI fun z hz h2 => hit.2.1 (h2 ▸ hz)
    have hpI := hp.fr fI fun z hz h2 => hit.2.2 (h2 ▸ hz)
    have HI1 : HI.1 = H.1 := by rw [hHI]; rfl
    have HI2 : HI.2.1 = H.2.1 := by rw [hHI]; rfl
    have hia : it ≠ a + 1 := by rintro rfl; exact hit.2.1 (by unfold StP; omega)
    have mlI : jm HI (a + 1) = some (cAL 40 mc ((K ++ x :: s).map fun r => .ref (ra r))) := (fI.2.2 (a + 1) (by have := hS.2.2.2.2.2.1; omega) (Ne.symm hia)).trans ml
    have miI : jm HI it = some (67, 4, oIt (K.length + 1) K.length mc (a + 1)) := by rw [hHI]; exact jm_s1
    have gs := p_goes (d := d + 1) hFI hpI hrow x0 x1
    obtain ⟨xe, xg, m1, m2, m3⟩ := hrow
    have m1' := hFI.m m1
    have ef : (x :: s).filter (fun x => !g x.toNat) = if (!g x.toNat) = true then x :: s.filter (fun x => !g x.toNat) else s.filter (fun x => !g x.toNat) := List.filter_cons
    rw [ef]
    cases hg : g x.toNat with
    | false =>
      rw [hg] at gs
      rw [if_pos (show (!false) = true from rfl)]
      have ea : K ++ x :: s = (K ++ [x]) ++ s := by simp
      have el : ((K.length : Int) + 1) = ((K ++ [x]).length : Nat) := by simp
      rw [ea] at hSI mlI
      rw [el] at miI
      obtain ⟨H2, i1, i2, i3, i4, i5, i6, i7⟩ := ih (K ++ [x]) HI mc K.length hFI hSI mlI hpI (by omega) miI (by omega) (by omega) (by simp; omega) (fun y hy => hr y (List.mem_cons_of_mem _ hy))
      refine ⟨H2, ?_, i2, ?_, i4, (fI.mono fun _ _ z => Or.inr z).tr i5, by omega, by omega⟩
      · rw [← i1]
        conv => lhs; rw [F5009_8]
        simp (disch := first | assumption | omega | decide | exact okF_i | exact okF_r | exact okF_n | exact okF_j | rfl) only [jc_ref, rI_int, rR_ref, rR_null, rJ_long, ckR_ref, ckR_null, ckr_ref, ckr_null, ckW_int, ckW_ref, ckW_null, cI_ok, cR_ok, cR_null, cV_ok, cJ_ok, qH_eq, qD_in, aG_ref, aS_ref, aL_ref, pF_ref, cK_ref, cK_null, zI_lit, zJ_lit, zI_add, zI_sub, zI_mul, zI_neg, zI_eq, zI_lt, zI_le, Int.reduceLT, Int.reduceLE, Int.reduceAdd, Int.reduceSub, Int.reduceMul, Int.reduceNeg, Int.reduceEq, Int.reduceNe, reduceIte, jf_in, pFc_in, aGi, aGb, aSi, aLc_in, cKc_in, nA_in, jm_s1, jm_s2, jm_p1, jm_p2, jm_b, jn_b, jn_s, jn_p, jset_jset, jset_jpush2, ckR_is, ckr_is, rR_is, ckW_is, cR_is, obi2, ckW_int, eq_self, if_true, ref_null, if_false, ne_eq, not_true_eq_false, not_false_eq_true, decide_true, decide_false, decide_not, Bool.true_and, Bool.false_and, Bool.and_true, Bool.and_false, Bool.true_or, Bool.false_or, Bool.or_true, Bool.or_false, Bool.not_true, Bool.not_false, Bool.false_eq_true, bI_t, bI_f, Int.natCast_one, Int.cast_ofNat_Int, Int.natCast_zero, o23_0, o23_1, o23_2, n23, o23s_0, o23s_1, o23s_2, o12_0, o12_1, o13_0, o13_1, o13_2, o13_3, o13_4, o13_5, o13_6, o14_0, o14_1, o14_2, o14_3, o14_4, o14_5, o3_0, o3_1, o3_2, o3_3, o3_4, o11_0, o11_1, o11_2, o11_3, o4_0, o4_1, o4_2, o4_3, o4_4, o4_5, o4_6, o5_0, o5_1, o5_2, o5_3, o5_4, o5_5, n5, o5s_0, o5s_1, o5s_2, o5s_3, o5s_4, o5s_5, e1, hh, e2, hn, ← hHI, m1', gs]
      · rw [List.append_assoc] at i3
        exact i3
    | true =>
      rw [hg] at gs
      rw [if_neg (show ¬ (!true) = true by decide)]
      have hm := h_rem (d := d + 2) miI (by omega) (by omega) (by omega) (by rw [hlen]; omega) mlI (by omega) (by rw [hlen]; omega) hia
      have e3 : MvH (d + 3) 9112 [.ref it] HI = M2 (d + 3) 67003 [.ref it] HI := by simp only [MvH, miI]; rfl
      have em : ((K ++ x :: s).map fun r => (Value.ref (ra r) : Value)).eraseIdx ((K.length : Int)).toNat = (K ++ s).map fun r => .ref (ra r) := by
        have := er_mid (x := (.ref (ra x) : Value)) (s := s.map fun r => .ref (ra r)) (K.map fun r => .ref (ra r))
        rw [List.length_map] at this
        rw [Int.toNat_natCast, List.map_append, List.map_append]
        exact this
      rw [em] at hm
      obtain ⟨HR, hHR⟩ : ∃ HR, HR = jset (jset HI (a + 1) (cAL 40 (mc + zI 1) ((K ++ s).map fun r => .ref (ra r)))) it (67, 4, oIt K.length (-1) (mc + zI 1) (a + 1)) := ⟨_, rfl⟩
      have fR1 : Fr HI (jset HI (a + 1) (cAL 40 (mc + zI 1) ((K ++ s).map fun r => .ref (ra r)))) (fun z => z = a + 1 ∨ z = it) := Fr.set (Or.inl rfl)
      have fR2 : Fr (jset HI (a + 1) (cAL 40 (mc + zI 1) ((K ++ s).map fun r => .ref (ra r)))) HR (fun z => z = it) := by rw [hHR]; exact Fr.set rfl
      have fR := fR1.tr (fR2.mono fun _ _ z => Or.inr z)
      have hFR := hFI.fr fR fun z hz => by rcases hz with hz | hz <;> rw [hz]; exact hFa; exact hit.1
      have hSR := (hSI.sl1 (l4 := (K ++ s).map fun r => .ref (ra r)) (mc := mc + zI 1)).fr fR2 fun z hz h2 => hit.2.1 (h2 ▸ hz)
      have hpR := hpI.fr fR fun z hz h2 => by
        rcases h2 with h2 | h2
        · unfold PlP at hz; omega
        · exact hit.2.2 (h2 ▸ hz)
      have HR1 : HR.1 = HI.1 := by rw [hHR]; rfl
      have HR2 : HR.2.1 = HI.2.1 := by rw [hHR]; rfl
      have mlR : jm HR (a + 1) = some (cAL 40 (mc + zI 1) ((K ++ s).map fun r => .ref (ra r))) := by rw [hHR]; exact (jm_s2 (Ne.symm hia)).trans jm_s1
      have miR : jm HR it = some (67, 4, oIt K.length (-1) (mc + zI 1) (a + 1)) := by rw [hHR]; exact jm_s1
      obtain ⟨H2, i1, i2, i3, i4, i5, i6, i7⟩ := ih K HR (mc + zI 1) (-1) hFR hSR mlR hpR (by omega) miR (Int.le_refl _) (by omega) (by simp; omega) (fun y hy => hr y (List.mem_cons_of_mem _ hy))
      refine ⟨H2, ?_, i2, i3, i4, (fI.mono fun _ _ z => Or.inr z).tr (fR.tr i5), by omega, by omega⟩
      rw [← i1]
      conv => lhs; rw [F5009_8]
      simp (disch := first | assumption | omega | decide | exact okF_i | exact okF_r | exact okF_n | exact okF_j | rfl) only [jc_ref, rI_int, rR_ref, rR_null, rJ_long, ckR_ref, ckR_null, ckr_ref, ckr_null, ckW_int, ckW_ref, ckW_null, cI_ok, cR_ok, cR_null, cV_ok, cJ_ok, qH_eq, qD_in, aG_ref, aS_ref, aL_ref, pF_ref, cK_ref, cK_null, zI_lit, zJ_lit, zI_add, zI_sub, zI_mul, zI_neg, zI_eq, zI_lt, zI_le, Int.reduceLT, Int.reduceLE, Int.reduceAdd, Int.reduceSub, Int.reduceMul, Int.reduceNeg, Int.reduceEq, Int.reduceNe, reduceIte, jf_in, pFc_in, aGi, aGb, aSi, aLc_in, cKc_in, nA_in, jm_s1, jm_s2, jm_p1, jm_p2, jm_b, jn_b, jn_s, jn_p, jset_jset, jset_jpush2, ckR_is, ckr_is, rR_is, ckW_is, cR_is, obi2, ckW_int, eq_self, if_true, ref_null, if_false, ne_eq, not_true_eq_false, not_false_eq_true, decide_true, decide_false, decide_not, Bool.true_and, Bool.false_and, Bool.and_true, Bool.and_false, Bool.true_or, Bool.false_or, Bool.or_true, Bool.or_false, Bool.not_true, Bool.not_false, Bool.false_eq_true, bI_t, bI_f, Int.natCast_one, Int.cast_ofNat_Int, Int.natCast_zero, o23_0, o23_1, o23_2, n23, o23s_0, o23s_1, o23s_2, o12_0, o12_1, o13_0, o13_1, o13_2, o13_3, o13_4, o13_5, o13_6, o14_0, o14_1, o14_2, o14_3, o14_4, o14_5, o3_0, o3_1, o3_2, o3_3, o3_4, o11_0, o11_1, o11_2, o11_3, o4_0, o4_1, o4_2, o4_3, o4_4, o4_5, o4_6, o5_0, o5_1, o5_2, o5_3, o5_4, o5_5, n5, o5s_0, o5s_1, o5s_2, o5s_3, o5s_4, o5s_5, e1, hh, e2, hn, ← hHI, m1', gs, e3, hm, ← hHR]
theorem dn_44 (hFa : F (a + 1) = none) (hap : a + 8 < p ∨ p + 4 < a) (hS : SchF F q S nm) (W : StW S) {lo : Nat} {v2 : Value} (hlo : a + 1 < lo) : ∀ (s : List Int) (pre : List Value) (H : AH), s.Nodup → Fzn F H → lo ≤ H.1 → SH H a (.ref q) ins on (pre ++ s.map fun r => .ref (ra r)) l2 l3 wm bs → PH H p a wl g w sp → (pre ++ s.map fun r => (.ref (ra r) : Value)).length ≤ 40 → (∀ x ∈ s, AlS S x ∧ RowF F (ra x) x (S (249 + x)) (cellS S x)) →
    ∃ (H2 : AH) (rb : Int → Nat), G2 (d + 4) 5009 44 [.ref p, .ref a, v2, .int (zI pre.length)] [] H = some (.inl none, H2) ∧ Fzn F H2 ∧ SH H2 a (.ref q) ins on (pre ++ s.map fun r => .ref (rb r)) l2 l3 wm bs ∧ PH H2 p a wl g w sp ∧ (∀ x ∈ s, (chB S w x = false ∧ rb x = ra x) ∨ (chB S w x = true ∧ RowH H2 (rb x) lo x (S (249 + x)) (celW (cellS S x) w x))) ∧ Fr H H2 (fun z => z = a + 1) ∧ H2.1 ≤ H.1 + 2 * s.length ∧ H2.2.1 ≤ H.2.1 + 7 * s.length := by
  intro s
  induction s with
  | nil =>
    intro pre H _ hF hl hSH hp hle _
    obtain ⟨h0, ⟨mc, h1⟩, -⟩ := id hSH
    have hsz := h_size (d := d + 3) h1
    refine ⟨H, ra, ?_, hF, hSH, hp, fun x hx => (by cases hx), Fr.rf, Nat.le_refl _, Nat.le_refl _⟩
    rw [F5009_44]
    simp (disch := first | assumption | omega | decide | exact okF_i | exact okF_r | exact okF_n | exact okF_j | rfl) only [jc_ref, rI_int, rR_ref, rR_null, rJ_long, ckR_ref, ckR_null, ckr_ref, ckr_null, ckW_int, ckW_ref, ckW_null, cI_ok, cR_ok, cR_null, cV_ok, cJ_ok, qH_eq, qD_in, aG_ref, aS_ref, aL_ref, pF_ref, cK_ref, cK_null, zI_lit, zJ_lit, zI_add, zI_sub, zI_mul, zI_neg, zI_eq, zI_lt, zI_le, Int.reduceLT, Int.reduceLE, Int.reduceAdd, Int.reduceSub, Int.reduceMul, Int.reduceNeg, Int.reduceEq, Int.reduceNe, reduceIte, jf_in, pFc_in, aGi, aGb, aSi, aLc_in, cKc_in, nA_in, jm_s1, jm_s2, jm_p1, jm_p2, jm_b, jn_b, jn_s, jn_p, jset_jset, jset_jpush2, ckR_is, ckr_is, rR_is, ckW_is, cR_is, obi2, ckW_int, eq_self, if_true, ref_null, if_false, ne_eq, not_true_eq_false, not_false_eq_true, decide_true, decide_false, decide_not, Bool.true_and, Bool.false_and, Bool.and_true, Bool.and_false, Bool.true_or, Bool.false_or, Bool.or_true, Bool.or_false, Bool.not_true, Bool.not_false, Bool.false_eq_true, bI_t, bI_f, Int.natCast_one, Int.cast_ofNat_Int, Int.natCast_zero, o23_0, o23_1, o23_2, n23, o23s_0, o23s_1, o23s_2, o12_0, o12_1, o13_0, o13_1, o13_2, o13_3, o13_4, o13_5, o13_6, o14_0, o14_1, o14_2, o14_3, o14_4, o14_5, o3_0, o3_1, o3_2, o3_3, o3_4, o11_0, o11_1, o11_2, o11_3, o4_0, o4_1, o4_2, o4_3, o4_4, o4_5, o4_6, o5_0, o5_1, o5_2, o5_3, o5_4, o5_5, n5, o5s_0, o5s_1, o5s_2, o5s_3, o5s_4, o5s_5, h0, hsz]
    rw [if_pos (by simp)]
  | cons x s ih =>
    intro pre H hnd hF hl hSH hp hle hr
    rw [List.nodup_cons] at hnd
    obtain ⟨⟨x0, x1, x2⟩, hrow⟩ := hr x List.mem_cons_self
    obtain ⟨h0, ⟨mc, h1⟩, -, -, -, h9, -⟩ := id hSH
    have h1' : jm H (a + 1) = some (cAL 40 mc (pre ++ (.ref (ra x)) :: s.map fun r => .ref (ra r))) := h1
    have hlen : (pre ++ (.ref (ra x) : Value) :: s.map fun r => .ref (ra r)).length = pre.length + s.length + 1 := by simp; omega
    have hle' : pre.length + s.length + 1 ≤ 40 := by simp at hle; omega
    have hsz := h_size (d := d + 3) h1'
    have hg := h_get (d := d + 3) (i := pre.length) h1' (by omega) (by omega) (by omega) (by omega)
    rw [Int.toNat_natCast, get_mid] at hg
    have ch := p_isChanged (d := d + 1) hF hS W h0 hp hrow x0 x1 ((W.2.1 x x0 x1).1.2 x2).1
    obtain ⟨xe, xg, m1, m2, m3⟩ := id hrow
    have m1' := hF.m m1
    have c1 : ((pre.length + 1 : Nat) : Int) = (pre.length : Int) + 1 := by omega
    have hlz : pre.length < (pre ++ (.ref (ra x) : Value) :: s.map fun r => .ref (ra r)).length := by omega
    cases hc : chB S w x with
    | false =>
      rw [hc] at ch
      have ea : pre ++ (x :: s).map (fun r => (Value.ref (ra r) : Value)) = (pre ++ [.ref (ra x)]) ++ s.map fun r => .ref (ra r) := by simp
      rw [ea] at hSH hle
      obtain ⟨H2, rb, i1, i2, i3, i4, i5, i6, i7, i8⟩ := ih (pre ++ [.ref (ra x)]) H hnd.2 hF hl hSH hp hle (fun y hy => hr y (List.mem_cons_of_mem _ hy))
      have hpl : (pre ++ [(.ref (ra x) : Value)]).length = pre.length + 1 := by simp
      rw [hpl, c1] at i1
      refine ⟨H2, fun y => if y = x then ra x else rb y, ?_, i2, ?_, i4, fun y hy => ?_, i6, by simp only [List.length_cons]; omega, by simp only [List.length_cons]; omega⟩
      · rw [← i1]
        conv => lhs; rw [F5009_44]
        simp (disch := first | assumption | omega | decide | exact okF_i | exact okF_r | exact okF_n | exact okF_j | rfl) only [jc_ref, rI_int, rR_ref, rR_null, rJ_long, ckR_ref, ckR_null, ckr_ref, ckr_null, ckW_int, ckW_ref, ckW_null, cI_ok, cR_ok, cR_null, cV_ok, cJ_ok, qH_eq, qD_in, aG_ref, aS_ref, aL_ref, pF_ref, cK_ref, cK_null, zI_lit, zJ_lit, zI_add, zI_sub, zI_mul, zI_neg, zI_eq, zI_lt, zI_le, Int.reduceLT, Int.reduceLE, Int.reduceAdd, Int.reduceSub, Int.reduceMul, Int.reduceNeg, Int.reduceEq, Int.reduceNe, reduceIte, jf_in, pFc_in, aGi, aGb, aSi, aLc_in, cKc_in, nA_in, jm_s1, jm_s2, jm_p1, jm_p2, jm_b, jn_b, jn_s, jn_p, jset_jset, jset_jpush2, ckR_is, ckr_is, rR_is, ckW_is, cR_is, obi2, ckW_int, eq_self, if_true, ref_null, if_false, ne_eq, not_true_eq_false, not_false_eq_true, decide_true, decide_false, decide_not, Bool.true_and, Bool.false_and, Bool.and_true, Bool.and_false, Bool.true_or, Bool.false_or, Bool.or_true, Bool.or_false, Bool.not_true, Bool.not_false, Bool.false_eq_true, bI_t, bI_f, Int.natCast_one, Int.cast_ofNat_Int, Int.natCast_zero, o23_0, o23_1, o23_2, n23, o23s_0, o23s_1, o23s_2, o12_0, o12_1, o13_0, o13_1, o13_2, o13_3, o13_4, o13_5, o13_6, o14_0, o14_1, o14_2, o14_3, o14_4, o14_5, o3_0, o3_1, o3_2, o3_3, o3_4, o11_0, o11_1, o11_2, o11_3, o4_0, o4_1, o4_2, o4_3, o4_4, o4_5, o4_6, o5_0, o5_1, o5_2, o5_3, o5_4, o5_5, n5, o5s_0, o5s_1, o5s_2, o5s_3, o5s_4, o5s_5, h0, hsz, hg, m1', ch]
        rw [if_neg (by omega)]
      · have em : (x :: s).map (fun r => (Value.ref (if r = x then ra x else rb r) : Value)) = .ref (ra x) :: s.map fun r => .ref (rb r) := by
          rw [List.map_cons, if_pos rfl]
          congr 1
          refine List.map_congr_left fun y hy => ?_
          rw [if_neg (by rintro rfl; exact hnd.1 hy)]
        rw [em]
        simpa using i3
      · by_cases hyx : y = x
        · subst hyx; exact Or.inl ⟨hc, if_pos rfl⟩
        · have hy' : y ∈ s := by
            rcases List.mem_cons.mp hy with h | h
            · exact absurd h hyx
            · exact h
          simp only [if_neg hyx]
          exact i5 y hy'
    | true =>
      rw [hc] at ch
      obtain ⟨H1, o1, o2, o3, o4', o5'⟩ := p_other (d := d + 1) hF W hp hrow x0 x1
      have h1o : jm H1 (a + 1) = some (cAL 40 mc (pre ++ (.ref (ra x)) :: s.map fun r => .ref (ra r))) := (o3.2.2 (a + 1) (by omega) id).trans h1'
      obtain ⟨oe, og, ob, -⟩ := id o2
      have st := h_set (d := d + 3) (i := pre.length) h1o (by omega) (by omega) (by omega) (by omega) (v := .ref (H.1 + 1)) (Or.inr ⟨_, _, rfl, ob, by show 23 < 1000; omega⟩)
      rw [Int.toNat_natCast, get_mid, set_mid] at st
      obtain ⟨HS, hHS⟩ : ∃ HS, HS = jset H1 (a + 1) (cAL 40 mc (pre ++ .ref (H.1 + 1) :: s.map fun r => .ref (ra r))) := ⟨_, rfl⟩
      have fS : Fr H1 HS (fun z => z = a + 1) := by rw [hHS]; exact Fr.set rfl
      have hFS := (hF.f0 o3).fr fS fun z hz => by rw [hz]; exact hFa
      have hSS : SH HS a (.ref q) ins on ((pre ++ [.ref (H.1 + 1)]) ++ s.map fun r => .ref (ra r)) l2 l3 wm bs := by
        rw [hHS]
        have := (hSH.fr o3 fun _ _ z => z).sl1 (l4 := pre ++ .ref (H.1 + 1) :: s.map fun r => .ref (ra r)) (mc := mc)
        simpa using this
      have hpS := (hp.fr o3 fun _ _ z => z).fr fS fun z hz h2 => by unfold PlP at hz; omega
      have HS1 : HS.1 = H1.1 := by rw [hHS]; rfl
      have HS2 : HS.2.1 = H1.2.1 := by rw [hHS]; rfl
      have hpl : (pre ++ [(.ref (H.1 + 1) : Value)]).length = pre.length + 1 := by simp
      obtain ⟨H2, rb, i1, i2, i3, i4, i5, i6, i7, i8⟩ := ih (pre ++ [.ref (H.1 + 1)]) HS hnd.2 hFS (by omega) hSS hpS (by simp; omega) (fun y hy => hr y (List.mem_cons_of_mem _ hy))
      rw [hpl, c1] at i1
      have fr2 : Fr H H2 (fun z => z = a + 1) := (o3.mono fun _ _ z => z.elim).tr (fS.tr i6)
      refine ⟨H2, fun y => if y = x then H.1 + 1 else rb y, ?_, i2, ?_, i4, fun y hy => ?_, fr2, by simp only [List.length_cons]; omega, by simp only [List.length_cons]; omega⟩
      · rw [← i1]
        conv => lhs; rw [F5009_44]
        simp (disch := first | assumption | omega | decide | exact okF_i | exact okF_r | exact okF_n | exact okF_j | rfl) only [jc_ref, rI_int, rR_ref, rR_null, rJ_long, ckR_ref, ckR_null, ckr_ref, ckr_null, ckW_int, ckW_ref, ckW_null, cI_ok, cR_ok, cR_null, cV_ok, cJ_ok, qH_eq, qD_in, aG_ref, aS_ref, aL_ref, pF_ref, cK_ref, cK_null, zI_lit, zJ_lit, zI_add, zI_sub, zI_mul, zI_neg, zI_eq, zI_lt, zI_le, Int.reduceLT, Int.reduceLE, Int.reduceAdd, Int.reduceSub, Int.reduceMul, Int.reduceNeg, Int.reduceEq, Int.reduceNe, reduceIte, jf_in, pFc_in, aGi, aGb, aSi, aLc_in, cKc_in, nA_in, jm_s1, jm_s2, jm_p1, jm_p2, jm_b, jn_b, jn_s, jn_p, jset_jset, jset_jpush2, ckR_is, ckr_is, rR_is, ckW_is, cR_is, obi2, ckW_int, eq_self, if_true, ref_null, if_false, ne_eq, not_true_eq_false, not_false_eq_true, decide_true, decide_false, decide_not, Bool.true_and, Bool.false_and, Bool.and_true, Bool.and_false, Bool.true_or, Bool.false_or, Bool.or_true, Bool.or_false, Bool.not_true, Bool.not_false, Bool.false_eq_true, bI_t, bI_f, Int.natCast_one, Int.cast_ofNat_Int, Int.natCast_zero, o23_0, o23_1, o23_2, n23, o23s_0, o23s_1, o23s_2, o12_0, o12_1, o13_0, o13_1, o13_2, o13_3, o13_4, o13_5, o13_6, o14_0, o14_1, o14_2, o14_3, o14_4, o14_5, o3_0, o3_1, o3_2, o3_3, o3_4, o11_0, o11_1, o11_2, o11_3, o4_0, o4_1, o4_2, o4_3, o4_4, o4_5, o4_6, o5_0, o5_1, o5_2, o5_3, o5_4, o5_5, n5, o5s_0, o5s_1, o5s_2, o5s_3, o5s_4, o5s_5, h0, hsz, hg, m1', ch, o1, st, ← hHS]
        rw [if_neg (by omega)]
      · have em : (x :: s).map (fun r => (Value.ref (if r = x then H.1 + 1 else rb r) : Value)) = .ref (H.1 + 1) :: s.map fun r => .ref (rb r) := by
          rw [List.map_cons, if_pos rfl]
          congr 1
          refine List.map_congr_left fun y hy => ?_
          rw [if_neg (by rintro rfl; exact hnd.1 hy)]
        rw [em]
        simpa using i3
      · by_cases hyx : y = x
        · subst hyx
          refine Or.inr ⟨hc, ?_⟩
          simp only [if_true]
          have ro : RowH H1 (H.1 + 1) lo y (S (249 + y)) (celW (cellS S y) w y) := by
            obtain ⟨e, gg, a1, a2, a3, a4, a5, a6, a7⟩ := o2
            exact ⟨e, gg, a1, a2, a3, by omega, a5, by omega, a7⟩
          exact ro.fr (fS.tr i6) fun z hz => by omega
        · have hy' : y ∈ s := by
            rcases List.mem_cons.mp hy with h | h
            · exact absurd h hyx
            · exact h
          simp only [if_neg hyx]
          exact i5 y hy'
/-- it is done to the rows -/
theorem p_isDone (h : PlW F H q a p S nm ra wl g w sp) (hSH : SH H a (.ref q) ins on l1 l2 l3 wm bs) (hRo : RowsF F l1 S 150 348 ra) (hFa : F (a + 1) = none) :
    ∃ (H2 : AH) (rb : Int → Nat), M2 (d + 5) 5009 [.ref p, .ref a] H = some (.inl none, H2) ∧ Fzn F H2 ∧ SH H2 a (.ref q) ins on (((alv S 150 99 0).filter fun x => !g x.toNat).map fun r => .ref (rb r)) l2 l3 wm bs ∧ PH H2 p a wl g w sp ∧ (∀ x ∈ alv S 150 99 0, g x.toNat = false → (chB S w x = false ∧ rb x = ra x) ∨ (chB S w x = true ∧ RowH H2 (rb x) H.1 x (S (249 + x)) (celW (cellS S x) w x))) ∧ Fr H H2 (fun z => z = a + 1) ∧ H2.1 ≤ H.1 + 1 + 2 * 40 ∧ H2.2.1 ≤ H.2.1 + 4 + 7 * 40 := by
  have W := h.2.2.1
  have hle := alv_le W
  obtain ⟨h0, ⟨mc, h1⟩, -, -, -, s9, -⟩ := id hSH
  have p9 := h.2.2.2.2.1.2.2.2.2.1
  have p0 := h.2.2.2.2.1.1
  have el1 := hRo.1
  have itr := h_iter (d := d + 3) h1
  have hit : F H.1 = none ∧ ¬ StP a H.1 ∧ ¬ PlP p H.1 := by
    refine ⟨?_, by unfold StP; omega, by unfold PlP; omega⟩
    cases hh : F H.1 with
    | none => rfl
    | some c => exact absurd (h.1.lt hh) (Nat.lt_irrefl _)
  obtain ⟨HI, hHI⟩ : ∃ HI, HI = jpush H (67, 4, oIt 0 (-1) mc (a + 1)) := ⟨_, rfl⟩
  rw [← hHI] at itr
  have fI : Fr H HI (fun _ => False) := by rw [hHI]; exact Fr.push
  have HI1 : HI.1 = H.1 + 1 := by rw [hHI]; rfl
  have HI2 : HI.2.1 = H.2.1 + 4 := by rw [hHI]; rfl
  have hFI := h.1.f0 fI
  have hSI := hSH.fr fI fun _ _ z => z
  have hpI := h.2.2.2.2.1.fr fI fun _ _ z => z
  have mlI : jm HI (a + 1) = some (cAL 40 mc l1) := (fI.2.2 (a + 1) (by omega) id).trans h1
  have miI : jm HI H.1 = some (67, 4, oIt ((0 : Nat) : Int) (-1) mc (a + 1)) := by rw [hHI]; exact jm_p1
  rw [el1] at hSI mlI
  have rw1 : ∀ x ∈ alv S 150 99 0, AlS S x ∧ RowF F (ra x) x (S (249 + x)) (cellS S x) := fun x hx => by
    have := (alv_mem 99 0 x).mp hx
    exact ⟨⟨this.1, by omega, this.2.2⟩, hRo.2 x this.1 (by omega) this.2.2⟩
  obtain ⟨H1, i1, i2, i3, i4, i5, i6, i7⟩ := dn_8 (d := d + 1) (it := H.1) (S := S) hFa h.2.2.2.2.2.2 hit (alv S 150 99 0) [] HI mc (-1) hFI hSI mlI hpI (by omega) miI (Int.le_refl _) (by omega) hle (fun x hx => ⟨(rw1 x hx).1.1, (rw1 x hx).1.2.1, (rw1 x hx).2⟩)
  have fll : ((alv S 150 99 0).filter fun x => !g x.toNat).length ≤ 40 := Nat.le_trans (List.length_filter_le _ _) hle
  obtain ⟨H2, rb, j1, j2, j3, j4, j5, j6, j7, j8⟩ := dn_44 (d := d) (nm := nm) (v2 := .ref H.1) hFa h.2.2.2.2.2.2 h.2.1 W (lo := H.1) (by omega) ((alv S 150 99 0).filter fun x => !g x.toNat) [] H1 ((alv_nd 99 0).filter _) i2 (by omega) i3 i4 (by rw [List.nil_append, List.length_map]; exact fll) (fun x hx => rw1 x (List.mem_filter.mp hx).1)
  refine ⟨H2, rb, ?_, j2, j3, j4, fun x hx hg => j5 x (List.mem_filter.mpr ⟨hx, by rw [hg]; rfl⟩), fI.mono (fun _ _ z => z.elim) |>.new ((i5.mono fun z _ hz => hz.elim (fun hz => Or.inl hz) (fun hz => Or.inr (by omega))).tr (j6.mono fun z _ hz => Or.inl hz)), by omega, by omega⟩
  rw [Y5009 H rfl (jrecv_in p0 rfl), F5009_0]
  simp (disch := first | assumption | omega | decide | exact okF_i | exact okF_r | exact okF_n | exact okF_j | rfl) only [jc_ref, rI_int, rR_ref, rR_null, rJ_long, ckR_ref, ckR_null, ckr_ref, ckr_null, ckW_int, ckW_ref, ckW_null, cI_ok, cR_ok, cR_null, cV_ok, cJ_ok, qH_eq, qD_in, aG_ref, aS_ref, aL_ref, pF_ref, cK_ref, cK_null, zI_lit, zJ_lit, zI_add, zI_sub, zI_mul, zI_neg, zI_eq, zI_lt, zI_le, Int.reduceLT, Int.reduceLE, Int.reduceAdd, Int.reduceSub, Int.reduceMul, Int.reduceNeg, Int.reduceEq, Int.reduceNe, reduceIte, jf_in, pFc_in, aGi, aGb, aSi, aLc_in, cKc_in, nA_in, jm_s1, jm_s2, jm_p1, jm_p2, jm_b, jn_b, jn_s, jn_p, jset_jset, jset_jpush2, ckR_is, ckr_is, rR_is, ckW_is, cR_is, obi2, ckW_int, eq_self, if_true, ref_null, if_false, ne_eq, not_true_eq_false, not_false_eq_true, decide_true, decide_false, decide_not, Bool.true_and, Bool.false_and, Bool.and_true, Bool.and_false, Bool.true_or, Bool.false_or, Bool.or_true, Bool.or_false, Bool.not_true, Bool.not_false, Bool.false_eq_true, bI_t, bI_f, Int.natCast_one, Int.cast_ofNat_Int, Int.natCast_zero, o23_0, o23_1, o23_2, n23, o23s_0, o23s_1, o23s_2, o12_0, o12_1, o13_0, o13_1, o13_2, o13_3, o13_4, o13_5, o13_6, o14_0, o14_1, o14_2, o14_3, o14_4, o14_5, o3_0, o3_1, o3_2, o3_3, o3_4, o11_0, o11_1, o11_2, o11_3, o4_0, o4_1, o4_2, o4_3, o4_4, o4_5, o4_6, o5_0, o5_1, o5_2, o5_3, o5_4, o5_5, n5, o5s_0, o5s_1, o5s_2, o5s_3, o5s_4, o5s_5, h0, itr]
  exact i1.trans j1
end
