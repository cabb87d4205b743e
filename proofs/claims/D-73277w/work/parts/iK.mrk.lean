/-! a store's marks; what a store holds, by the twin's ints; how many violations there may be -/
-- jc_ref, rI_int, rR_ref, rR_null, rJ_long, ckR_ref, ckR_null, ckr_ref, ckr_null, ckW_int, ckW_ref, ckW_null, cI_ok, cR_ok, cR_null, cV_ok, cJ_ok, qH_eq, qD_in, aG_ref, aS_ref, aL_ref, pF_ref, cK_ref, cK_null, zI_lit, zJ_lit, zI_add, zI_sub, zI_mul, zI_neg, zI_eq, zI_lt, zI_le, Int.reduceLT, Int.reduceLE, Int.reduceAdd, Int.reduceSub, Int.reduceMul, Int.reduceNeg, Int.reduceEq, Int.reduceNe, reduceIte, jf_in, pFc_in, aGi, aGb, aSi, aLc_in, cKc_in, nA_in, jm_s1, jm_s2, jm_p1, jm_p2, jm_b, jn_b, jn_s, jn_p, jset_jset, jset_jpush2, ckR_is, ckr_is, rR_is, ckW_is, cR_is, obi2, ckW_int, eq_self, if_true, ref_null, if_false, ne_eq, not_true_eq_false, not_false_eq_true, decide_true, decide_false, decide_not, Bool.true_and, Bool.false_and, Bool.and_true, Bool.and_false, Bool.true_or, Bool.false_or, Bool.or_true, Bool.or_false, Bool.not_true, Bool.not_false, Bool.false_eq_true, bI_t, bI_f, Int.natCast_one, Int.cast_ofNat_Int, Int.natCast_zero, o23_0, o23_1, o23_2, n23, o23s_0, o23s_1, o23s_2, o4_0, o4_1, o4_2, o4_3, o4_4, o4_5, o4_6, n4, o4s_0, o4s_1, o4s_2, o4s_3, o4s_4, o4s_5, o4s_6, o24_0, o24_1, o24_2, o24_3, o26_0, o28_0, o22_0, o22_1, o22_2, o22_3, o22_4, o22_5, o47_0, o47_1, o47_2, o47_3, n47, o47s_0, o47s_1, o47s_2, o47s_3 = jc_ref, rI_int, rR_ref, rR_null, rJ_long, ckR_ref, ckR_null, ckr_ref, ckr_null, ckW_int, ckW_ref, ckW_null, cI_ok, cR_ok, cR_null, cV_ok, cJ_ok, qH_eq, qD_in, aG_ref, aS_ref, aL_ref, pF_ref, cK_ref, cK_null, zI_lit, zJ_lit, zI_add, zI_sub, zI_mul, zI_neg, zI_eq, zI_lt, zI_le, Int.reduceLT, Int.reduceLE, Int.reduceAdd, Int.reduceSub, Int.reduceMul, Int.reduceNeg, Int.reduceEq, Int.reduceNe, reduceIte, jf_in, pFc_in, aGi, aGb, aSi, aLc_in, cKc_in, nA_in, jm_s1, jm_s2, jm_p1, jm_p2, jm_b, jn_b, jn_s, jn_p, jset_jset, jset_jpush2, ckR_is, ckr_is, rR_is, ckW_is, cR_is, obi2, ckW_int, eq_self, if_true, ref_null, if_false, ne_eq, not_true_eq_false, not_false_eq_true, decide_true, decide_false, decide_not, Bool.true_and, Bool.false_and, Bool.and_true, Bool.and_false, Bool.true_or, Bool.false_or, Bool.or_true, Bool.or_false, Bool.not_true, Bool.not_false, Bool.false_eq_true, bI_t, bI_f, Int.natCast_one, Int.cast_ofNat_Int, Int.natCast_zero, o23_0, o23_1, o23_2, n23, o23s_0, o23s_1, o23s_2, o4_0, o4_1, o4_2, o4_3, o4_4, o4_5, o4_6, n4, o4s_0, o4s_1, o4s_2, o4s_3, o4s_4, o4s_5, o4s_6, o24_0, o24_1, o24_2, o24_3, o26_0, o28_0, o22_0, o22_1, o22_2, o22_3, o22_4, o22_5, o47_0, o47_1, o47_2, o47_3, n47, o47s_0, o47s_1, o47s_2, o47s_3
section
variable {d : Nat} {H H2 : AH} {F : Nat → Option Cl} {a b q p wl n : Nat} {r ins on : Int} {v : Value} {l1 l2 l3 : List Value} {bs : Nat → Bool} {S S' nm : Int → Int} {ra : Int → Nat} {B P : Nat → Prop} {T : Nat → Int → Int} {to : Int}
/-- a number is marked -/
theorem SH.mark (h : SH H a v ins on l1 l2 l3 wl bs) (r0 : 0 ≤ r) (r1 : r < 99) : ∃ H2 wl2, (∀ d, M2 (d + 1) 44008 [.ref (a + 7), .int (zI r)] H = some (.inl none, H2)) ∧ SH H2 a v ins on l1 l2 l3 wl2 (fun k => decide (k = r.toNat) || bs k) ∧ Fr H H2 (fun z => z = a + 7) ∧ H2.1 + (2 - wl2) = H.1 + (2 - wl) ∧ H2.2.1 + 2 * (2 - wl2) = H.2.1 + 2 * (2 - wl) ∧ jm H2 (a + 7) = some (cBS wl2 (fun k => decide (k = r.toNat) || bs k)) := by
  obtain ⟨h0, ⟨m1, h1⟩, ⟨m2, h2⟩, ⟨m3, h3⟩, h4, h5, h6, h7, h8⟩ := h
  have bset := fun d => h_bset (d := d) h4 (i := r) (by omega) r0 (by omega)
  have cases : ∃ HB w2, bsBurn H wl r.toNat = HB ∧ bsUp wl r.toNat = w2 ∧ (1 ≤ w2 ∧ w2 ≤ 2) ∧ Fr H HB (fun z => z = a + 7) ∧ (∀ z, jm HB z = jm H z) ∧ HB.1 + (2 - w2) = H.1 + (2 - wl) ∧ HB.2.1 + 2 * (2 - w2) = H.2.1 + 2 * (2 - wl) := by
    by_cases c : r.toNat / 64 < wl
    · exact ⟨H, wl, by unfold bsBurn; rw [if_pos c], by unfold bsUp; rw [if_pos c], ⟨h7, h8⟩, Fr.rf, fun _ => rfl, rfl, rfl⟩
    · have w1 : wl = 1 := by omega
      have mx : max (2 * wl) (r.toNat / 64 + 1) = 2 := by omega
      refine ⟨jburn H 1 2, 2, by unfold bsBurn; rw [if_neg c, mx], by unfold bsUp; rw [if_neg c, mx], by omega, Fr.burn, fun _ => jm_b, ?_, ?_⟩
      · show H.1 + 1 + (2 - 2) = H.1 + (2 - wl); omega
      · show H.2.1 + 2 + 2 * (2 - 2) = H.2.1 + 2 * (2 - wl); omega
  obtain ⟨HB, w2, e1, e2, e3, e4, e5, e6, e7⟩ := cases
  rw [e1, e2] at bset
  have hb : a + 8 < HB.1 := Nat.lt_of_lt_of_le h5 e4.1
  refine ⟨jset HB (a + 7) (cBS w2 (fun k => decide (k = r.toNat) || bs k)), w2, bset, ⟨(jm_s2 (show a ≠ a + 7 by omega)).trans ((e5 _).trans h0), ⟨m1, (jm_s2 (show a + 1 ≠ a + 7 by omega)).trans ((e5 _).trans h1)⟩, ⟨m2, (jm_s2 (show a + 3 ≠ a + 7 by omega)).trans ((e5 _).trans h2)⟩, ⟨m3, (jm_s2 (show a + 5 ≠ a + 7 by omega)).trans ((e5 _).trans h3)⟩, jm_s1, hb, h6, e3.1, e3.2⟩, e4.tr (Fr.set rfl), e6, e7, jm_s1⟩
/-- marks are laid, one by one -/
theorem mk_13 : ∀ (xs : List Vi) (ns : List Nat) (vs : List Value) (H : AH) (wl : Nat) (bs : Nat → Bool) (ll : Nat), LLat H ll ns vs → SH H a v ins on l1 l2 l3 wl bs → ¬ StP a ll → (∀ p ∈ ns, ¬ StP a p) → ll < H.1 → vs.length = xs.length → (∀ (i : Nat) (x : Vi), xs[i]? = some x → ∃ b : Nat, vs[i]? = some (.ref b) ∧ b < H.1 ∧ ¬ StP a b ∧ jm H b = some (24, 4, o24 x.1 (S (249 + x.2.2)) x.2.1 x.2.2) ∧ 0 ≤ x.2.2 ∧ x.2.2 < 99) →
    ∃ H2 wl2 bs2, G2 (d + 14) 4008 13 [.ref a, .ref ll] [] H = some (.inl none, H2) ∧ SH H2 a v ins on l1 l2 l3 wl2 bs2 ∧ (∀ k : Int, 0 ≤ k → bs2 k.toNat = (bs k.toNat || xs.any (fun x => decide (x.2.2 = k)))) ∧ Fr H H2 (fun z => z = a + 7 ∨ z = ll ∨ z ∈ ns) ∧ H2.1 + (2 - wl2) = H.1 + (2 - wl) ∧ H2.2.1 + 2 * (2 - wl2) = H.2.1 + 2 * (2 - wl) := by
  intro xs
  induction xs with
  | nil =>
    intro ns vs H wl bs ll L hS hll hns hl hlen hx
    have : vs = [] := List.length_eq_zero_iff.mp hlen
    subst this
    obtain ⟨⟨mc, km⟩, -⟩ := id L
    have em := ll_empty (d := d + 12) L
    have mv : MvH (d + 14) 9131 [.ref ll] H = M2 (d + 14) 41000 [.ref ll] H := by simp only [MvH, km]; rfl
    refine ⟨H, wl, bs, ?_, hS, fun k k0 => by simp, Fr.rf, rfl, rfl⟩
    rw [F4008_13]
    simp (disch := first | assumption | omega | decide | exact okF_i | exact okF_r | exact okF_n | exact okF_j | rfl) only [jc_ref, rI_int, rR_ref, rR_null, rJ_long, ckR_ref, ckR_null, ckr_ref, ckr_null, ckW_int, ckW_ref, ckW_null, cI_ok, cR_ok, cR_null, cV_ok, cJ_ok, qH_eq, qD_in, aG_ref, aS_ref, aL_ref, pF_ref, cK_ref, cK_null, zI_lit, zJ_lit, zI_add, zI_sub, zI_mul, zI_neg, zI_eq, zI_lt, zI_le, Int.reduceLT, Int.reduceLE, Int.reduceAdd, Int.reduceSub, Int.reduceMul, Int.reduceNeg, Int.reduceEq, Int.reduceNe, reduceIte, jf_in, pFc_in, aGi, aGb, aSi, aLc_in, cKc_in, nA_in, jm_s1, jm_s2, jm_p1, jm_p2, jm_b, jn_b, jn_s, jn_p, jset_jset, jset_jpush2, ckR_is, ckr_is, rR_is, ckW_is, cR_is, obi2, ckW_int, eq_self, if_true, ref_null, if_false, ne_eq, not_true_eq_false, not_false_eq_true, decide_true, decide_false, decide_not, Bool.true_and, Bool.false_and, Bool.and_true, Bool.and_false, Bool.true_or, Bool.false_or, Bool.or_true, Bool.or_false, Bool.not_true, Bool.not_false, Bool.false_eq_true, bI_t, bI_f, Int.natCast_one, Int.cast_ofNat_Int, Int.natCast_zero, o23_0, o23_1, o23_2, n23, o23s_0, o23s_1, o23s_2, o4_0, o4_1, o4_2, o4_3, o4_4, o4_5, o4_6, n4, o4s_0, o4s_1, o4s_2, o4s_3, o4s_4, o4s_5, o4s_6, o24_0, o24_1, o24_2, o24_3, o26_0, o28_0, o22_0, o22_1, o22_2, o22_3, o22_4, o22_5, o47_0, o47_1, o47_2, o47_3, n47, o47s_0, o47s_1, o47s_2, o47s_3, mv, em, List.isEmpty_nil]
  | cons x xs ih =>
    intro ns vs H wl bs ll L hS hll hns hl hlen hx
    cases vs with
    | nil => simp at hlen
    | cons y vs =>
      obtain ⟨yb, y1, y2, y3, y4, y5, y6⟩ := hx 0 x rfl
      have y1 : y = .ref yb := Option.some.inj y1
      subst y1
      have nl : ns.length = vs.length + 1 := by have := L.2.1; simpa using this
      cases ns with
      | nil => simp at nl
      | cons q0 ns =>
      obtain ⟨⟨mc, km⟩, -, -, nd, -, kn⟩ := id L
      have em := ll_empty (d := d + 12) L
      have mv : MvH (d + 14) 9131 [.ref ll] H = M2 (d + 14) 41000 [.ref ll] H := by simp only [MvH, km]; rfl
      obtain ⟨H1, p1, p2, p3, p4, p5⟩ := ll_pop (d := d + 12) L
      have nst : ∀ z, StP a z → ¬ (z = ll ∨ z ∈ q0 :: ns) := fun z hz h => by
        rcases h with h | h
        · exact hll (h ▸ hz)
        · exact hns z h hz
      have hS1 := hS.fr p3 nst
      have vn : ∀ (b : Nat) (c : Nat × (Nat → Value)), jm H b = some (24, c) → ¬ (b = ll ∨ b ∈ q0 :: ns) := fun b c hb h => by
        rcases h with h | h
        · rw [h, km] at hb
          simp only [Option.some.injEq, Prod.mk.injEq] at hb
          omega
        · obtain ⟨i, hi⟩ := List.getElem?_of_mem h
          have := (kn i b hi).1
          rw [this] at hb
          simp only [Option.some.injEq, Prod.mk.injEq] at hb
          omega
      have m1 : jm H1 yb = some (24, 4, o24 x.1 (S (249 + x.2.2)) x.2.1 x.2.2) := (p3.2.2 yb y2 (vn yb _ y4)).trans y4
      obtain ⟨H2, wl2, b1, b2, b3, b4, b5, b6⟩ := hS1.mark y5 y6
      have L2 : LLat H2 ll ns vs := p2.fr b3 (by omega) (fun e => hll (by unfold StP; omega)) fun p hp e => hns p (List.mem_cons_of_mem _ hp) (by unfold StP; omega)
      obtain ⟨H3, wl3, bs3, r1, r2, r3, r4, r5, r6⟩ := ih ns vs H2 wl2 _ ll L2 b2 hll (fun p hp => hns p (List.mem_cons_of_mem _ hp)) (by have := b3.1; omega) (by simpa using hlen) fun i x' hi => by
        obtain ⟨b, c1, c2, c3, c4, c5⟩ := hx (i + 1) x' (by simpa using hi)
        refine ⟨b, by simpa using c1, by have := b3.1; omega, c3, ?_, c5⟩
        exact (b3.2.2 b (by omega) (fun e => c3 (by unfold StP; omega))).trans ((p3.2.2 b c2 (vn b _ c4)).trans c4)
      refine ⟨H3, wl3, bs3, ?_, r2, fun k k0 => ?_, ?_, by omega, by omega⟩
      · rw [F4008_13, ← r1]
        have a0 := hS.1
        have e24 : ([24] : List Nat).elem 24 = true := rfl
        simp (disch := first | assumption | omega | decide | exact okF_i | exact okF_r | exact okF_n | exact okF_j | rfl) only [jc_ref, rI_int, rR_ref, rR_null, rJ_long, ckR_ref, ckR_null, ckr_ref, ckr_null, ckW_int, ckW_ref, ckW_null, cI_ok, cR_ok, cR_null, cV_ok, cJ_ok, qH_eq, qD_in, aG_ref, aS_ref, aL_ref, pF_ref, cK_ref, cK_null, zI_lit, zJ_lit, zI_add, zI_sub, zI_mul, zI_neg, zI_eq, zI_lt, zI_le, Int.reduceLT, Int.reduceLE, Int.reduceAdd, Int.reduceSub, Int.reduceMul, Int.reduceNeg, Int.reduceEq, Int.reduceNe, reduceIte, jf_in, pFc_in, aGi, aGb, aSi, aLc_in, cKc_in, nA_in, jm_s1, jm_s2, jm_p1, jm_p2, jm_b, jn_b, jn_s, jn_p, jset_jset, jset_jpush2, ckR_is, ckr_is, rR_is, ckW_is, cR_is, obi2, ckW_int, eq_self, if_true, ref_null, if_false, ne_eq, not_true_eq_false, not_false_eq_true, decide_true, decide_false, decide_not, Bool.true_and, Bool.false_and, Bool.and_true, Bool.and_false, Bool.true_or, Bool.false_or, Bool.or_true, Bool.or_false, Bool.not_true, Bool.not_false, Bool.false_eq_true, bI_t, bI_f, Int.natCast_one, Int.cast_ofNat_Int, Int.natCast_zero, o23_0, o23_1, o23_2, n23, o23s_0, o23s_1, o23s_2, o4_0, o4_1, o4_2, o4_3, o4_4, o4_5, o4_6, n4, o4s_0, o4s_1, o4s_2, o4s_3, o4s_4, o4s_5, o4s_6, o24_0, o24_1, o24_2, o24_3, o26_0, o28_0, o22_0, o22_1, o22_2, o22_3, o22_4, o22_5, o47_0, o47_1, o47_2, o47_3, n47, o47s_0, o47s_1, o47s_2, o47s_3, mv, em, List.isEmpty_cons, a0, p1, m1, b1]
      · rw [r3 k k0]
        have : decide (k.toNat = x.2.2.toNat) = decide (x.2.2 = k) := by
          by_cases c : x.2.2 = k
          · rw [decide_eq_true c, decide_eq_true (by omega)]
          · rw [decide_eq_false c, decide_eq_false (by omega)]
        show ((decide (k.toNat = x.2.2.toNat) || bs k.toNat) || _) = _
        rw [this, List.any_cons]
        cases decide (x.2.2 = k) <;> cases bs k.toNat <;> simp
      · refine (p3.mono fun z _ h => Or.inr h).tr ((b3.mono fun z _ h => Or.inl h).tr (r4.mono fun z _ h => ?_))
        rcases h with h | h | h
        · exact Or.inl h
        · exact Or.inr (Or.inl h)
        · exact Or.inr (Or.inr (List.mem_cons_of_mem _ h))
set_option maxRecDepth 8000 in
/-- the rows at which something is violated are marked -/
theorem c_marks (hBa : ∀ z, StP a z → B z) (hBl : ∀ z, B z → z < H.1) (W : StW S) (hS : SchF (Fz B H) q S nm) (hSH : SH H a (.ref q) ins on l1 l2 l3 wl bs) (hRo : RowsF (Fz B H) l1 S 150 348 ra) :
    ∃ H2 wl2 bs2, M2 (d + 15) 4008 [.ref a] H = some (.inl none, H2) ∧ SH H2 a (.ref q) ins on l1 l2 l3 wl2 bs2 ∧ (∀ k : Int, 0 ≤ k → k < 99 → bs2 k.toNat = (violS S true).any (fun v => decide (v.2.2 = k))) ∧ Fr H H2 (fun z => z = a + 7) ∧ H2.1 ≤ H.1 + 9 + 2 * (violS S true).length ∧ H2.2.1 ≤ H.2.1 + 39 + 9 * (violS S true).length := by
  obtain ⟨h0, ⟨m1, h1⟩, ⟨m2, h2⟩, ⟨m3, h3⟩, h4, h5, h6, h7, h8⟩ := id hSH
  have cl := h_bclear (d := d + 13) h4 (by omega)
  obtain ⟨H1, hH1⟩ : ∃ H1, H1 = jset H (a + 7) (cBS wl fun _ => false) := ⟨_, rfl⟩
  rw [← hH1] at cl
  have f1 : Fr H H1 (fun z => z = a + 7) := by rw [hH1]; exact Fr.set rfl
  have n1 : H1.1 = H.1 ∧ H1.2.1 = H.2.1 := by rw [hH1]; exact ⟨rfl, rfl⟩
  have S1 : SH H1 a (.ref q) ins on l1 l2 l3 wl (fun _ => false) := by
    rw [hH1]
    exact ⟨(jm_s2 (show a ≠ a + 7 by omega)).trans h0, ⟨m1, (jm_s2 (show a + 1 ≠ a + 7 by omega)).trans h1⟩, ⟨m2, (jm_s2 (show a + 3 ≠ a + 7 by omega)).trans h2⟩, ⟨m3, (jm_s2 (show a + 5 ≠ a + 7 by omega)).trans h3⟩, jm_s1, h5, h6, h7, h8⟩
  have sb : Sub (Fz B H) (Fz B H1) := Fz_sub f1 fun z _ e => hBa z (by unfold StP; omega)
  obtain ⟨H2, v1, v2, v3, v4, v5⟩ := c_viol (d := d) W Fz_F (hS.sub sb) (S1.sq (hRo.sub sb)) (late := true)
  rw [bZ_t] at v1
  have S2 := S1.fr v3 fun _ _ z => z
  obtain ⟨ns, vs, k1, ⟨k2, k3⟩, k4, k5, k6⟩ := v2
  have st : ∀ z, H1.1 ≤ z → ¬ StP a z := fun z hz h => by have := hBl z (hBa z h); omega
  obtain ⟨H3, wl3, bs3, r1, r2, r3, r4, r5, r6⟩ := mk_13 (d := d) (S := S) (violS S true) ns vs H2 wl _ H1.1 k1 S2 (st _ (Nat.le_refl _)) (fun p hp => st p (k4 p hp)) k3 k5 fun i x hi => by
    obtain ⟨b, c1, c2, c3, c4⟩ := k6 i x hi
    have vp := (mem_viol W).mp (List.mem_of_getElem? hi)
    exact ⟨b, c1, c2, st b c3, c4, vp.1.1, vp.1.2.1⟩
  refine ⟨H3, wl3, bs3, ?_, r2, fun k k0 k9 => by rw [r3 k k0, Bool.false_or], ?_, by omega, by omega⟩
  · rw [Y4008 H (jrecv_in h0 rfl), F4008_0, ← r1]
    simp (disch := first | assumption | omega | decide | exact okF_i | exact okF_r | exact okF_n | exact okF_j | rfl) only [jc_ref, rI_int, rR_ref, rR_null, rJ_long, ckR_ref, ckR_null, ckr_ref, ckr_null, ckW_int, ckW_ref, ckW_null, cI_ok, cR_ok, cR_null, cV_ok, cJ_ok, qH_eq, qD_in, aG_ref, aS_ref, aL_ref, pF_ref, cK_ref, cK_null, zI_lit, zJ_lit, zI_add, zI_sub, zI_mul, zI_neg, zI_eq, zI_lt, zI_le, Int.reduceLT, Int.reduceLE, Int.reduceAdd, Int.reduceSub, Int.reduceMul, Int.reduceNeg, Int.reduceEq, Int.reduceNe, reduceIte, jf_in, pFc_in, aGi, aGb, aSi, aLc_in, cKc_in, nA_in, jm_s1, jm_s2, jm_p1, jm_p2, jm_b, jn_b, jn_s, jn_p, jset_jset, jset_jpush2, ckR_is, ckr_is, rR_is, ckW_is, cR_is, obi2, ckW_int, eq_self, if_true, ref_null, if_false, ne_eq, not_true_eq_false, not_false_eq_true, decide_true, decide_false, decide_not, Bool.true_and, Bool.false_and, Bool.and_true, Bool.and_false, Bool.true_or, Bool.false_or, Bool.or_true, Bool.or_false, Bool.not_true, Bool.not_false, Bool.false_eq_true, bI_t, bI_f, Int.natCast_one, Int.cast_ofNat_Int, Int.natCast_zero, o23_0, o23_1, o23_2, n23, o23s_0, o23s_1, o23s_2, o4_0, o4_1, o4_2, o4_3, o4_4, o4_5, o4_6, n4, o4s_0, o4s_1, o4s_2, o4s_3, o4s_4, o4s_5, o4s_6, o24_0, o24_1, o24_2, o24_3, o26_0, o28_0, o22_0, o22_1, o22_2, o22_3, o22_4, o22_5, o47_0, o47_1, o47_2, o47_3, n47, o47s_0, o47s_1, o47s_2, o47s_3, h0, cl, v1]
  · refine f1.new ((v3.mono fun _ _ z => z.elim).tr (r4.mono fun z _ h => ?_))
    rcases h with h | h | h
    · exact Or.inl h
    · exact Or.inr (by omega)
    · exact Or.inr (by have := k4 z h; omega)
/-- how much can be violated at a row -/
def pvS (S : Int → Int) : Int := 4 + S 1 + S 2 + S 3
theorem row_len (W : StW S) (r0 : 0 ≤ r) (r1 : r < 99) : ((rowV S true r).length : Int) ≤ pvS S ∧ ((rowV S false r).length : Int) ≤ pvS S := by
  have TA := W.ta r0 r1
  have CO := W.co TA.1 TA.2
  have N := W.n0
  have key : ∀ late, ((rowV S late r).length : Int) ≤ pvS S := fun late => by
    have a1 := rwF_len (so := 1) (r := r) (P := ndP S r) (S (4 + S (249 + r))).toNat 0
    have a2 := rwF_len (so := 2) (r := r) (P := kyP S r) (S 1).toNat 0
    have a3 := rwF_len (so := 3) (r := r) (P := rfQ S late r) (S 2).toNat 0
    have a4 := rwF_len (so := 4) (r := r) (P := ckP S late r) (S 3).toNat 0
    unfold rowV pvS
    rw [List.length_append, List.length_append, List.length_append]
    omega
  exact ⟨key true, key false⟩
theorem viol_len (W : StW S) {late : Bool} : ((violS S late).length : Int) ≤ 40 * pvS S := by
  rw [← (viol_perm (late := late) W).length_eq]
  have N := W.n0
  have p0 : 0 ≤ pvS S := by unfold pvS; omega
  have key : ∀ s : List Int, (∀ x ∈ s, 0 ≤ x ∧ x < 99) → ((lstV S late s).length : Int) ≤ s.length * pvS S := by
    intro s
    induction s with
    | nil => intro _; show (0 : Int) ≤ ((0 : Nat) : Int) * pvS S; omega
    | cons x s ih =>
      intro h
      have hx := h x List.mem_cons_self
      have rl := row_len W hx.1 hx.2
      have rl' : ((rowV S late x).length : Int) ≤ pvS S := by cases late; exact rl.2; exact rl.1
      have := ih fun y hy => h y (List.mem_cons_of_mem _ hy)
      show (((rowV S late x ++ lstV S late s).length : Nat) : Int) ≤ ((s.length + 1 : Nat) : Int) * pvS S
      rw [List.length_append, show ((s.length + 1 : Nat) : Int) * pvS S = s.length * pvS S + pvS S by rw [Int.natCast_add, Int.add_mul]; omega]
      omega
  have k := key (alv S 150 99 0) fun x hx => by have := (alv_mem 99 0 x).mp hx; omega
  have l := alv_le W
  have : ((alv S 150 99 0).length : Int) * pvS S ≤ 40 * pvS S := Int.mul_le_mul_of_nonneg_right (by omega) p0
  omega
/-- what judges keeps of the tables of rows -/
theorem jud_ta (W : StW (T 2)) (hA : AhW (T 12)) (L : LnW (T 2) (T 5) to) (h35 : T 0 35 = 0 ∨ T 0 35 = 1) {r : Int} (r0 : 0 ≤ r) (r1 : r < 99) (hr : r ≠ T 2 148) : (judT T to).2 2 (249 + r) = T 2 (249 + r) := by
  by_cases c : (judT T to).1 = 0
  · by_cases hf : T 5 to = 0 ∧ (cntA (T 2) 150 99 0 = 40 ∨ T 2 148 = 99)
    · rw [judT_full hf] at c; exact absurd (show (6 : Int) = 0 from c) (by decide)
    · have e2 : jdT T to 2 = T 2 := jdT_k (by decide) (by decide) (by decide) (by decide) (by decide)
      have e5 : jdT T to 5 = T 5 := jdT_k (by decide) (by decide) (by decide) (by decide) (by decide)
      have hG : GoG (jdT T to 13) (fun k => decide (0 ≤ jdT T to 13 (k : Int))) := fun r r0 r1 => by
        show decide (0 ≤ jdT T to 13 (r.toNat : Int)) = _
        rw [show ((r.toNat : Nat) : Int) = r by omega]
      obtain ⟨-, -, w⟩ := jdT_lst W h35 hA L hG
      have w5 := W.2.2.2.2.1
      have w34 : jdT T to 0 34 = 0 ∨ jdT T to 0 34 = 1 := w.2.1
      rcases w34 with c1 | c1
      · rw [judT_ok hf c1]
        obtain ⟨k1, k2, -⟩ := doR_W (Go := jdT T to 13) w 99 0 (T 2, 0) W (Int.le_refl _) rfl
        have eD : jdD (jdT T to) to 2 (249 + r) = T 2 (249 + r) := by
          unfold jdD
          rw [ts_ne (by decide), tg_eq, e5, e2]
          by_cases h5 : T 5 to = 0
          · rw [if_pos h5, doR_no W h35 hA L h5]
            show insS (T 2) (T 5) to (249 + r) = T 2 (249 + r)
            unfold insS insQ
            rw [fset_ne (by omega), if_neg (by omega), if_neg (by omega), if_neg (by omega)]
          · rw [if_neg h5]
            exact k2 _ (by omega)
        by_cases n : jdV (jdD (jdT T to) to) = []
        · rw [jdE_nil n]
          show layL (ts (jdD (jdT T to) to) 0 26 0) _ 2 (249 + r) = _
          rw [layL_k ⟨by decide, by decide, by decide, by decide⟩, ts_ne (by decide)]
          exact eD
        · rw [jdE_cons n]
          show (tg (layL (ts (jdD (jdT T to) to) 0 26 0) (jdV (jdD (jdT T to) to))) 2 (bl 148 1239 (fun x => (jdD (jdT T to) to) 14 (x - 148)) ((jdD (jdT T to) to) 2))) 2 (249 + r) = _
          rw [tg_eq]
          unfold bl
          rw [if_pos (by omega)]
          show jdD (jdT T to) to 14 (249 + r - 148) = _
          have e14 : jdD (jdT T to) to 14 = jdT T to 14 := by unfold jdD; rw [ts_ne (by decide), tg_ne (by decide)]
          rw [e14, jdT_14]
          unfold bl
          rw [if_pos (by omega)]
          show T 2 (148 + (249 + r - 148)) = _
          rw [show 148 + (249 + r - 148) = 249 + r by omega]
      · rw [judT_cl hf c1] at c; exact absurd (show (5 : Int) = 0 from c) (by decide)
  · have J := judT_W W hA L h35
    rw [J.2.2.2.2.1 c]
/-- how many violations judges lays -/
theorem jud_26 (W : StW (T 2)) (hA : AhW (T 12)) (L : LnW (T 2) (T 5) to) (h35 : T 0 35 = 0 ∨ T 0 35 = 1) : (judT T to).2 0 26 ≤ 40 * pvS (T 2) := by
  have N := W.n0
  have p0 : 0 ≤ pvS (T 2) := by unfold pvS; omega
  have z3 : jd3 T 0 26 = 0 := by unfold jd3; rw [ts_eq, fset_eq]
  by_cases hf : T 5 to = 0 ∧ (cntA (T 2) 150 99 0 = 40 ∨ T 2 148 = 99)
  · rw [judT_full hf]; show jd3 T 0 26 ≤ _; omega
  · have e26 : jdT T to 0 26 = 0 := by rw [jdT_0 (by decide) (by decide) (by decide) (by decide)]; exact z3
    have hG : GoG (jdT T to 13) (fun k => decide (0 ≤ jdT T to 13 (k : Int))) := fun r r0 r1 => by
      show decide (0 ≤ jdT T to 13 (r.toNat : Int)) = _
      rw [show ((r.toNat : Nat) : Int) = r by omega]
    obtain ⟨-, -, w⟩ := jdT_lst W h35 hA L hG
    have w34 : jdT T to 0 34 = 0 ∨ jdT T to 0 34 = 1 := w.2.1
    rcases w34 with c1 | c1
    · have e2 : jdT T to 2 = T 2 := jdT_k (by decide) (by decide) (by decide) (by decide) (by decide)
      have e5 : jdT T to 5 = T 5 := jdT_k (by decide) (by decide) (by decide) (by decide) (by decide)
      obtain ⟨k1, k2, -⟩ := doR_W (Go := jdT T to 13) w 99 0 (T 2, 0) W (Int.le_refl _) rfl
      have WD : StW (jdD (jdT T to) to 2) ∧ ∀ i, i < 148 → jdD (jdT T to) to 2 i = T 2 i := by
        unfold jdD
        rw [ts_ne (by decide), tg_eq, e5, e2]
        by_cases h5 : T 5 to = 0
        · rw [if_pos h5, doR_no W h35 hA L h5]
          show StW (insS (T 2) (T 5) to) ∧ ∀ i, i < 148 → insS (T 2) (T 5) to i = T 2 i
          have w5 := W.2.2.2.2.1
          have n9 : T 2 148 < 99 := by omega
          have n40 : cntA (T 2) 150 99 0 < 40 := by have := alv_len (S := T 2) (at_ := 150) 99 0 fun i a b => W.al a (by omega); have := alv_le W; omega
          refine ⟨W.ins (L.2.2.1 h5) n9 n40, fun i hi => ?_⟩
          unfold insS insQ
          rw [fset_ne (by omega), if_neg (by omega), if_neg (by omega), if_neg (by omega)]
        · rw [if_neg h5]
          exact ⟨k1, fun i hi => k2 i (by omega)⟩
      have vl := viol_len WD.1 (late := decide (jdD (jdT T to) to 2 149 = 0))
      have pe : pvS (jdD (jdT T to) to 2) = pvS (T 2) := by
        unfold pvS
        rw [WD.2 1 (by omega), WD.2 2 (by omega), WD.2 3 (by omega)]
      rw [pe] at vl
      have l26 : ∀ Y : Nat → Int → Int, layL (ts Y 0 26 0) (jdV Y) 0 26 = (jdV Y).length := fun Y => by rw [layL_26, ts_eq, fset_eq]; omega
      rw [judT_ok hf c1]
      by_cases n : jdV (jdD (jdT T to) to) = []
      · rw [jdE_nil n]
        show layL (ts (jdD (jdT T to) to) 0 26 0) _ 0 26 ≤ _
        rw [l26]; exact vl
      · rw [jdE_cons n]
        show (tg (layL (ts (jdD (jdT T to) to) 0 26 0) (jdV (jdD (jdT T to) to))) 2 (bl 148 1239 (fun x => (jdD (jdT T to) to) 14 (x - 148)) ((jdD (jdT T to) to) 2))) 0 26 ≤ _
        rw [tg_ne (by decide), l26]; exact vl
    · rw [judT_cl hf c1]; show jdT T to 0 26 ≤ _; omega
end
