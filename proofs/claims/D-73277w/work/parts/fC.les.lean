/-! a plan: the queue is worked off -/
-- jc_ref, rI_int, rR_ref, rR_null, rJ_long, ckR_ref, ckR_null, ckr_ref, ckr_null, ckW_int, ckW_ref, ckW_null, cI_ok, cR_ok, cR_null, cV_ok, cJ_ok, qH_eq, qD_in, aG_ref, aS_ref, aL_ref, pF_ref, cK_ref, cK_null, zI_lit, zJ_lit, zI_add, zI_sub, zI_mul, zI_neg, zI_eq, zI_lt, zI_le, Int.reduceLT, Int.reduceLE, Int.reduceAdd, Int.reduceSub, Int.reduceMul, Int.reduceNeg, Int.reduceEq, Int.reduceNe, reduceIte, jf_in, pFc_in, aGi, aGb, aSi, aLc_in, cKc_in, nA_in, jm_s1, jm_s2, jm_p1, jm_p2, jm_b, jn_b, jn_s, jn_p, jset_jset, jset_jpush2, ckR_is, ckr_is, rR_is, ckW_is, cR_is, obi2, ckW_int, eq_self, if_true, ref_null, if_false, ne_eq, not_true_eq_false, not_false_eq_true, decide_true, decide_false, decide_not, Bool.true_and, Bool.false_and, Bool.and_true, Bool.and_false, Bool.true_or, Bool.false_or, Bool.or_true, Bool.or_false, Bool.not_true, Bool.not_false, Bool.false_eq_true, bI_t, bI_f, Int.natCast_one, Int.cast_ofNat_Int, Int.natCast_zero, o23_0, o23_1, o23_2, o12_0, o12_1, o13_0, o13_1, o13_2, o13_3, o13_4, o13_5, o13_6, o14_0, o14_1, o14_2, o14_3, o14_4, o14_5, o3_0, o3_1, o3_2, o3_3, o3_4, o11_0, o11_1, o11_2, o11_3, o4_0, o4_1, o4_2, o4_3, o4_4, o4_5, o4_6, o5_0, o5_1, o5_2, o5_3, o5_4, o5_5, n5, o5s_0, o5s_1, o5s_2, o5s_3, o5s_4, o5s_5 = jc_ref, rI_int, rR_ref, rR_null, rJ_long, ckR_ref, ckR_null, ckr_ref, ckr_null, ckW_int, ckW_ref, ckW_null, cI_ok, cR_ok, cR_null, cV_ok, cJ_ok, qH_eq, qD_in, aG_ref, aS_ref, aL_ref, pF_ref, cK_ref, cK_null, zI_lit, zJ_lit, zI_add, zI_sub, zI_mul, zI_neg, zI_eq, zI_lt, zI_le, Int.reduceLT, Int.reduceLE, Int.reduceAdd, Int.reduceSub, Int.reduceMul, Int.reduceNeg, Int.reduceEq, Int.reduceNe, reduceIte, jf_in, pFc_in, aGi, aGb, aSi, aLc_in, cKc_in, nA_in, jm_s1, jm_s2, jm_p1, jm_p2, jm_b, jn_b, jn_s, jn_p, jset_jset, jset_jpush2, ckR_is, ckr_is, rR_is, ckW_is, cR_is, obi2, ckW_int, eq_self, if_true, ref_null, if_false, ne_eq, not_true_eq_false, not_false_eq_true, decide_true, decide_false, decide_not, Bool.true_and, Bool.false_and, Bool.and_true, Bool.and_false, Bool.true_or, Bool.false_or, Bool.or_true, Bool.or_false, Bool.not_true, Bool.not_false, Bool.false_eq_true, bI_t, bI_f, Int.natCast_one, Int.cast_ofNat_Int, Int.natCast_zero, o23_0, o23_1, o23_2, o12_0, o12_1, o13_0, o13_1, o13_2, o13_3, o13_4, o13_5, o13_6, o14_0, o14_1, o14_2, o14_3, o14_4, o14_5, o3_0, o3_1, o3_2, o3_3, o3_4, o11_0, o11_1, o11_2, o11_3, o4_0, o4_1, o4_2, o4_3, o4_4, o4_5, o4_6, o5_0, o5_1, o5_2, o5_3, o5_4, o5_5, n5, o5s_0, o5s_1, o5s_2, o5s_3, o5s_4, o5s_5
section
variable {F : Nat → Option Cl} {d : Nat} {H H2 : AH} {a b e p q fb pb qd it hd : Nat} {r t c k n f v x : Int} {cs S nm : Int → Int} {ra : Int → Nat} {wl : Nat} {g : Nat → Bool} {w : WS} {sp : Int → Int} {P : Nat → Prop} {Q : List Int}
/-- a row is put behind a queue -/
theorem dq_add {cap : Nat} (h : DqH H qd cap ra Q) (hok : okE H (.ref (ra r))) (hl : Q.length < 40) : ∃ (H2 : AH) (cap2 : Nat), (∀ d, M2 (d + 1) 63000 [.ref qd, .ref (ra r)] H = some (.inl none, H2)) ∧ DqH H2 qd cap2 ra (Q ++ [r]) ∧ Fr H H2 (fun x => x = qd) ∧ H2.1 + dqP cap2 = H.1 + dqP cap ∧ H2.2.1 + dqS cap2 = H.2.1 + dqS cap := by
  obtain ⟨⟨hd, hh, m⟩, hc, hl2⟩ := h
  have ad := fun d => h_qadd (d := d) m (by omega) hok (by simp)
  have ml : (Q.map fun r => (Value.ref (ra r) : Value)).length = Q.length := List.length_map _
  rw [ml] at ad
  have mp : (Q ++ [r]).map (fun r => (Value.ref (ra r) : Value)) = (Q.map fun r => .ref (ra r)) ++ [.ref (ra r)] := by rw [List.map_append]; rfl
  by_cases c : Q.length + 1 < cap
  · have u1 : dqUp cap Q.length = cap := by unfold dqUp; rw [if_pos c]
    have u2 : dqHd cap hd Q.length = hd := by unfold dqHd; rw [if_pos c]
    have u3 : dqBurn H cap Q.length = H := by unfold dqBurn; rw [if_pos c]
    rw [u1, u2, u3] at ad
    exact ⟨_, cap, ad, ⟨⟨hd, hh, by rw [mp]; exact jm_s1⟩, hc, by rw [List.length_append]; simp only [List.length_singleton]; omega⟩, Fr.set rfl, rfl, rfl⟩
  · have u1 : dqUp cap Q.length = dqCap cap := by unfold dqUp; rw [if_neg c]
    have u3 : dqBurn H cap Q.length = jburn H 1 (dqCap cap) := by unfold dqBurn; rw [if_neg c]
    rw [u1, u3] at ad
    rcases hc with rfl | rfl | rfl
    · exact ⟨_, 36, ad, ⟨⟨dqHd 17 hd Q.length, (by unfold dqHd; rw [if_neg c]; show hd + (36 - 17) < 36; omega), by rw [mp]; exact jm_s1⟩, by omega, by rw [List.length_append]; simp only [List.length_singleton]; omega⟩, Fr.burn.tr (Fr.set rfl), rfl, rfl⟩
    · exact ⟨_, 74, ad, ⟨⟨dqHd 36 hd Q.length, (by unfold dqHd; rw [if_neg c]; show hd + (74 - 36) < 74; omega), by rw [mp]; exact jm_s1⟩, by omega, by rw [List.length_append]; simp only [List.length_singleton]; omega⟩, Fr.burn.tr (Fr.set rfl), rfl, rfl⟩
    · omega
theorem DqH.fr {cap : Nat} (h : DqH H qd cap ra Q) (fr : Fr H H2 P) (hq : qd < H.1) (hP : ¬ P qd) : DqH H2 qd cap ra Q := by
  obtain ⟨⟨hd, hh, m⟩, h2⟩ := h
  exact ⟨⟨hd, hh, (fr.2.2 qd hq hP).trans m⟩, h2⟩
/-- one row's followers are put behind -/
theorem lt_65 (hqd : F qd = none ∧ ¬ StP a qd ∧ ¬ PlP p qd) (x0 : 0 ≤ x) (x1 : x < 99) (x2 : S (150 + x) = 1) : ∀ (s : List Int) (n : Nat) (H : AH) (g : Nat → Bool) (wl cap : Nat) (y : DQ) (v4 : Value), PlW F H q a p S nm ra wl g w y.1 → GS g y.1 → DqH H qd cap ra y.2 → qd < H.1 → (alv S 150 99 0).drop n = s → n ≤ (alv S 150 99 0).length → 0 ≤ y.1 x → y.2.Nodup → (∀ z ∈ y.2, AlS S z ∧ 0 ≤ y.1 z) →
    ∃ (H2 : AH) (g2 : Nat → Bool) (wl2 cap2 : Nat) (v4' : Value), G2 (d + 5) 5011 65 [.ref p, .ref qd, .ref (ra x), .int (zI n), v4] [] H = G2 (d + 5) 5011 48 [.ref p, .ref qd, .ref (ra x), .int (zI (alv S 150 99 0).length), v4'] [] H2 ∧ PlW F H2 q a p S nm ra wl2 g2 w (inS S x s y).1 ∧ GS g2 (inS S x s y).1 ∧ DqH H2 qd cap2 ra (inS S x s y).2 ∧ Fr H H2 (fun z => PlP p z ∨ z = qd) ∧ ((inS S x s y).2.Nodup ∧ ∀ z ∈ (inS S x s y).2, AlS S z ∧ 0 ≤ (inS S x s y).1 z) ∧ H2.1 + (2 - wl2) + dqP cap2 = H.1 + (2 - wl) + dqP cap ∧ H2.2.1 + 2 * (2 - wl2) + dqS cap2 = H.2.1 + 2 * (2 - wl) + dqS cap := by
  intro s
  induction s with
  | nil =>
    intro n H g wl cap y v4 h hG hD lq hn hnl hx hnd hz
    have W := h.2.2.1
    have hle := alv_le W
    obtain ⟨ins, on, v1, v2, v3, mc, l, s0, s1, s2⟩ := h.rows
    have hl := rows_len s2
    have hsz := h_size (d := d + 4) s1
    have p0 := h.2.2.2.2.1.1
    have hnn : n = (alv S 150 99 0).length := by
      have := congrArg List.length hn
      simp at this
      omega
    refine ⟨H, g, wl, cap, v4, ?_, h, hG, hD, Fr.rf, ⟨hnd, hz⟩, rfl, rfl⟩
    rw [F5011_65]
    simp (disch := first | assumption | omega | decide | exact okF_i | exact okF_r | exact okF_n | exact okF_j | rfl) only [jc_ref, rI_int, rR_ref, rR_null, rJ_long, ckR_ref, ckR_null, ckr_ref, ckr_null, ckW_int, ckW_ref, ckW_null, cI_ok, cR_ok, cR_null, cV_ok, cJ_ok, qH_eq, qD_in, aG_ref, aS_ref, aL_ref, pF_ref, cK_ref, cK_null, zI_lit, zJ_lit, zI_add, zI_sub, zI_mul, zI_neg, zI_eq, zI_lt, zI_le, Int.reduceLT, Int.reduceLE, Int.reduceAdd, Int.reduceSub, Int.reduceMul, Int.reduceNeg, Int.reduceEq, Int.reduceNe, reduceIte, jf_in, pFc_in, aGi, aGb, aSi, aLc_in, cKc_in, nA_in, jm_s1, jm_s2, jm_p1, jm_p2, jm_b, jn_b, jn_s, jn_p, jset_jset, jset_jpush2, ckR_is, ckr_is, rR_is, ckW_is, cR_is, obi2, ckW_int, eq_self, if_true, ref_null, if_false, ne_eq, not_true_eq_false, not_false_eq_true, decide_true, decide_false, decide_not, Bool.true_and, Bool.false_and, Bool.and_true, Bool.and_false, Bool.true_or, Bool.false_or, Bool.or_true, Bool.or_false, Bool.not_true, Bool.not_false, Bool.false_eq_true, bI_t, bI_f, Int.natCast_one, Int.cast_ofNat_Int, Int.natCast_zero, o23_0, o23_1, o23_2, o12_0, o12_1, o13_0, o13_1, o13_2, o13_3, o13_4, o13_5, o13_6, o14_0, o14_1, o14_2, o14_3, o14_4, o14_5, o3_0, o3_1, o3_2, o3_3, o3_4, o11_0, o11_1, o11_2, o11_3, o4_0, o4_1, o4_2, o4_3, o4_4, o4_5, o4_6, o5_0, o5_1, o5_2, o5_3, o5_4, o5_5, n5, o5s_0, o5s_1, o5s_2, o5s_3, o5s_4, o5s_5, p0, s0, hsz]
    rw [if_pos (by omega), hnn]
  | cons r s ih =>
    intro n H g wl cap y v4 h hG hD lq hn hnl hx hnd hz
    have W := h.2.2.1
    have hF := h.1
    have hle := alv_le W
    obtain ⟨ins, on, v1, v2, v3, mc, l, s0, s1, s2⟩ := h.rows
    have hl := rows_len s2
    have hsz := h_size (d := d + 4) s1
    have p0 := h.2.2.2.2.1.1
    obtain ⟨e1, e2, e3, e4, r0, r1, r2⟩ := rows_at s2 rfl hn
    have hgr := h_get (d := d + 4) (i := n) s1 (by omega) (by omega) (by omega) (by omega)
    rw [Int.toNat_natCast, e1] at hgr
    have gs := p_goes (d := d + 3) hF h.2.2.2.2.1 e2 r0 r1
    obtain ⟨re, rg, m1, m2, m3⟩ := e2
    have m1' := hF.m m1
    have c1 : ((n + 1 : Nat) : Int) = (n : Int) + 1 := by omega
    have gr := (hG.1 r r0 r1).1
    rw [gr] at gs
    have e : inS S x (r :: s) y = inS S x s (if y.1 r < 0 ∧ edgB S r x = true then (fset y.1 r (y.1 x + 1), y.2 ++ [r]) else y) := rfl
    rw [e]
    by_cases c : y.1 r < 0
    · rw [decide_eq_false (show ¬ 0 ≤ y.1 r by omega)] at gs
      have fo := p_follows (d := d + 1) h r0 r1 r2 x0 x1 x2
      by_cases c2 : edgB S r x = true
      · rw [if_pos ⟨c, c2⟩]
        rw [c2] at fo
        obtain ⟨H1, wl2, b1, b2, b2', b3, b4, b5⟩ := p_mark h r0 r1
        have rx : r ≠ x := by rintro rfl; omega
        obtain ⟨xe, xg, n1, n2, n3⟩ := h.row x0 x1 x2
        have p1 := b2'.2.2.2.2.1.1
        have p4 := b2'.2.2.2.2.1.2.2.2.1
        have m1J := b2'.1.m m1
        have n1J := b2'.1.m n1
        have np4 : PlP p (p + 4) := by unfold PlP; omega
        obtain ⟨HM, hHM⟩ : ∃ HM, HM = jset H1 (p + 4) (1000, 99, aI (fset y.1 r (y.1 x + 1))) := ⟨_, rfl⟩
        have hM : PlW F HM q a p S nm ra wl2 (gset g r) w (fset y.1 r (y.1 x + 1)) := by rw [hHM]; exact b2 _
        have fM : Fr H HM (PlP p) := by rw [hHM]; exact b3.tr (Fr.set np4)
        have HM1 : HM.1 = H1.1 := by rw [hHM]; rfl
        have HM2 : HM.2.1 = H1.2.1 := by rw [hHM]; rfl
        have mrM := hM.1.m m1
        have dM := hD.fr fM lq hqd.2.2
        -- the queue is short
        have hsub : (y.2 ++ [r]).Nodup := by
          rw [List.nodup_append]
          exact ⟨hnd, by simp, fun u hu v hv => by rw [List.mem_singleton] at hv; subst hv; rintro rfl; have := (hz u hu).2; omega⟩
        have hlen := List.Nodup.length_le_of_subset (l₂ := alv S 150 99 0) hsub fun u hu => by
          rw [alv_mem]
          rcases List.mem_append.mp hu with hu | hu
          · have := (hz u hu).1; unfold AlS at this; omega
          · rw [List.mem_singleton.mp hu]; omega
        rw [List.length_append] at hlen
        simp only [List.length_singleton] at hlen
        obtain ⟨H3, cap2, d1, d2, d3, d4, d5⟩ := dq_add (r := r) dM (Or.inr ⟨_, _, rfl, mrM, by show 23 < 1000; omega⟩) (by omega)
        have h3 : PlW F H3 q a p S nm ra wl2 (gset g r) w (fset y.1 r (y.1 x + 1)) := hM.ot d3 fun z hz => by rw [hz]; exact hqd
        have f3 : Fr H H3 (fun z => PlP p z ∨ z = qd) := (fM.mono fun _ _ z => Or.inl z).tr (d3.mono fun _ _ z => Or.inr z)
        have yx : fset y.1 r (y.1 x + 1) x = y.1 x := fset_ne (Ne.symm rx)
        obtain ⟨H2, g2, wl3, cap3, v4', i1, i2, i3, i4, i5, i6, i7, i8⟩ := ih (n + 1) H3 (gset g r) wl2 cap2 (fset y.1 r (y.1 x + 1), y.2 ++ [r]) (.ref (ra r)) h3 (hG.set r0 r1 (by omega)) d2 (Nat.lt_of_lt_of_le lq f3.1) e3 (by omega) (by show 0 ≤ fset y.1 r (y.1 x + 1) x; rw [yx]; exact hx) hsub (fun u hu => by
          show AlS S u ∧ 0 ≤ fset y.1 r (y.1 x + 1) u
          rcases List.mem_append.mp hu with hu | hu
          · have := hz u hu
            exact ⟨this.1, by rw [fset_ne (by rintro rfl; omega)]; exact this.2⟩
          · rw [List.mem_singleton.mp hu, fset_eq]; exact ⟨⟨r0, r1, r2⟩, by omega⟩)
        refine ⟨H2, g2, wl3, cap3, v4', ?_, i2, i3, i4, f3.tr i5, i6, by omega, by omega⟩
        rw [← i1, c1]
        conv => lhs; rw [F5011_65]
        simp (disch := first | assumption | omega | decide | exact okF_i | exact okF_r | exact okF_n | exact okF_j | rfl) only [jc_ref, rI_int, rR_ref, rR_null, rJ_long, ckR_ref, ckR_null, ckr_ref, ckr_null, ckW_int, ckW_ref, ckW_null, cI_ok, cR_ok, cR_null, cV_ok, cJ_ok, qH_eq, qD_in, aG_ref, aS_ref, aL_ref, pF_ref, cK_ref, cK_null, zI_lit, zJ_lit, zI_add, zI_sub, zI_mul, zI_neg, zI_eq, zI_lt, zI_le, Int.reduceLT, Int.reduceLE, Int.reduceAdd, Int.reduceSub, Int.reduceMul, Int.reduceNeg, Int.reduceEq, Int.reduceNe, reduceIte, jf_in, pFc_in, aGi, aGb, aSi, aLc_in, cKc_in, nA_in, jm_s1, jm_s2, jm_p1, jm_p2, jm_b, jn_b, jn_s, jn_p, jset_jset, jset_jpush2, ckR_is, ckr_is, rR_is, ckW_is, cR_is, obi2, ckW_int, eq_self, if_true, ref_null, if_false, ne_eq, not_true_eq_false, not_false_eq_true, decide_true, decide_false, decide_not, Bool.true_and, Bool.false_and, Bool.and_true, Bool.and_false, Bool.true_or, Bool.false_or, Bool.or_true, Bool.or_false, Bool.not_true, Bool.not_false, Bool.false_eq_true, bI_t, bI_f, Int.natCast_one, Int.cast_ofNat_Int, Int.natCast_zero, o23_0, o23_1, o23_2, o12_0, o12_1, o13_0, o13_1, o13_2, o13_3, o13_4, o13_5, o13_6, o14_0, o14_1, o14_2, o14_3, o14_4, o14_5, o3_0, o3_1, o3_2, o3_3, o3_4, o11_0, o11_1, o11_2, o11_3, o4_0, o4_1, o4_2, o4_3, o4_4, o4_5, o4_6, o5_0, o5_1, o5_2, o5_3, o5_4, o5_5, n5, o5s_0, o5s_1, o5s_2, o5s_3, o5s_4, o5s_5, p0, s0, hsz, hgr, m1', gs, fo, b1, p1, m1J, n1J, p4, aS_ref, ← hHM, d1]
        rw [if_neg (by omega)]
      · rw [if_neg (fun z => c2 z.2)]
        rw [Bool.eq_false_iff.mpr c2] at fo
        obtain ⟨H2, g2, wl3, cap3, v4', i1, i2⟩ := ih (n + 1) H g wl cap y (.ref (ra r)) h hG hD lq e3 (by omega) hx hnd hz
        refine ⟨H2, g2, wl3, cap3, v4', ?_, i2⟩
        rw [← i1, c1]
        conv => lhs; rw [F5011_65]
        simp (disch := first | assumption | omega | decide | exact okF_i | exact okF_r | exact okF_n | exact okF_j | rfl) only [jc_ref, rI_int, rR_ref, rR_null, rJ_long, ckR_ref, ckR_null, ckr_ref, ckr_null, ckW_int, ckW_ref, ckW_null, cI_ok, cR_ok, cR_null, cV_ok, cJ_ok, qH_eq, qD_in, aG_ref, aS_ref, aL_ref, pF_ref, cK_ref, cK_null, zI_lit, zJ_lit, zI_add, zI_sub, zI_mul, zI_neg, zI_eq, zI_lt, zI_le, Int.reduceLT, Int.reduceLE, Int.reduceAdd, Int.reduceSub, Int.reduceMul, Int.reduceNeg, Int.reduceEq, Int.reduceNe, reduceIte, jf_in, pFc_in, aGi, aGb, aSi, aLc_in, cKc_in, nA_in, jm_s1, jm_s2, jm_p1, jm_p2, jm_b, jn_b, jn_s, jn_p, jset_jset, jset_jpush2, ckR_is, ckr_is, rR_is, ckW_is, cR_is, obi2, ckW_int, eq_self, if_true, ref_null, if_false, ne_eq, not_true_eq_false, not_false_eq_true, decide_true, decide_false, decide_not, Bool.true_and, Bool.false_and, Bool.and_true, Bool.and_false, Bool.true_or, Bool.false_or, Bool.or_true, Bool.or_false, Bool.not_true, Bool.not_false, Bool.false_eq_true, bI_t, bI_f, Int.natCast_one, Int.cast_ofNat_Int, Int.natCast_zero, o23_0, o23_1, o23_2, o12_0, o12_1, o13_0, o13_1, o13_2, o13_3, o13_4, o13_5, o13_6, o14_0, o14_1, o14_2, o14_3, o14_4, o14_5, o3_0, o3_1, o3_2, o3_3, o3_4, o11_0, o11_1, o11_2, o11_3, o4_0, o4_1, o4_2, o4_3, o4_4, o4_5, o4_6, o5_0, o5_1, o5_2, o5_3, o5_4, o5_5, n5, o5s_0, o5s_1, o5s_2, o5s_3, o5s_4, o5s_5, p0, s0, hsz, hgr, m1', gs, fo]
        rw [if_neg (by omega)]
    · rw [if_neg (fun z => c z.1)]
      rw [decide_eq_true (show 0 ≤ y.1 r by omega)] at gs
      obtain ⟨H2, g2, wl3, cap3, v4', i1, i2⟩ := ih (n + 1) H g wl cap y (.ref (ra r)) h hG hD lq e3 (by omega) hx hnd hz
      refine ⟨H2, g2, wl3, cap3, v4', ?_, i2⟩
      rw [← i1, c1]
      conv => lhs; rw [F5011_65]
      simp (disch := first | assumption | omega | decide | exact okF_i | exact okF_r | exact okF_n | exact okF_j | rfl) only [jc_ref, rI_int, rR_ref, rR_null, rJ_long, ckR_ref, ckR_null, ckr_ref, ckr_null, ckW_int, ckW_ref, ckW_null, cI_ok, cR_ok, cR_null, cV_ok, cJ_ok, qH_eq, qD_in, aG_ref, aS_ref, aL_ref, pF_ref, cK_ref, cK_null, zI_lit, zJ_lit, zI_add, zI_sub, zI_mul, zI_neg, zI_eq, zI_lt, zI_le, Int.reduceLT, Int.reduceLE, Int.reduceAdd, Int.reduceSub, Int.reduceMul, Int.reduceNeg, Int.reduceEq, Int.reduceNe, reduceIte, jf_in, pFc_in, aGi, aGb, aSi, aLc_in, cKc_in, nA_in, jm_s1, jm_s2, jm_p1, jm_p2, jm_b, jn_b, jn_s, jn_p, jset_jset, jset_jpush2, ckR_is, ckr_is, rR_is, ckW_is, cR_is, obi2, ckW_int, eq_self, if_true, ref_null, if_false, ne_eq, not_true_eq_false, not_false_eq_true, decide_true, decide_false, decide_not, Bool.true_and, Bool.false_and, Bool.and_true, Bool.and_false, Bool.true_or, Bool.false_or, Bool.or_true, Bool.or_false, Bool.not_true, Bool.not_false, Bool.false_eq_true, bI_t, bI_f, Int.natCast_one, Int.cast_ofNat_Int, Int.natCast_zero, o23_0, o23_1, o23_2, o12_0, o12_1, o13_0, o13_1, o13_2, o13_3, o13_4, o13_5, o13_6, o14_0, o14_1, o14_2, o14_3, o14_4, o14_5, o3_0, o3_1, o3_2, o3_3, o3_4, o11_0, o11_1, o11_2, o11_3, o4_0, o4_1, o4_2, o4_3, o4_4, o4_5, o4_6, o5_0, o5_1, o5_2, o5_3, o5_4, o5_5, n5, o5s_0, o5s_1, o5s_2, o5s_3, o5s_4, o5s_5, p0, s0, hsz, hgr, m1', gs]
      rw [if_neg (by omega)]
theorem lt_48 (hqd : F qd = none ∧ ¬ StP a qd ∧ ¬ PlP p qd) : ∀ (m : Nat) (H : AH) (g : Nat → Bool) (wl cap : Nat) (y : DQ) (v2 v3 v4 : Value), PlW F H q a p S nm ra wl g w y.1 → GS g y.1 → DqH H qd cap ra y.2 → qd < H.1 → y.2.Nodup → (∀ z ∈ y.2, AlS S z ∧ 0 ≤ y.1 z) → cn y.1 99 0 + y.2.length ≤ m →
    ∃ (H2 : AH) (g2 : Nat → Bool) (wl2 : Nat), G2 (d + 5) 5011 48 [.ref p, .ref qd, v2, v3, v4] [] H = some (.inl none, H2) ∧ PlW F H2 q a p S nm ra wl2 g2 w (letS S m y) ∧ GS g2 (letS S m y) ∧ Fr H H2 (fun z => PlP p z ∨ z = qd) ∧ H2.1 + (2 - wl2) ≤ H.1 + (2 - wl) + dqP cap ∧ H2.2.1 + 2 * (2 - wl2) ≤ H.2.1 + 2 * (2 - wl) + dqS cap := by
  intro m
  induction m with
  | zero =>
    intro H g wl cap y v2 v3 v4 h hG hD lq hnd hz hm
    have hq : y.2 = [] := List.length_eq_zero_iff.mp (by omega)
    obtain ⟨⟨hd, hh, mq⟩, hc, hl⟩ := id hD
    have em := h_qempty (d := d + 4) mq (by omega)
    rw [hq] at em
    refine ⟨H, g, wl, ?_, h, hG, Fr.rf, by omega, by omega⟩
    rw [F5011_48]
    simp (disch := first | assumption | omega | decide | exact okF_i | exact okF_r | exact okF_n | exact okF_j | rfl) only [jc_ref, rI_int, rR_ref, rR_null, rJ_long, ckR_ref, ckR_null, ckr_ref, ckr_null, ckW_int, ckW_ref, ckW_null, cI_ok, cR_ok, cR_null, cV_ok, cJ_ok, qH_eq, qD_in, aG_ref, aS_ref, aL_ref, pF_ref, cK_ref, cK_null, zI_lit, zJ_lit, zI_add, zI_sub, zI_mul, zI_neg, zI_eq, zI_lt, zI_le, Int.reduceLT, Int.reduceLE, Int.reduceAdd, Int.reduceSub, Int.reduceMul, Int.reduceNeg, Int.reduceEq, Int.reduceNe, reduceIte, jf_in, pFc_in, aGi, aGb, aSi, aLc_in, cKc_in, nA_in, jm_s1, jm_s2, jm_p1, jm_p2, jm_b, jn_b, jn_s, jn_p, jset_jset, jset_jpush2, ckR_is, ckr_is, rR_is, ckW_is, cR_is, obi2, ckW_int, eq_self, if_true, ref_null, if_false, ne_eq, not_true_eq_false, not_false_eq_true, decide_true, decide_false, decide_not, Bool.true_and, Bool.false_and, Bool.and_true, Bool.and_false, Bool.true_or, Bool.false_or, Bool.or_true, Bool.or_false, Bool.not_true, Bool.not_false, Bool.false_eq_true, bI_t, bI_f, Int.natCast_one, Int.cast_ofNat_Int, Int.natCast_zero, o23_0, o23_1, o23_2, o12_0, o12_1, o13_0, o13_1, o13_2, o13_3, o13_4, o13_5, o13_6, o14_0, o14_1, o14_2, o14_3, o14_4, o14_5, o3_0, o3_1, o3_2, o3_3, o3_4, o11_0, o11_1, o11_2, o11_3, o4_0, o4_1, o4_2, o4_3, o4_4, o4_5, o4_6, o5_0, o5_1, o5_2, o5_3, o5_4, o5_5, n5, o5s_0, o5s_1, o5s_2, o5s_3, o5s_4, o5s_5, em, List.map_nil, List.isEmpty_nil]
  | succ m ih =>
    intro H g wl cap y v2 v3 v4 h hG hD lq hnd hz hm
    obtain ⟨D, Q⟩ := y
    obtain ⟨⟨hd, hh, mq⟩, hc, hl⟩ := id hD
    have em := h_qempty (d := d + 4) mq (by omega)
    cases Q with
    | nil =>
      refine ⟨H, g, wl, ?_, h, hG, Fr.rf, by omega, by omega⟩
      rw [F5011_48]
      simp (disch := first | assumption | omega | decide | exact okF_i | exact okF_r | exact okF_n | exact okF_j | rfl) only [jc_ref, rI_int, rR_ref, rR_null, rJ_long, ckR_ref, ckR_null, ckr_ref, ckr_null, ckW_int, ckW_ref, ckW_null, cI_ok, cR_ok, cR_null, cV_ok, cJ_ok, qH_eq, qD_in, aG_ref, aS_ref, aL_ref, pF_ref, cK_ref, cK_null, zI_lit, zJ_lit, zI_add, zI_sub, zI_mul, zI_neg, zI_eq, zI_lt, zI_le, Int.reduceLT, Int.reduceLE, Int.reduceAdd, Int.reduceSub, Int.reduceMul, Int.reduceNeg, Int.reduceEq, Int.reduceNe, reduceIte, jf_in, pFc_in, aGi, aGb, aSi, aLc_in, cKc_in, nA_in, jm_s1, jm_s2, jm_p1, jm_p2, jm_b, jn_b, jn_s, jn_p, jset_jset, jset_jpush2, ckR_is, ckr_is, rR_is, ckW_is, cR_is, obi2, ckW_int, eq_self, if_true, ref_null, if_false, ne_eq, not_true_eq_false, not_false_eq_true, decide_true, decide_false, decide_not, Bool.true_and, Bool.false_and, Bool.and_true, Bool.and_false, Bool.true_or, Bool.false_or, Bool.or_true, Bool.or_false, Bool.not_true, Bool.not_false, Bool.false_eq_true, bI_t, bI_f, Int.natCast_one, Int.cast_ofNat_Int, Int.natCast_zero, o23_0, o23_1, o23_2, o12_0, o12_1, o13_0, o13_1, o13_2, o13_3, o13_4, o13_5, o13_6, o14_0, o14_1, o14_2, o14_3, o14_4, o14_5, o3_0, o3_1, o3_2, o3_3, o3_4, o11_0, o11_1, o11_2, o11_3, o4_0, o4_1, o4_2, o4_3, o4_4, o4_5, o4_6, o5_0, o5_1, o5_2, o5_3, o5_4, o5_5, n5, o5s_0, o5s_1, o5s_2, o5s_3, o5s_4, o5s_5, em, List.map_nil, List.isEmpty_nil]
    | cons x Q =>
      have hF := h.1
      obtain ⟨⟨x0, x1, x2⟩, hx⟩ := hz x List.mem_cons_self
      have hx : 0 ≤ D x := hx
      have mq' : jm H qd = some (cDQ cap hd ((.ref (ra x)) :: Q.map fun r => .ref (ra r))) := mq
      have po := h_qpoll (d := d + 4) mq' (by omega)
      obtain ⟨xe, xg, m1, m2, m3⟩ := h.row x0 x1 x2
      obtain ⟨HP, hHP⟩ : ∃ HP, HP = jset H qd (cDQ cap (if hd + 1 = cap then 0 else hd + 1) (Q.map fun r => .ref (ra r))) := ⟨_, rfl⟩
      have fP : Fr H HP (fun z => z = qd) := by rw [hHP]; exact Fr.set rfl
      have hP : PlW F HP q a p S nm ra wl g w D := h.ot fP fun z hz => by rw [hz]; exact hqd
      have HP1 : HP.1 = H.1 := by rw [hHP]; rfl
      have HP2 : HP.2.1 = H.2.1 := by rw [hHP]; rfl
      have dP : DqH HP qd cap ra Q := ⟨⟨if hd + 1 = cap then 0 else hd + 1, (by split <;> omega), by rw [hHP]; exact jm_s1⟩, hc, by simp only [List.length_cons] at hl; omega⟩
      have m1P := hP.1.m m1
      rw [List.nodup_cons] at hnd
      obtain ⟨H1, g1, wl1, cap1, v4', i1, i2, i3, i4, i5, i6, i7, i8⟩ := lt_65 (d := d) hqd x0 x1 x2 (alv S 150 99 0) 0 HP g wl cap (D, Q) v4 hP hG dP (by omega) rfl (Nat.zero_le _) hx hnd.2 (fun z hzz => hz z (List.mem_cons_of_mem _ hzz))
      have mm := (inS_n (S := S) (x := x) (alv S 150 99 0) (D, Q) (fun r hr => by have := (alv_mem 99 0 r).mp hr; omega) hx).1
      simp only [List.length_cons] at hm
      obtain ⟨H2, g2, wl2, j1, j2, j3, j4, j5, j6⟩ := ih H1 g1 wl1 cap1 (inS S x (alv S 150 99 0) (D, Q)) (.ref (ra x)) (.int (zI (alv S 150 99 0).length)) v4' i2 i3 i4 (Nat.lt_of_lt_of_le (by omega) i5.1) i6.1 i6.2 (by rw [mm]; show cn D 99 0 + Q.length ≤ m; omega)
      refine ⟨H2, g2, wl2, ?_, j2, j3, (fP.mono fun _ _ z => Or.inr z).tr (i5.tr j4), by omega, by omega⟩
      rw [← j1]
      have i1' : G2 (d + 5) 5011 65 [.ref p, .ref qd, .ref (ra x), .int (zI 0), v4] [] HP = _ := i1
      rw [← i1', F5011_48]
      simp (disch := first | assumption | omega | decide | exact okF_i | exact okF_r | exact okF_n | exact okF_j | rfl) only [jc_ref, rI_int, rR_ref, rR_null, rJ_long, ckR_ref, ckR_null, ckr_ref, ckr_null, ckW_int, ckW_ref, ckW_null, cI_ok, cR_ok, cR_null, cV_ok, cJ_ok, qH_eq, qD_in, aG_ref, aS_ref, aL_ref, pF_ref, cK_ref, cK_null, zI_lit, zJ_lit, zI_add, zI_sub, zI_mul, zI_neg, zI_eq, zI_lt, zI_le, Int.reduceLT, Int.reduceLE, Int.reduceAdd, Int.reduceSub, Int.reduceMul, Int.reduceNeg, Int.reduceEq, Int.reduceNe, reduceIte, jf_in, pFc_in, aGi, aGb, aSi, aLc_in, cKc_in, nA_in, jm_s1, jm_s2, jm_p1, jm_p2, jm_b, jn_b, jn_s, jn_p, jset_jset, jset_jpush2, ckR_is, ckr_is, rR_is, ckW_is, cR_is, obi2, ckW_int, eq_self, if_true, ref_null, if_false, ne_eq, not_true_eq_false, not_false_eq_true, decide_true, decide_false, decide_not, Bool.true_and, Bool.false_and, Bool.and_true, Bool.and_false, Bool.true_or, Bool.false_or, Bool.or_true, Bool.or_false, Bool.not_true, Bool.not_false, Bool.false_eq_true, bI_t, bI_f, Int.natCast_one, Int.cast_ofNat_Int, Int.natCast_zero, o23_0, o23_1, o23_2, o12_0, o12_1, o13_0, o13_1, o13_2, o13_3, o13_4, o13_5, o13_6, o14_0, o14_1, o14_2, o14_3, o14_4, o14_5, o3_0, o3_1, o3_2, o3_3, o3_4, o11_0, o11_1, o11_2, o11_3, o4_0, o4_1, o4_2, o4_3, o4_4, o4_5, o4_6, o5_0, o5_1, o5_2, o5_3, o5_4, o5_5, n5, o5s_0, o5s_1, o5s_2, o5s_3, o5s_4, o5s_5, em, po, List.map_cons, List.isEmpty_cons, ← hHP, m1P]
/-- rows that go, and all that follow them: how far off -/
theorem p_lets {A : List Int} (h : PlW F H q a p S nm ra wl g w sp) (hG : GS g sp) (hs : ∀ r, 0 ≤ r → r < 99 → sp r = -1) (hA : ∀ x ∈ A, AlS S x) (hn : A.Nodup) {cap : Nat} (hD : DqH H qd cap ra A) (lq : qd < H.1) (hqd : F qd = none ∧ ¬ StP a qd ∧ ¬ PlP p qd) :
    ∃ (H2 : AH) (g2 : Nat → Bool) (wl2 : Nat) (D : Int → Int), M2 (d + 6) 5011 [.ref p, .ref qd] H = some (.inl none, H2) ∧ PlW F H2 q a p S nm ra wl2 g2 w D ∧ GS g2 D ∧ BfsW S (fun r => r ∈ A) D ∧ Fr H H2 (fun z => PlP p z ∨ z = qd) ∧ H2.1 + (2 - wl2) ≤ H.1 + 1 + (2 - wl) + dqP cap ∧ H2.2.1 + 2 * (2 - wl2) ≤ H.2.1 + 4 + 2 * (2 - wl) + dqS cap := by
  have W := h.2.2.1
  have hle := alv_le W
  have hal : A.length ≤ 40 := Nat.le_trans (List.Nodup.length_le_of_subset (l₂ := alv S 150 99 0) hn fun u hu => by rw [alv_mem]; have := hA u hu; unfold AlS at this; omega) hle
  obtain ⟨⟨hd, hhd, mq⟩, hc, hl⟩ := id hD
  have p0 := h.2.2.2.2.1.1
  have p9 := h.2.2.2.2.1.2.2.2.2.1
  obtain ⟨ins, on, l1, l2, l3, wm, bs, ⟨-, -, -, -, -, s9, -⟩, -⟩ := id h.2.2.2.1
  have it0 := h_qiter (d := d + 4) mq (by omega)
  have ml : (A.map fun r => (Value.ref (ra r) : Value)).length = A.length := List.length_map _
  rw [ml] at it0
  have hit : F H.1 = none ∧ ¬ StP a H.1 ∧ ¬ PlP p H.1 := by
    refine ⟨?_, by unfold StP; omega, by unfold PlP; omega⟩
    cases hh : F H.1 with
    | none => rfl
    | some c => exact absurd (h.1.lt hh) (Nat.lt_irrefl _)
  obtain ⟨HI, hHI⟩ : ∃ HI, HI = jpush H (64, 4, oDt (hd : Int) (A.length : Nat) (-1) qd) := ⟨_, rfl⟩
  have fI : Fr H HI (fun _ => False) := by rw [hHI]; exact Fr.push
  have hI : PlW F HI q a p S nm ra wl g w sp := h.ot fI fun _ z => z.elim
  have HI1 : HI.1 = H.1 + 1 := by rw [hHI]; rfl
  have HI2 : HI.2.1 = H.2.1 + 4 := by rw [hHI]; rfl
  have mqI : jm HI qd = some (cDQ cap hd (A.map fun r => .ref (ra r))) := (fI.2.2 qd lq id).trans mq
  have miI : jm HI H.1 = some (64, 4, oDt ((hd + 0) % cap : Nat) (A.length - 0 : Nat) (-1) qd) := by
    rw [hHI, jm_p1, Nat.add_zero, Nat.mod_eq_of_lt hhd, Nat.sub_zero]
  have hqn : H.1 ≠ qd := by omega
  obtain ⟨H1, g1, sp1, wl1, v3', i1, i2, i3, i4, i5, i6, i7, i8⟩ := lt_5 (d := d + 1) (qd := qd) (it := H.1) (A := A) hA hhd (by omega) hl hqd hit hqn A 0 HI g sp wl (-1) jno hI hG rfl (Nat.zero_le _) mqI miI (by omega) (by omega)
  have sp1' : ∀ r, 0 ≤ r → r < 99 → sp1 r = if r ∈ A then 0 else -1 := fun r r0 r1 => by rw [i4 r, hs r r0 r1]
  have q0 : QueW S (fun r => r ∈ A) (sp1, A) := by
    refine ⟨fun r r0 r1 => ?_, fun r ha hr => ?_, fun r ha hr h0 => ?_, fun r q ha he hq hn => ?_, fun z hz => ?_, ?_, fun z hz r ha => ?_⟩
    · show -1 ≤ sp1 r ∧ (_ → sp1 r = -1)
      rw [sp1' r r0 r1]
      by_cases c : r ∈ A
      · rw [if_pos c]; exact ⟨by decide, fun z => absurd (hA r c).2.2 z⟩
      · rw [if_neg c]; exact ⟨by decide, fun _ => rfl⟩
    · show sp1 r = 0
      rw [sp1' r ha.1 ha.2.1, if_pos hr]
    · have h0 : 0 ≤ sp1 r := h0
      rw [sp1' r ha.1 ha.2.1, if_neg hr] at h0; omega
    · have hq : 0 ≤ sp1 q := hq
      rw [sp1' q he.al.1 he.al.2.1, if_neg hn] at hq; omega
    · exact ⟨hA z hz, by show 0 ≤ sp1 z; rw [sp1' z (hA z hz).1 (hA z hz).2.1, if_pos hz]; exact Int.le_refl _⟩
    · refine List.Pairwise.imp_of_mem (fun {a b} ha hb _ => ?_) hn
      show sp1 a ≤ sp1 b
      rw [sp1' a (hA a ha).1 (hA a ha).2.1, sp1' b (hA b hb).1 (hA b hb).2.1, if_pos ha, if_pos hb]
      exact Int.le_refl _
    · show sp1 r ≤ sp1 z + 1
      rw [sp1' r ha.1 ha.2.1, sp1' z (hA z hz).1 (hA z hz).2.1, if_pos hz]
      split <;> omega
  obtain ⟨H2, g2, wl2, j1, j2, j3, j4, j5, j6⟩ := lt_48 (d := d) hqd (cn sp1 99 0 + A.length) H1 g1 wl1 cap (sp1, A) (.ref H.1) v3' jno i2 i3 ⟨⟨hd, hhd, i5⟩, hc, hl⟩ (Nat.lt_of_lt_of_le (by omega) i6.1) hn (fun z hz => q0.2.2.2.2.1 z hz) (Nat.le_refl _)
  refine ⟨H2, g2, wl2, _, ?_, j2, j3, let_bfs W _ _ (Nat.le_refl _) q0, ?_, by omega, by omega⟩
  · rw [Y5011 H rfl (jrecv_in p0 rfl), F5011_0]
    simp (disch := first | assumption | omega | decide | exact okF_i | exact okF_r | exact okF_n | exact okF_j | rfl) only [jc_ref, rI_int, rR_ref, rR_null, rJ_long, ckR_ref, ckR_null, ckr_ref, ckr_null, ckW_int, ckW_ref, ckW_null, cI_ok, cR_ok, cR_null, cV_ok, cJ_ok, qH_eq, qD_in, aG_ref, aS_ref, aL_ref, pF_ref, cK_ref, cK_null, zI_lit, zJ_lit, zI_add, zI_sub, zI_mul, zI_neg, zI_eq, zI_lt, zI_le, Int.reduceLT, Int.reduceLE, Int.reduceAdd, Int.reduceSub, Int.reduceMul, Int.reduceNeg, Int.reduceEq, Int.reduceNe, reduceIte, jf_in, pFc_in, aGi, aGb, aSi, aLc_in, cKc_in, nA_in, jm_s1, jm_s2, jm_p1, jm_p2, jm_b, jn_b, jn_s, jn_p, jset_jset, jset_jpush2, ckR_is, ckr_is, rR_is, ckW_is, cR_is, obi2, ckW_int, eq_self, if_true, ref_null, if_false, ne_eq, not_true_eq_false, not_false_eq_true, decide_true, decide_false, decide_not, Bool.true_and, Bool.false_and, Bool.and_true, Bool.and_false, Bool.true_or, Bool.false_or, Bool.or_true, Bool.or_false, Bool.not_true, Bool.not_false, Bool.false_eq_true, bI_t, bI_f, Int.natCast_one, Int.cast_ofNat_Int, Int.natCast_zero, o23_0, o23_1, o23_2, o12_0, o12_1, o13_0, o13_1, o13_2, o13_3, o13_4, o13_5, o13_6, o14_0, o14_1, o14_2, o14_3, o14_4, o14_5, o3_0, o3_1, o3_2, o3_3, o3_4, o11_0, o11_1, o11_2, o11_3, o4_0, o4_1, o4_2, o4_3, o4_4, o4_5, o4_6, o5_0, o5_1, o5_2, o5_3, o5_4, o5_5, n5, o5s_0, o5s_1, o5s_2, o5s_3, o5s_4, o5s_5, it0]
    rw [← hHI]
    exact i1.trans j1
  · exact (fI.mono fun _ _ z => z.elim).new ((i6.mono fun z _ hz => hz.elim (fun hz => Or.inl (Or.inl hz)) (fun hz => Or.inr (by omega))).tr (j4.mono fun z _ hz => Or.inl hz))
end
