/-! a store by the twin's ints; a statement, a line of a book, done to it -/
-- jc_ref, rI_int, rR_ref, rR_null, rJ_long, ckR_ref, ckR_null, ckr_ref, ckr_null, ckW_int, ckW_ref, ckW_null, cI_ok, cR_ok, cR_null, cV_ok, cJ_ok, qH_eq, qD_in, aG_ref, aS_ref, aL_ref, pF_ref, cK_ref, cK_null, zI_lit, zJ_lit, zI_add, zI_sub, zI_mul, zI_neg, zI_eq, zI_lt, zI_le, Int.reduceLT, Int.reduceLE, Int.reduceAdd, Int.reduceSub, Int.reduceMul, Int.reduceNeg, Int.reduceEq, Int.reduceNe, reduceIte, jf_in, pFc_in, aGi, aGb, aSi, aLc_in, cKc_in, nA_in, jm_s1, jm_s2, jm_p1, jm_p2, jm_b, jn_b, jn_s, jn_p, jset_jset, jset_jpush2, ckR_is, ckr_is, rR_is, ckW_is, cR_is, obi2, ckW_int, eq_self, if_true, ref_null, if_false, ne_eq, not_true_eq_false, not_false_eq_true, decide_true, decide_false, decide_not, Bool.true_and, Bool.false_and, Bool.and_true, Bool.and_false, Bool.true_or, Bool.false_or, Bool.or_true, Bool.or_false, Bool.not_true, Bool.not_false, Bool.false_eq_true, bI_t, bI_f, Int.natCast_one, Int.cast_ofNat_Int, Int.natCast_zero, o23_0, o23_1, o23_2, n23, o23s_0, o23s_1, o23s_2, o4_0, o4_1, o4_2, o4_3, o4_4, o4_5, o4_6, n4, o4s_0, o4s_1, o4s_2, o4s_3, o4s_4, o4s_5, o4s_6, o24_0, o24_1, o24_2, o24_3, o26_0, o28_0, o22_0, o22_1, o22_2, o22_3, o22_4, o22_5, o47_0, o47_1, o47_2, o47_3, n47, o47s_0, o47s_1, o47s_2, o47s_3 = jc_ref, rI_int, rR_ref, rR_null, rJ_long, ckR_ref, ckR_null, ckr_ref, ckr_null, ckW_int, ckW_ref, ckW_null, cI_ok, cR_ok, cR_null, cV_ok, cJ_ok, qH_eq, qD_in, aG_ref, aS_ref, aL_ref, pF_ref, cK_ref, cK_null, zI_lit, zJ_lit, zI_add, zI_sub, zI_mul, zI_neg, zI_eq, zI_lt, zI_le, Int.reduceLT, Int.reduceLE, Int.reduceAdd, Int.reduceSub, Int.reduceMul, Int.reduceNeg, Int.reduceEq, Int.reduceNe, reduceIte, jf_in, pFc_in, aGi, aGb, aSi, aLc_in, cKc_in, nA_in, jm_s1, jm_s2, jm_p1, jm_p2, jm_b, jn_b, jn_s, jn_p, jset_jset, jset_jpush2, ckR_is, ckr_is, rR_is, ckW_is, cR_is, obi2, ckW_int, eq_self, if_true, ref_null, if_false, ne_eq, not_true_eq_false, not_false_eq_true, decide_true, decide_false, decide_not, Bool.true_and, Bool.false_and, Bool.and_true, Bool.and_false, Bool.true_or, Bool.false_or, Bool.or_true, Bool.or_false, Bool.not_true, Bool.not_false, Bool.false_eq_true, bI_t, bI_f, Int.natCast_one, Int.cast_ofNat_Int, Int.natCast_zero, o23_0, o23_1, o23_2, n23, o23s_0, o23s_1, o23s_2, o4_0, o4_1, o4_2, o4_3, o4_4, o4_5, o4_6, n4, o4s_0, o4s_1, o4s_2, o4s_3, o4s_4, o4s_5, o4s_6, o24_0, o24_1, o24_2, o24_3, o26_0, o28_0, o22_0, o22_1, o22_2, o22_3, o22_4, o22_5, o47_0, o47_1, o47_2, o47_3, n47, o47s_0, o47s_1, o47s_2, o47s_3
section
variable {F G : Nat → Option Cl} {l : List Value} {S S' : Int → Int} {at_ ct at' ct' : Int} {ra : Int → Nat} {b : Nat} {r t : Int} {cs cs' : Int → Int}
theorem RowF.cg (h : RowF F b r t cs) (e : ∀ c, 0 ≤ c → c < 4 → cs' c = cs c) : RowF F b r t cs' := by
  obtain ⟨u, g, h1, h2, h3⟩ := h
  exact ⟨u, g, h1, h2, fun c c0 c1 => (h3 c c0 c1).trans (e c c0 c1).symm⟩
/-- rows as other ints tell them -/
theorem RowsF.mv (h : RowsF F l S at_ ct ra) (e1 : ∀ r, 0 ≤ r → r < 99 → S' (at' + r) = S (at_ + r)) (e2 : ∀ r, 0 ≤ r → r < 99 → S (at_ + r) = 1 → S' (249 + r) = S (249 + r) ∧ ∀ c, 0 ≤ c → c < 4 → S' (ct' + 4 * r + c) = S (ct + 4 * r + c)) : RowsF F l S' at' ct' ra := by
  obtain ⟨h1, h2⟩ := h
  refine ⟨?_, fun r r0 r1 r2 => ?_⟩
  · rw [h1, alv_cg (S := S) (S' := S') (at_ := at_) (bt := at') 99 0 fun i i0 i1 => by rw [e1 i i0 (by omega)]]
  · rw [e1 r r0 r1] at r2
    obtain ⟨a1, a2⟩ := e2 r r0 r1 r2
    rw [a1]
    exact (h2 r r0 r1 r2).cg a2
/-- no rows -/
theorem RowsF.nil (e : ∀ r, 0 ≤ r → r < 99 → S (at_ + r) ≠ 1) : RowsF F [] S at_ ct ra := by
  refine ⟨?_, fun r r0 r1 r2 => absurd r2 (e r r0 r1)⟩
  have : alv S at_ 99 0 = [] := List.eq_nil_iff_forall_not_mem.mpr fun x hx => by
    have := (alv_mem 99 0 x).mp hx
    exact e x (by omega) (by omega) this.2.2
  rw [this]; rfl
theorem rows_le {n : Nat} (h : RowsF F l S at_ ct ra) (ha : ∀ r, 0 ≤ r → r < 99 → S (at_ + r) = 0 ∨ S (at_ + r) = 1) (hc : cntA S at_ 99 0 ≤ 40) : l.length ≤ 40 := by
  have := alv_len (S := S) (at_ := at_) 99 0 fun i i0 i1 => ha i i0 (by omega)
  rw [h.1, List.length_map]
  omega
end
/-- a store, what is ahead of its transaction too -/
def StR (B : Nat → Prop) (H : AH) (a q : Nat) (S : Int → Int) : Prop := ∃ (l1 l2 l3 : List Value) (wl : Nat) (bs : Nat → Bool) (ra rb : Int → Nat), SH H a (.ref q) (S 148) (S 149) l1 l2 l3 wl bs ∧ RowsF (Fz B H) l1 S 150 348 ra ∧ RowsF (Fz B H) l2 S 744 843 rb
/-- a plan, whatever it has laid -/
def PlG (H : AH) (p : Nat) : Prop := ∃ (v0 : Value) (wl : Nat) (g : Nat → Bool) (f0 gs : Int → Int) (cl mo : Int), jm H p = some (5, 6, o5 v0 (.ref (p + 1)) (.ref (p + 3)) (.ref (p + 4)) cl mo) ∧ jm H (p + 1) = some (cBS wl g) ∧ jm H (p + 3) = some (1000, 396, aI (cw f0)) ∧ jm H (p + 4) = some (1000, 99, aI gs) ∧ (1 ≤ wl ∧ wl ≤ 2) ∧ (mo = 0 ∨ mo = 1) ∧ p + 4 < H.1
section
variable {d : Nat} {H H2 : AH} {F : Nat → Option Cl} {a b q p wl n : Nat} {r ins on k : Int} {v : Value} {l1 l2 l3 : List Value} {bs : Nat → Bool} {S S' nm : Int → Int} {ra : Int → Nat} {B P : Nat → Prop} {T : Nat → Int → Int} {to : Int}
theorem StR.fr (h : StR B H a q S) (fr : Fr H H2 P) (hp : ∀ z, StP a z → ¬ P z) (hB : ∀ z, z < H.1 → P z → B z) : StR B H2 a q S := by
  obtain ⟨l1, l2, l3, wl, bs, ra, rb, h1, h2, h3⟩ := h
  exact ⟨l1, l2, l3, wl, bs, ra, rb, h1.fr fr hp, h2.sub (Fz_sub fr hB), h3.sub (Fz_sub fr hB)⟩
theorem StR.cg (h : StR B H a q S) (e : ∀ i, 148 ≤ i → i < 1239 → S' i = S i) : StR B H a q S' := by
  obtain ⟨l1, l2, l3, wl, bs, ra, rb, h1, h2, h3⟩ := h
  refine ⟨l1, l2, l3, wl, bs, ra, rb, by rw [e 148 (by omega) (by omega), e 149 (by omega) (by omega)]; exact h1, h2.mv (fun r r0 r1 => e _ (by omega) (by omega)) (fun r r0 r1 _ => ⟨e _ (by omega) (by omega), fun c c0 c1 => e _ (by omega) (by omega)⟩), h3.mv (fun r r0 r1 => e _ (by omega) (by omega)) (fun r r0 r1 _ => ⟨e _ (by omega) (by omega), fun c c0 c1 => e _ (by omega) (by omega)⟩)⟩
theorem PlG.fr (h : PlG H p) (fr : Fr H H2 P) (hp : ∀ z, PlP p z → ¬ P z) : PlG H2 p := by
  obtain ⟨v0, wl, g, f0, gs, cl, mo, h1, h2, h3, h4, h5, h6, h7⟩ := h
  have key : ∀ z, PlP p z → jm H2 z = jm H z := fun z hz => fr.2.2 z (by unfold PlP at hz; omega) (hp z hz)
  exact ⟨v0, wl, g, f0, gs, cl, mo, (key _ (by unfold PlP; omega)).trans h1, (key _ (by unfold PlP; omega)).trans h2, (key _ (by unfold PlP; omega)).trans h3, (key _ (by unfold PlP; omega)).trans h4, h5, h6, Nat.lt_of_lt_of_le h7 fr.1⟩
theorem PH.g {g : Nat → Bool} {w : WS} {D : Int → Int} (h : PH H p a wl g w D) : PlG H p := by
  obtain ⟨h1, h2, h3, h4, h5, ⟨h6, h7, -⟩, h8⟩ := h
  exact ⟨_, wl, g, w.1, D, _, _, h1, h2, h3, h4, ⟨h6, h7⟩, h8.2.2, h5⟩
theorem rw2 (W : StW S) : (∀ r, 0 ≤ r → r < 99 → S (744 + r) = 0 ∨ S (744 + r) = 1) ∧ cntA S 744 99 0 ≤ 40 := ⟨fun r r0 r1 => (W.2.1 r r0 r1).2.1.1, W.2.2.2.2.2.2.2⟩
theorem rw1 (W : StW S) : (∀ r, 0 ≤ r → r < 99 → S (150 + r) = 0 ∨ S (150 + r) = 1) ∧ cntA S 150 99 0 ≤ 40 := ⟨fun r r0 r1 => W.al r0 r1, W.2.2.2.2.2.2.1⟩
set_option maxRecDepth 8000 in
/-- a statement is done to a store -/
theorem st_does (hBa : ∀ z, StP a z → B z) (hBp : ∀ z, PlP p z → B z) (hBl : ∀ z, B z → z < H.1) (W : StW (T 2)) (hA : AhW (T 12)) (hL : LnW (T 2) (T 5) to) (h35 : T 0 35 = 0 ∨ T 0 35 = 1)
    (hS : SchF (Fz B H) q (T 2) nm) (hSt : StmF (Fz B H) b (T 2) (T 5) to) (hR : StR B H a q (T 2)) (hP : PlG H p) (hap : a + 8 < p ∨ p + 4 < a) :
    ∃ (H2 : AH) (ll : Nat) (tou : Int) (S2 : Int → Int) (V : List Vi) (wl2 : Nat) (g : Nat → Bool) (w : WS) (D : Int → Int), M2 (d + 15) 16000 [.ref b, .ref a, .ref p] H = some (.inl (some (.ref H.1)), H2) ∧ Fr H H2 (fun z => StP a z ∨ PlP p z) ∧
      VdH H2 H.1 (judT T to).1 ((judT T to).2 0 31) ((judT T to).2 0 32) (if (judT T to).1 = 5 then 0 else (judT T to).2 0 33) tou ll ∧ ((judT T to).1 = 0 → tou = (judT T to).2 0 32 + (judT T to).2 0 33 + (if T 5 to = 0 then 1 else 0)) ∧
      VLat S2 H2 H.1 ll V ∧ VioT (judT T to).2 V ∧ PH H2 p a wl2 g w D ∧ GS g D ∧ (∀ r, 0 ≤ r → r < 99 → D r = (judT T to).2 13 r) ∧ StR B H2 a q ((judT T to).2 2) ∧
      (H2.1 : Int) ≤ H.1 + 98 + 80 * pvS (T 2) ∧ (H2.2.1 : Int) ≤ H.2.1 + 474 + 360 * pvS (T 2) := by
  obtain ⟨l1, l2, l3, wm, bs, ra, rb, r1, r2, r3⟩ := hR
  obtain ⟨v0, wl, g0, f0, gs, cl, mo, p1, p2, p3, p4, p5, p6, -⟩ := hP
  obtain ⟨H2, e1, ll, tou, S2, V, wl2, g, w, D, m1, m3, rx, d1, d2, d3, d4, d5, d6, d7, d8, d9, d10, d11, d12, d13⟩ := c_does (d := d) hBa hBp hBl W hA hL h35 hS hSt r1 r2 p1 p2 p3 p4 p5 p6 hap
  have J := judT_W W hA hL h35
  have l26 := jud_26 W hA hL h35
  have lV : (V.length : Int) ≤ 40 * pvS (T 2) := by rw [← d5.1]; exact l26
  have frB : ∀ z, z < H.1 → (StP a z ∨ PlP p z) → B z := fun z _ h => h.elim (hBa z) (hBp z)
  have jd2 := J.2.2.2.2.2.1
  have hN : ∀ r, 0 ≤ r → r < 99 → T 2 (744 + r) = 1 → r ≠ T 2 148 := fun r r0 r1 r2 => by
    have := ((W.2.1 r r0 r1).2.1.2 r2).2.1
    omega
  refine ⟨H2, ll, tou, S2, V, wl2, g, w, D, e1, d1, d2, d3, d4, d5, d6, d7, d8, ⟨m1, l2, m3, wm, bs, rx, rb, d9, d10, ?_⟩, by omega, by omega⟩
  exact (r3.sub (Fz_sub d1 frB)).mv (fun r r0 r1 => jd2 _ (by omega)) (fun r r0 r1 r2 => ⟨jud_ta W hA hL h35 r0 r1 (hN r r0 r1 r2), fun c c0 c1 => jd2 _ (by omega)⟩)
/-- a transaction begins -/
theorem tu_begin (hBa : ∀ z, StP a z → B z) (W : StW S) (hR : StR B H a q S) : ∃ H2, M2 (d + 3) 4009 [.ref a] H = some (.inl none, H2) ∧ Fr H H2 (fun z => StP a z) ∧ H2.1 = H.1 ∧ H2.2.1 = H.2.1 ∧ StR B H2 a q (bgS S) := by
  obtain ⟨l1, l2, l3, wm, bs, ra, rb, r1, r2, r3⟩ := hR
  have le := rows_le (n := 0) r2 (rw1 W).1 (rw1 W).2
  obtain ⟨H2, e1, e2, e3, e4, e5⟩ := c_opens (d := d) r1 (RwL.of r2 Fz_F le)
  have fr : Fr H H2 (fun z => StP a z) := e3.mono fun z _ h => by unfold StP; omega
  have sb : Sub (Fz B H) (Fz B H2) := Fz_sub fr fun z _ h => hBa z h
  have w5 := W.2.2.2.2.1
  refine ⟨H2, e1, fr, e4, e5, l1, l1, l3, wm, bs, ra, ra, by rw [bgS_at, if_neg (by omega), if_neg (by omega), if_neg (by omega), bgS_at, if_neg (by omega), if_neg (by omega), if_pos rfl]; exact e2, (r2.sub sb).mv (fun r r0 r1 => ?_) (fun r r0 r1 _ => ⟨?_, fun c c0 c1 => ?_⟩), (r2.sub sb).mv (fun r r0 r1 => ?_) (fun r r0 r1 _ => ⟨?_, fun c c0 c1 => ?_⟩)⟩
  · rw [bgS_at, if_neg (by omega), if_neg (by omega), if_neg (by omega)]
  · rw [bgS_at, if_neg (by omega), if_neg (by omega), if_neg (by omega)]
  · rw [bgS_at, if_neg (by omega), if_neg (by omega), if_neg (by omega)]
  · rw [bgS_at, if_neg (by omega), if_pos (by omega), show 744 + r + -594 = 150 + r by omega]
  · rw [bgS_at, if_neg (by omega), if_neg (by omega), if_neg (by omega)]
  · rw [bgS_at, if_pos (by omega), show 843 + 4 * r + c + -495 = 348 + 4 * r + c by omega]
/-- it is committed -/
theorem tu_commit (hBa : ∀ z, StP a z → B z) (W : StW S) (hR : StR B H a q S) : ∃ H2, M2 (d + 2) 4002 [.ref a] H = some (.inl none, H2) ∧ Fr H H2 (fun z => StP a z) ∧ H2.1 = H.1 ∧ H2.2.1 = H.2.1 ∧ StR B H2 a q (clS (fset S 149 0)) := by
  obtain ⟨l1, l2, l3, wm, bs, ra, rb, r1, r2, r3⟩ := hR
  obtain ⟨H2, e1, e2, e3, e4, e5⟩ := c_closes (d := d) r1
  have fr : Fr H H2 (fun z => StP a z) := e3.mono fun z _ h => by unfold StP; omega
  have sb : Sub (Fz B H) (Fz B H2) := Fz_sub fr fun z _ h => hBa z h
  refine ⟨H2, e1, fr, e4, e5, l1, [], l3, wm, bs, ra, ra, by rw [clS_at, if_neg (by omega), fset_ne (by omega), clS_at, if_neg (by omega), fset_eq]; exact e2, (r2.sub sb).mv (fun r r0 r1 => ?_) (fun r r0 r1 _ => ⟨?_, fun c c0 c1 => ?_⟩), RowsF.nil fun r r0 r1 => ?_⟩
  · rw [clS_at, if_neg (by omega), fset_ne (by omega)]
  · rw [clS_at, if_neg (by omega), fset_ne (by omega)]
  · rw [clS_at, if_neg (by omega), fset_ne (by omega)]
  · rw [clS_at, if_pos (by omega)]; decide
/-- it goes back -/
theorem tu_back (hBa : ∀ z, StP a z → B z) (W : StW S) (hR : StR B H a q S) : ∃ H2, M2 (d + 3) 4005 [.ref a] H = some (.inl none, H2) ∧ Fr H H2 (fun z => StP a z) ∧ H2.1 = H.1 ∧ H2.2.1 = H.2.1 ∧ StR B H2 a q (bkS S) := by
  obtain ⟨l1, l2, l3, wm, bs, ra, rb, r1, r2, r3⟩ := hR
  have le := rows_le (n := 0) r3 (rw2 W).1 (rw2 W).2
  obtain ⟨H2, e1, e2, e3, e4, e5⟩ := c_goesBack (d := d) r1 (RwL.of r3 Fz_F le)
  have fr : Fr H H2 (fun z => StP a z) := e3.mono fun z _ h => by unfold StP; omega
  have sb : Sub (Fz B H) (Fz B H2) := Fz_sub fr fun z _ h => hBa z h
  refine ⟨H2, e1, fr, e4, e5, l2, [], l3, wm, bs, rb, ra, by rw [bkS_at, if_neg (by omega), if_neg (by omega), if_neg (by omega), if_neg (by omega), bkS_at, if_neg (by omega), if_neg (by omega), if_neg (by omega), if_pos rfl]; exact e2, (r3.sub sb).mv (fun r r0 r1 => ?_) (fun r r0 r1 _ => ⟨?_, fun c c0 c1 => ?_⟩), RowsF.nil fun r r0 r1 => ?_⟩
  · rw [bkS_at, if_neg (by omega), if_neg (by omega), if_pos (by omega), show 150 + r + 594 = 744 + r by omega]
  · rw [bkS_at, if_neg (by omega), if_neg (by omega), if_neg (by omega), if_neg (by omega)]
  · rw [bkS_at, if_neg (by omega), if_pos (by omega), show 348 + 4 * r + c + 495 = 843 + 4 * r + c by omega]
  · rw [bkS_at, if_pos (by omega)]; decide
theorem c_viol0b (W : StW S) (hS : SchF (Fz B H) q S nm) (hR : StR B H a q S) : ∃ H2 ll, M2 (d + 14) 4012 [.ref a, .int (zI 1)] H = some (.inl (some (.ref ll)), H2) ∧ ll = H.1 ∧ VLat S H2 H.1 ll (violS S true) ∧ Fr H H2 (fun _ => False) ∧ (H2.1 : Int) ≤ H.1 + 8 + 80 * pvS S ∧ (H2.2.1 : Int) ≤ H.2.1 + 37 + 360 * pvS S := by
  obtain ⟨l1, l2, l3, wm, bs, ra, rb, r1, r2, r3⟩ := hR
  obtain ⟨H2, v1, v2, v3, v4, v5⟩ := c_viol (d := d) W Fz_F hS (r1.sq r2) (late := true)
  rw [bZ_t] at v1
  have vl := viol_len W (late := true)
  exact ⟨H2, H.1, v1, rfl, v2, v3, by omega, by omega⟩
/-- is a list of violations without any -/
theorem c_vempty {V : List Vi} {lo ll : Nat} (h : VLat S H lo ll V) : MvH (d + 2) 9131 [.ref ll] H = some (.inl (some (.int (zI (bZ V.isEmpty)))), H) := by
  obtain ⟨ns, vs, k1, ⟨k2, k3⟩, k4, k5, k6⟩ := h
  obtain ⟨⟨mc, km⟩, -⟩ := id k1
  have em := ll_empty (d := d) k1
  have mv : MvH (d + 2) 9131 [.ref ll] H = M2 (d + 2) 41000 [.ref ll] H := by simp only [MvH, km]; rfl
  rw [mv, em]
  have : vs.isEmpty = V.isEmpty := by
    cases V with
    | nil => rw [List.length_eq_zero_iff.mp k5]; rfl
    | cons x V => cases vs with
      | nil => simp at k5
      | cons => rfl
  rw [this, bI_int]
def tuV (k : Int) (S : Int → Int) : Int := if k = 0 then (if S 149 = 0 then 0 else 11) else if k = 1 then (if S 149 = 0 then 21 else if violS S true = [] then 0 else 22) else (if S 149 = 1 then 0 else 31)
def tuS (k : Int) (S : Int → Int) : Int → Int := if k = 0 then (if S 149 = 0 then bgS S else S) else if k = 1 then (if S 149 = 0 then S else if violS S true = [] then clS (fset S 149 0) else S) else (if S 149 = 1 then bkS S else S)
theorem tu_00 (c : S 149 = 0) : tuV 0 S = 0 ∧ tuS 0 S = bgS S := by unfold tuV tuS; rw [if_pos rfl, if_pos c, if_pos rfl, if_pos c]; exact ⟨rfl, rfl⟩
theorem tu_01 (c : ¬ S 149 = 0) : tuV 0 S = 11 ∧ tuS 0 S = S := by unfold tuV tuS; rw [if_pos rfl, if_neg c, if_pos rfl, if_neg c]; exact ⟨rfl, rfl⟩
theorem tu_10 (c : S 149 = 0) : tuV 1 S = 21 ∧ tuS 1 S = S := by unfold tuV tuS; rw [if_neg (by decide), if_pos rfl, if_pos c, if_neg (by decide), if_pos rfl, if_pos c]; exact ⟨rfl, rfl⟩
theorem tu_11 (c : ¬ S 149 = 0) (v : violS S true = []) : tuV 1 S = 0 ∧ tuS 1 S = clS (fset S 149 0) := by unfold tuV tuS; rw [if_neg (by decide), if_pos rfl, if_neg c, if_pos v, if_neg (by decide), if_pos rfl, if_neg c, if_pos v]; exact ⟨rfl, rfl⟩
theorem tu_12 (c : ¬ S 149 = 0) (v : ¬ violS S true = []) : tuV 1 S = 22 ∧ tuS 1 S = S := by unfold tuV tuS; rw [if_neg (by decide), if_pos rfl, if_neg c, if_neg v, if_neg (by decide), if_pos rfl, if_neg c, if_neg v]; exact ⟨rfl, rfl⟩
theorem tu_20 (c : S 149 = 1) : tuV 2 S = 0 ∧ tuS 2 S = bkS S := by unfold tuV tuS; rw [if_neg (by decide), if_neg (by decide), if_pos c, if_neg (by decide), if_neg (by decide), if_pos c]; exact ⟨rfl, rfl⟩
theorem tu_21 (c : ¬ S 149 = 1) : tuV 2 S = 31 ∧ tuS 2 S = S := by unfold tuV tuS; rw [if_neg (by decide), if_neg (by decide), if_neg c, if_neg (by decide), if_neg (by decide), if_neg c]; exact ⟨rfl, rfl⟩
set_option maxRecDepth 8000 in
/-- begin, commit, back -/
theorem tu_does (hBa : ∀ z, StP a z → B z) (hBl : ∀ z, B z → z < H.1) (W : StW S) (hS : SchF (Fz B H) q S nm) (hR : StR B H a q S) (hm : jm H b = some (26, 1, o26 k)) (hk : k = 0 ∨ k = 1 ∨ k = 2) (hb : ¬ StP a b) (hbl : b < H.1) :
    ∃ H2, M2 (d + 15) 26000 [.ref b, .ref a, .ref p] H = some (.inl (some (.int (zI (tuV k S)))), H2) ∧ Fr H H2 (fun z => StP a z) ∧ StR B H2 a q (tuS k S) ∧ (H2.1 : Int) ≤ H.1 + 8 + 80 * pvS S ∧ (H2.2.1 : Int) ≤ H.2.1 + 37 + 360 * pvS S := by
  have N := W.n0
  have p0 : 0 ≤ pvS S := by unfold pvS; omega
  have on := W.2.2.2.2.2.1
  have rv : (jtRecv 26000).elem 26 = true := rfl
  have a0 : jm H a = some (4, 7, o4 (.ref q) (S 148) (S 149) (.ref (a + 1)) (.ref (a + 3)) (.ref (a + 5)) (.ref (a + 7))) := by
    obtain ⟨l1, l2, l3, wm, bs, ra, rb, r1, -⟩ := hR; exact r1.1
  have e4 : ([4] : List Nat).elem 4 = true := rfl
  have e26 : ([26] : List Nat).elem 26 = true := rfl
  rw [Y26000 H rfl rfl (jrecv_in hm rv), F26000_0]
  rcases hk with rfl | rfl | rfl
  · rcases on with e | e
    · obtain ⟨v1, v2⟩ := tu_00 e
      rw [v1, v2]
      rw [e] at a0
      obtain ⟨H2, t1, t2, t3, t4, t5⟩ := tu_begin (d := d + 11) hBa W hR
      have m2 : jm H2 b = some (26, 1, o26 0) := (t2.2.2 b hbl hb).trans hm
      refine ⟨H2, ?_, t2, t5, by omega, by omega⟩
      simp (disch := first | assumption | omega | decide | exact okF_i | exact okF_r | exact okF_n | exact okF_j | rfl) only [jc_ref, rI_int, rR_ref, rR_null, rJ_long, ckR_ref, ckR_null, ckr_ref, ckr_null, ckW_int, ckW_ref, ckW_null, cI_ok, cR_ok, cR_null, cV_ok, cJ_ok, qH_eq, qD_in, aG_ref, aS_ref, aL_ref, pF_ref, cK_ref, cK_null, zI_lit, zJ_lit, zI_add, zI_sub, zI_mul, zI_neg, zI_eq, zI_lt, zI_le, Int.reduceLT, Int.reduceLE, Int.reduceAdd, Int.reduceSub, Int.reduceMul, Int.reduceNeg, Int.reduceEq, Int.reduceNe, reduceIte, jf_in, pFc_in, aGi, aGb, aSi, aLc_in, cKc_in, nA_in, jm_s1, jm_s2, jm_p1, jm_p2, jm_b, jn_b, jn_s, jn_p, jset_jset, jset_jpush2, ckR_is, ckr_is, rR_is, ckW_is, cR_is, obi2, ckW_int, eq_self, if_true, ref_null, if_false, ne_eq, not_true_eq_false, not_false_eq_true, decide_true, decide_false, decide_not, Bool.true_and, Bool.false_and, Bool.and_true, Bool.and_false, Bool.true_or, Bool.false_or, Bool.or_true, Bool.or_false, Bool.not_true, Bool.not_false, Bool.false_eq_true, bI_t, bI_f, Int.natCast_one, Int.cast_ofNat_Int, Int.natCast_zero, o23_0, o23_1, o23_2, n23, o23s_0, o23s_1, o23s_2, o4_0, o4_1, o4_2, o4_3, o4_4, o4_5, o4_6, n4, o4s_0, o4s_1, o4s_2, o4s_3, o4s_4, o4s_5, o4s_6, o24_0, o24_1, o24_2, o24_3, o26_0, o28_0, o22_0, o22_1, o22_2, o22_3, o22_4, o22_5, o47_0, o47_1, o47_2, o47_3, n47, o47s_0, o47s_1, o47s_2, o47s_3, a0, hm]
      rw [F26000_16]
      simp (disch := first | assumption | omega | decide | exact okF_i | exact okF_r | exact okF_n | exact okF_j | rfl) only [jc_ref, rI_int, rR_ref, rR_null, rJ_long, ckR_ref, ckR_null, ckr_ref, ckr_null, ckW_int, ckW_ref, ckW_null, cI_ok, cR_ok, cR_null, cV_ok, cJ_ok, qH_eq, qD_in, aG_ref, aS_ref, aL_ref, pF_ref, cK_ref, cK_null, zI_lit, zJ_lit, zI_add, zI_sub, zI_mul, zI_neg, zI_eq, zI_lt, zI_le, Int.reduceLT, Int.reduceLE, Int.reduceAdd, Int.reduceSub, Int.reduceMul, Int.reduceNeg, Int.reduceEq, Int.reduceNe, reduceIte, jf_in, pFc_in, aGi, aGb, aSi, aLc_in, cKc_in, nA_in, jm_s1, jm_s2, jm_p1, jm_p2, jm_b, jn_b, jn_s, jn_p, jset_jset, jset_jpush2, ckR_is, ckr_is, rR_is, ckW_is, cR_is, obi2, ckW_int, eq_self, if_true, ref_null, if_false, ne_eq, not_true_eq_false, not_false_eq_true, decide_true, decide_false, decide_not, Bool.true_and, Bool.false_and, Bool.and_true, Bool.and_false, Bool.true_or, Bool.false_or, Bool.or_true, Bool.or_false, Bool.not_true, Bool.not_false, Bool.false_eq_true, bI_t, bI_f, Int.natCast_one, Int.cast_ofNat_Int, Int.natCast_zero, o23_0, o23_1, o23_2, n23, o23s_0, o23s_1, o23s_2, o4_0, o4_1, o4_2, o4_3, o4_4, o4_5, o4_6, n4, o4s_0, o4s_1, o4s_2, o4s_3, o4s_4, o4s_5, o4s_6, o24_0, o24_1, o24_2, o24_3, o26_0, o28_0, o22_0, o22_1, o22_2, o22_3, o22_4, o22_5, o47_0, o47_1, o47_2, o47_3, n47, o47s_0, o47s_1, o47s_2, o47s_3, hm, t1]
      rw [F26000_41]
      simp (disch := first | assumption | omega | decide | exact okF_i | exact okF_r | exact okF_n | exact okF_j | rfl) only [jc_ref, rI_int, rR_ref, rR_null, rJ_long, ckR_ref, ckR_null, ckr_ref, ckr_null, ckW_int, ckW_ref, ckW_null, cI_ok, cR_ok, cR_null, cV_ok, cJ_ok, qH_eq, qD_in, aG_ref, aS_ref, aL_ref, pF_ref, cK_ref, cK_null, zI_lit, zJ_lit, zI_add, zI_sub, zI_mul, zI_neg, zI_eq, zI_lt, zI_le, Int.reduceLT, Int.reduceLE, Int.reduceAdd, Int.reduceSub, Int.reduceMul, Int.reduceNeg, Int.reduceEq, Int.reduceNe, reduceIte, jf_in, pFc_in, aGi, aGb, aSi, aLc_in, cKc_in, nA_in, jm_s1, jm_s2, jm_p1, jm_p2, jm_b, jn_b, jn_s, jn_p, jset_jset, jset_jpush2, ckR_is, ckr_is, rR_is, ckW_is, cR_is, obi2, ckW_int, eq_self, if_true, ref_null, if_false, ne_eq, not_true_eq_false, not_false_eq_true, decide_true, decide_false, decide_not, Bool.true_and, Bool.false_and, Bool.and_true, Bool.and_false, Bool.true_or, Bool.false_or, Bool.or_true, Bool.or_false, Bool.not_true, Bool.not_false, Bool.false_eq_true, bI_t, bI_f, Int.natCast_one, Int.cast_ofNat_Int, Int.natCast_zero, o23_0, o23_1, o23_2, n23, o23s_0, o23s_1, o23s_2, o4_0, o4_1, o4_2, o4_3, o4_4, o4_5, o4_6, n4, o4s_0, o4s_1, o4s_2, o4s_3, o4s_4, o4s_5, o4s_6, o24_0, o24_1, o24_2, o24_3, o26_0, o28_0, o22_0, o22_1, o22_2, o22_3, o22_4, o22_5, o47_0, o47_1, o47_2, o47_3, n47, o47s_0, o47s_1, o47s_2, o47s_3, m2]
    · obtain ⟨v1, v2⟩ := tu_01 (S := S) (by omega)
      rw [v1, v2]
      rw [e] at a0
      refine ⟨H, ?_, Fr.rf, hR, by omega, by omega⟩
      simp (disch := first | assumption | omega | decide | exact okF_i | exact okF_r | exact okF_n | exact okF_j | rfl) only [jc_ref, rI_int, rR_ref, rR_null, rJ_long, ckR_ref, ckR_null, ckr_ref, ckr_null, ckW_int, ckW_ref, ckW_null, cI_ok, cR_ok, cR_null, cV_ok, cJ_ok, qH_eq, qD_in, aG_ref, aS_ref, aL_ref, pF_ref, cK_ref, cK_null, zI_lit, zJ_lit, zI_add, zI_sub, zI_mul, zI_neg, zI_eq, zI_lt, zI_le, Int.reduceLT, Int.reduceLE, Int.reduceAdd, Int.reduceSub, Int.reduceMul, Int.reduceNeg, Int.reduceEq, Int.reduceNe, reduceIte, jf_in, pFc_in, aGi, aGb, aSi, aLc_in, cKc_in, nA_in, jm_s1, jm_s2, jm_p1, jm_p2, jm_b, jn_b, jn_s, jn_p, jset_jset, jset_jpush2, ckR_is, ckr_is, rR_is, ckW_is, cR_is, obi2, ckW_int, eq_self, if_true, ref_null, if_false, ne_eq, not_true_eq_false, not_false_eq_true, decide_true, decide_false, decide_not, Bool.true_and, Bool.false_and, Bool.and_true, Bool.and_false, Bool.true_or, Bool.false_or, Bool.or_true, Bool.or_false, Bool.not_true, Bool.not_false, Bool.false_eq_true, bI_t, bI_f, Int.natCast_one, Int.cast_ofNat_Int, Int.natCast_zero, o23_0, o23_1, o23_2, n23, o23s_0, o23s_1, o23s_2, o4_0, o4_1, o4_2, o4_3, o4_4, o4_5, o4_6, n4, o4s_0, o4s_1, o4s_2, o4s_3, o4s_4, o4s_5, o4s_6, o24_0, o24_1, o24_2, o24_3, o26_0, o28_0, o22_0, o22_1, o22_2, o22_3, o22_4, o22_5, o47_0, o47_1, o47_2, o47_3, n47, o47s_0, o47s_1, o47s_2, o47s_3, a0, hm]
      rw [F26000_16]
      simp (disch := first | assumption | omega | decide | exact okF_i | exact okF_r | exact okF_n | exact okF_j | rfl) only [jc_ref, rI_int, rR_ref, rR_null, rJ_long, ckR_ref, ckR_null, ckr_ref, ckr_null, ckW_int, ckW_ref, ckW_null, cI_ok, cR_ok, cR_null, cV_ok, cJ_ok, qH_eq, qD_in, aG_ref, aS_ref, aL_ref, pF_ref, cK_ref, cK_null, zI_lit, zJ_lit, zI_add, zI_sub, zI_mul, zI_neg, zI_eq, zI_lt, zI_le, Int.reduceLT, Int.reduceLE, Int.reduceAdd, Int.reduceSub, Int.reduceMul, Int.reduceNeg, Int.reduceEq, Int.reduceNe, reduceIte, jf_in, pFc_in, aGi, aGb, aSi, aLc_in, cKc_in, nA_in, jm_s1, jm_s2, jm_p1, jm_p2, jm_b, jn_b, jn_s, jn_p, jset_jset, jset_jpush2, ckR_is, ckr_is, rR_is, ckW_is, cR_is, obi2, ckW_int, eq_self, if_true, ref_null, if_false, ne_eq, not_true_eq_false, not_false_eq_true, decide_true, decide_false, decide_not, Bool.true_and, Bool.false_and, Bool.and_true, Bool.and_false, Bool.true_or, Bool.false_or, Bool.or_true, Bool.or_false, Bool.not_true, Bool.not_false, Bool.false_eq_true, bI_t, bI_f, Int.natCast_one, Int.cast_ofNat_Int, Int.natCast_zero, o23_0, o23_1, o23_2, n23, o23s_0, o23s_1, o23s_2, o4_0, o4_1, o4_2, o4_3, o4_4, o4_5, o4_6, n4, o4s_0, o4s_1, o4s_2, o4s_3, o4s_4, o4s_5, o4s_6, o24_0, o24_1, o24_2, o24_3, o26_0, o28_0, o22_0, o22_1, o22_2, o22_3, o22_4, o22_5, o47_0, o47_1, o47_2, o47_3, n47, o47s_0, o47s_1, o47s_2, o47s_3, hm]
      try rfl
  · rcases on with e | e
    · obtain ⟨v1, v2⟩ := tu_10 e
      rw [v1, v2]
      rw [e] at a0
      refine ⟨H, ?_, Fr.rf, hR, by omega, by omega⟩
      simp (disch := first | assumption | omega | decide | exact okF_i | exact okF_r | exact okF_n | exact okF_j | rfl) only [jc_ref, rI_int, rR_ref, rR_null, rJ_long, ckR_ref, ckR_null, ckr_ref, ckr_null, ckW_int, ckW_ref, ckW_null, cI_ok, cR_ok, cR_null, cV_ok, cJ_ok, qH_eq, qD_in, aG_ref, aS_ref, aL_ref, pF_ref, cK_ref, cK_null, zI_lit, zJ_lit, zI_add, zI_sub, zI_mul, zI_neg, zI_eq, zI_lt, zI_le, Int.reduceLT, Int.reduceLE, Int.reduceAdd, Int.reduceSub, Int.reduceMul, Int.reduceNeg, Int.reduceEq, Int.reduceNe, reduceIte, jf_in, pFc_in, aGi, aGb, aSi, aLc_in, cKc_in, nA_in, jm_s1, jm_s2, jm_p1, jm_p2, jm_b, jn_b, jn_s, jn_p, jset_jset, jset_jpush2, ckR_is, ckr_is, rR_is, ckW_is, cR_is, obi2, ckW_int, eq_self, if_true, ref_null, if_false, ne_eq, not_true_eq_false, not_false_eq_true, decide_true, decide_false, decide_not, Bool.true_and, Bool.false_and, Bool.and_true, Bool.and_false, Bool.true_or, Bool.false_or, Bool.or_true, Bool.or_false, Bool.not_true, Bool.not_false, Bool.false_eq_true, bI_t, bI_f, Int.natCast_one, Int.cast_ofNat_Int, Int.natCast_zero, o23_0, o23_1, o23_2, n23, o23s_0, o23s_1, o23s_2, o4_0, o4_1, o4_2, o4_3, o4_4, o4_5, o4_6, n4, o4s_0, o4s_1, o4s_2, o4s_3, o4s_4, o4s_5, o4s_6, o24_0, o24_1, o24_2, o24_3, o26_0, o28_0, o22_0, o22_1, o22_2, o22_3, o22_4, o22_5, o47_0, o47_1, o47_2, o47_3, n47, o47s_0, o47s_1, o47s_2, o47s_3, a0, hm]
      rw [F26000_16]
      simp (disch := first | assumption | omega | decide | exact okF_i | exact okF_r | exact okF_n | exact okF_j | rfl) only [jc_ref, rI_int, rR_ref, rR_null, rJ_long, ckR_ref, ckR_null, ckr_ref, ckr_null, ckW_int, ckW_ref, ckW_null, cI_ok, cR_ok, cR_null, cV_ok, cJ_ok, qH_eq, qD_in, aG_ref, aS_ref, aL_ref, pF_ref, cK_ref, cK_null, zI_lit, zJ_lit, zI_add, zI_sub, zI_mul, zI_neg, zI_eq, zI_lt, zI_le, Int.reduceLT, Int.reduceLE, Int.reduceAdd, Int.reduceSub, Int.reduceMul, Int.reduceNeg, Int.reduceEq, Int.reduceNe, reduceIte, jf_in, pFc_in, aGi, aGb, aSi, aLc_in, cKc_in, nA_in, jm_s1, jm_s2, jm_p1, jm_p2, jm_b, jn_b, jn_s, jn_p, jset_jset, jset_jpush2, ckR_is, ckr_is, rR_is, ckW_is, cR_is, obi2, ckW_int, eq_self, if_true, ref_null, if_false, ne_eq, not_true_eq_false, not_false_eq_true, decide_true, decide_false, decide_not, Bool.true_and, Bool.false_and, Bool.and_true, Bool.and_false, Bool.true_or, Bool.false_or, Bool.or_true, Bool.or_false, Bool.not_true, Bool.not_false, Bool.false_eq_true, bI_t, bI_f, Int.natCast_one, Int.cast_ofNat_Int, Int.natCast_zero, o23_0, o23_1, o23_2, n23, o23s_0, o23s_1, o23s_2, o4_0, o4_1, o4_2, o4_3, o4_4, o4_5, o4_6, n4, o4s_0, o4s_1, o4s_2, o4s_3, o4s_4, o4s_5, o4s_6, o24_0, o24_1, o24_2, o24_3, o26_0, o28_0, o22_0, o22_1, o22_2, o22_3, o22_4, o22_5, o47_0, o47_1, o47_2, o47_3, n47, o47s_0, o47s_1, o47s_2, o47s_3, hm]
      try rfl
    · have ne : ¬ S 149 = 0 := by omega
      rw [e] at a0
      obtain ⟨H1, ll, w1, -, w2, w3, w4, w5⟩ := c_viol0b (d := d) W hS hR
      have em := c_vempty (d := d + 12) w2
      have hR1 := hR.fr w3 (fun _ _ z => z) fun _ _ z => z.elim
      have m1 : jm H1 b = some (26, 1, o26 1) := (w3.2.2 b hbl fun z => z).trans hm
      have hbl1 := w3.1
      by_cases ev : violS S true = []
      · obtain ⟨v1, v2⟩ := tu_11 ne ev
        rw [v1, v2]
        rw [ev, List.isEmpty_nil, bZ_t] at em
        obtain ⟨H2, t1, t2, t3, t4, t5⟩ := tu_commit (d := d + 12) hBa W hR1
        have m2 : jm H2 b = some (26, 1, o26 1) := (t2.2.2 b (by omega) hb).trans m1
        refine ⟨H2, ?_, (w3.mono fun _ _ z => z.elim).tr t2, t5, by omega, by omega⟩
        simp (disch := first | assumption | omega | decide | exact okF_i | exact okF_r | exact okF_n | exact okF_j | rfl) only [jc_ref, rI_int, rR_ref, rR_null, rJ_long, ckR_ref, ckR_null, ckr_ref, ckr_null, ckW_int, ckW_ref, ckW_null, cI_ok, cR_ok, cR_null, cV_ok, cJ_ok, qH_eq, qD_in, aG_ref, aS_ref, aL_ref, pF_ref, cK_ref, cK_null, zI_lit, zJ_lit, zI_add, zI_sub, zI_mul, zI_neg, zI_eq, zI_lt, zI_le, Int.reduceLT, Int.reduceLE, Int.reduceAdd, Int.reduceSub, Int.reduceMul, Int.reduceNeg, Int.reduceEq, Int.reduceNe, reduceIte, jf_in, pFc_in, aGi, aGb, aSi, aLc_in, cKc_in, nA_in, jm_s1, jm_s2, jm_p1, jm_p2, jm_b, jn_b, jn_s, jn_p, jset_jset, jset_jpush2, ckR_is, ckr_is, rR_is, ckW_is, cR_is, obi2, ckW_int, eq_self, if_true, ref_null, if_false, ne_eq, not_true_eq_false, not_false_eq_true, decide_true, decide_false, decide_not, Bool.true_and, Bool.false_and, Bool.and_true, Bool.and_false, Bool.true_or, Bool.false_or, Bool.or_true, Bool.or_false, Bool.not_true, Bool.not_false, Bool.false_eq_true, bI_t, bI_f, Int.natCast_one, Int.cast_ofNat_Int, Int.natCast_zero, o23_0, o23_1, o23_2, n23, o23s_0, o23s_1, o23s_2, o4_0, o4_1, o4_2, o4_3, o4_4, o4_5, o4_6, n4, o4s_0, o4s_1, o4s_2, o4s_3, o4s_4, o4s_5, o4s_6, o24_0, o24_1, o24_2, o24_3, o26_0, o28_0, o22_0, o22_1, o22_2, o22_3, o22_4, o22_5, o47_0, o47_1, o47_2, o47_3, n47, o47s_0, o47s_1, o47s_2, o47s_3, a0, hm]
        rw [F26000_16]
        simp (disch := first | assumption | omega | decide | exact okF_i | exact okF_r | exact okF_n | exact okF_j | rfl) only [jc_ref, rI_int, rR_ref, rR_null, rJ_long, ckR_ref, ckR_null, ckr_ref, ckr_null, ckW_int, ckW_ref, ckW_null, cI_ok, cR_ok, cR_null, cV_ok, cJ_ok, qH_eq, qD_in, aG_ref, aS_ref, aL_ref, pF_ref, cK_ref, cK_null, zI_lit, zJ_lit, zI_add, zI_sub, zI_mul, zI_neg, zI_eq, zI_lt, zI_le, Int.reduceLT, Int.reduceLE, Int.reduceAdd, Int.reduceSub, Int.reduceMul, Int.reduceNeg, Int.reduceEq, Int.reduceNe, reduceIte, jf_in, pFc_in, aGi, aGb, aSi, aLc_in, cKc_in, nA_in, jm_s1, jm_s2, jm_p1, jm_p2, jm_b, jn_b, jn_s, jn_p, jset_jset, jset_jpush2, ckR_is, ckr_is, rR_is, ckW_is, cR_is, obi2, ckW_int, eq_self, if_true, ref_null, if_false, ne_eq, not_true_eq_false, not_false_eq_true, decide_true, decide_false, decide_not, Bool.true_and, Bool.false_and, Bool.and_true, Bool.and_false, Bool.true_or, Bool.false_or, Bool.or_true, Bool.or_false, Bool.not_true, Bool.not_false, Bool.false_eq_true, bI_t, bI_f, Int.natCast_one, Int.cast_ofNat_Int, Int.natCast_zero, o23_0, o23_1, o23_2, n23, o23s_0, o23s_1, o23s_2, o4_0, o4_1, o4_2, o4_3, o4_4, o4_5, o4_6, n4, o4s_0, o4s_1, o4s_2, o4s_3, o4s_4, o4s_5, o4s_6, o24_0, o24_1, o24_2, o24_3, o26_0, o28_0, o22_0, o22_1, o22_2, o22_3, o22_4, o22_5, o47_0, o47_1, o47_2, o47_3, n47, o47s_0, o47s_1, o47s_2, o47s_3, hm]
        rw [F26000_41]
        simp (disch := first | assumption | omega | decide | exact okF_i | exact okF_r | exact okF_n | exact okF_j | rfl) only [jc_ref, rI_int, rR_ref, rR_null, rJ_long, ckR_ref, ckR_null, ckr_ref, ckr_null, ckW_int, ckW_ref, ckW_null, cI_ok, cR_ok, cR_null, cV_ok, cJ_ok, qH_eq, qD_in, aG_ref, aS_ref, aL_ref, pF_ref, cK_ref, cK_null, zI_lit, zJ_lit, zI_add, zI_sub, zI_mul, zI_neg, zI_eq, zI_lt, zI_le, Int.reduceLT, Int.reduceLE, Int.reduceAdd, Int.reduceSub, Int.reduceMul, Int.reduceNeg, Int.reduceEq, Int.reduceNe, reduceIte, jf_in, pFc_in, aGi, aGb, aSi, aLc_in, cKc_in, nA_in, jm_s1, jm_s2, jm_p1, jm_p2, jm_b, jn_b, jn_s, jn_p, jset_jset, jset_jpush2, ckR_is, ckr_is, rR_is, ckW_is, cR_is, obi2, ckW_int, eq_self, if_true, ref_null, if_false, ne_eq, not_true_eq_false, not_false_eq_true, decide_true, decide_false, decide_not, Bool.true_and, Bool.false_and, Bool.and_true, Bool.and_false, Bool.true_or, Bool.false_or, Bool.or_true, Bool.or_false, Bool.not_true, Bool.not_false, Bool.false_eq_true, bI_t, bI_f, Int.natCast_one, Int.cast_ofNat_Int, Int.natCast_zero, o23_0, o23_1, o23_2, n23, o23s_0, o23s_1, o23s_2, o4_0, o4_1, o4_2, o4_3, o4_4, o4_5, o4_6, n4, o4s_0, o4s_1, o4s_2, o4s_3, o4s_4, o4s_5, o4s_6, o24_0, o24_1, o24_2, o24_3, o26_0, o28_0, o22_0, o22_1, o22_2, o22_3, o22_4, o22_5, o47_0, o47_1, o47_2, o47_3, n47, o47s_0, o47s_1, o47s_2, o47s_3, hm, w1, em, t1, m2]
      · obtain ⟨v1, v2⟩ := tu_12 ne ev
        rw [v1, v2]
        rw [show (violS S true).isEmpty = false by cases h : violS S true with | nil => exact absurd h ev | cons => rfl, bZ_f] at em
        refine ⟨H1, ?_, w3.mono fun _ _ z => z.elim, hR1, w4, w5⟩
        simp (disch := first | assumption | omega | decide | exact okF_i | exact okF_r | exact okF_n | exact okF_j | rfl) only [jc_ref, rI_int, rR_ref, rR_null, rJ_long, ckR_ref, ckR_null, ckr_ref, ckr_null, ckW_int, ckW_ref, ckW_null, cI_ok, cR_ok, cR_null, cV_ok, cJ_ok, qH_eq, qD_in, aG_ref, aS_ref, aL_ref, pF_ref, cK_ref, cK_null, zI_lit, zJ_lit, zI_add, zI_sub, zI_mul, zI_neg, zI_eq, zI_lt, zI_le, Int.reduceLT, Int.reduceLE, Int.reduceAdd, Int.reduceSub, Int.reduceMul, Int.reduceNeg, Int.reduceEq, Int.reduceNe, reduceIte, jf_in, pFc_in, aGi, aGb, aSi, aLc_in, cKc_in, nA_in, jm_s1, jm_s2, jm_p1, jm_p2, jm_b, jn_b, jn_s, jn_p, jset_jset, jset_jpush2, ckR_is, ckr_is, rR_is, ckW_is, cR_is, obi2, ckW_int, eq_self, if_true, ref_null, if_false, ne_eq, not_true_eq_false, not_false_eq_true, decide_true, decide_false, decide_not, Bool.true_and, Bool.false_and, Bool.and_true, Bool.and_false, Bool.true_or, Bool.false_or, Bool.or_true, Bool.or_false, Bool.not_true, Bool.not_false, Bool.false_eq_true, bI_t, bI_f, Int.natCast_one, Int.cast_ofNat_Int, Int.natCast_zero, o23_0, o23_1, o23_2, n23, o23s_0, o23s_1, o23s_2, o4_0, o4_1, o4_2, o4_3, o4_4, o4_5, o4_6, n4, o4s_0, o4s_1, o4s_2, o4s_3, o4s_4, o4s_5, o4s_6, o24_0, o24_1, o24_2, o24_3, o26_0, o28_0, o22_0, o22_1, o22_2, o22_3, o22_4, o22_5, o47_0, o47_1, o47_2, o47_3, n47, o47s_0, o47s_1, o47s_2, o47s_3, a0, hm]
        rw [F26000_16]
        simp (disch := first | assumption | omega | decide | exact okF_i | exact okF_r | exact okF_n | exact okF_j | rfl) only [jc_ref, rI_int, rR_ref, rR_null, rJ_long, ckR_ref, ckR_null, ckr_ref, ckr_null, ckW_int, ckW_ref, ckW_null, cI_ok, cR_ok, cR_null, cV_ok, cJ_ok, qH_eq, qD_in, aG_ref, aS_ref, aL_ref, pF_ref, cK_ref, cK_null, zI_lit, zJ_lit, zI_add, zI_sub, zI_mul, zI_neg, zI_eq, zI_lt, zI_le, Int.reduceLT, Int.reduceLE, Int.reduceAdd, Int.reduceSub, Int.reduceMul, Int.reduceNeg, Int.reduceEq, Int.reduceNe, reduceIte, jf_in, pFc_in, aGi, aGb, aSi, aLc_in, cKc_in, nA_in, jm_s1, jm_s2, jm_p1, jm_p2, jm_b, jn_b, jn_s, jn_p, jset_jset, jset_jpush2, ckR_is, ckr_is, rR_is, ckW_is, cR_is, obi2, ckW_int, eq_self, if_true, ref_null, if_false, ne_eq, not_true_eq_false, not_false_eq_true, decide_true, decide_false, decide_not, Bool.true_and, Bool.false_and, Bool.and_true, Bool.and_false, Bool.true_or, Bool.false_or, Bool.or_true, Bool.or_false, Bool.not_true, Bool.not_false, Bool.false_eq_true, bI_t, bI_f, Int.natCast_one, Int.cast_ofNat_Int, Int.natCast_zero, o23_0, o23_1, o23_2, n23, o23s_0, o23s_1, o23s_2, o4_0, o4_1, o4_2, o4_3, o4_4, o4_5, o4_6, n4, o4s_0, o4s_1, o4s_2, o4s_3, o4s_4, o4s_5, o4s_6, o24_0, o24_1, o24_2, o24_3, o26_0, o28_0, o22_0, o22_1, o22_2, o22_3, o22_4, o22_5, o47_0, o47_1, o47_2, o47_3, n47, o47s_0, o47s_1, o47s_2, o47s_3, hm]
        rw [F26000_41]
        simp (disch := first | assumption | omega | decide | exact okF_i | exact okF_r | exact okF_n | exact okF_j | rfl) only [jc_ref, rI_int, rR_ref, rR_null, rJ_long, ckR_ref, ckR_null, ckr_ref, ckr_null, ckW_int, ckW_ref, ckW_null, cI_ok, cR_ok, cR_null, cV_ok, cJ_ok, qH_eq, qD_in, aG_ref, aS_ref, aL_ref, pF_ref, cK_ref, cK_null, zI_lit, zJ_lit, zI_add, zI_sub, zI_mul, zI_neg, zI_eq, zI_lt, zI_le, Int.reduceLT, Int.reduceLE, Int.reduceAdd, Int.reduceSub, Int.reduceMul, Int.reduceNeg, Int.reduceEq, Int.reduceNe, reduceIte, jf_in, pFc_in, aGi, aGb, aSi, aLc_in, cKc_in, nA_in, jm_s1, jm_s2, jm_p1, jm_p2, jm_b, jn_b, jn_s, jn_p, jset_jset, jset_jpush2, ckR_is, ckr_is, rR_is, ckW_is, cR_is, obi2, ckW_int, eq_self, if_true, ref_null, if_false, ne_eq, not_true_eq_false, not_false_eq_true, decide_true, decide_false, decide_not, Bool.true_and, Bool.false_and, Bool.and_true, Bool.and_false, Bool.true_or, Bool.false_or, Bool.or_true, Bool.or_false, Bool.not_true, Bool.not_false, Bool.false_eq_true, bI_t, bI_f, Int.natCast_one, Int.cast_ofNat_Int, Int.natCast_zero, o23_0, o23_1, o23_2, n23, o23s_0, o23s_1, o23s_2, o4_0, o4_1, o4_2, o4_3, o4_4, o4_5, o4_6, n4, o4s_0, o4s_1, o4s_2, o4s_3, o4s_4, o4s_5, o4s_6, o24_0, o24_1, o24_2, o24_3, o26_0, o28_0, o22_0, o22_1, o22_2, o22_3, o22_4, o22_5, o47_0, o47_1, o47_2, o47_3, n47, o47s_0, o47s_1, o47s_2, o47s_3, hm, w1, em]
        try rfl
  · rcases on with e | e
    · obtain ⟨v1, v2⟩ := tu_21 (S := S) (by omega)
      rw [v1, v2]
      rw [e] at a0
      refine ⟨H, ?_, Fr.rf, hR, by omega, by omega⟩
      simp (disch := first | assumption | omega | decide | exact okF_i | exact okF_r | exact okF_n | exact okF_j | rfl) only [jc_ref, rI_int, rR_ref, rR_null, rJ_long, ckR_ref, ckR_null, ckr_ref, ckr_null, ckW_int, ckW_ref, ckW_null, cI_ok, cR_ok, cR_null, cV_ok, cJ_ok, qH_eq, qD_in, aG_ref, aS_ref, aL_ref, pF_ref, cK_ref, cK_null, zI_lit, zJ_lit, zI_add, zI_sub, zI_mul, zI_neg, zI_eq, zI_lt, zI_le, Int.reduceLT, Int.reduceLE, Int.reduceAdd, Int.reduceSub, Int.reduceMul, Int.reduceNeg, Int.reduceEq, Int.reduceNe, reduceIte, jf_in, pFc_in, aGi, aGb, aSi, aLc_in, cKc_in, nA_in, jm_s1, jm_s2, jm_p1, jm_p2, jm_b, jn_b, jn_s, jn_p, jset_jset, jset_jpush2, ckR_is, ckr_is, rR_is, ckW_is, cR_is, obi2, ckW_int, eq_self, if_true, ref_null, if_false, ne_eq, not_true_eq_false, not_false_eq_true, decide_true, decide_false, decide_not, Bool.true_and, Bool.false_and, Bool.and_true, Bool.and_false, Bool.true_or, Bool.false_or, Bool.or_true, Bool.or_false, Bool.not_true, Bool.not_false, Bool.false_eq_true, bI_t, bI_f, Int.natCast_one, Int.cast_ofNat_Int, Int.natCast_zero, o23_0, o23_1, o23_2, n23, o23s_0, o23s_1, o23s_2, o4_0, o4_1, o4_2, o4_3, o4_4, o4_5, o4_6, n4, o4s_0, o4s_1, o4s_2, o4s_3, o4s_4, o4s_5, o4s_6, o24_0, o24_1, o24_2, o24_3, o26_0, o28_0, o22_0, o22_1, o22_2, o22_3, o22_4, o22_5, o47_0, o47_1, o47_2, o47_3, n47, o47s_0, o47s_1, o47s_2, o47s_3, a0, hm]
      rw [F26000_16]
      simp (disch := first | assumption | omega | decide | exact okF_i | exact okF_r | exact okF_n | exact okF_j | rfl) only [jc_ref, rI_int, rR_ref, rR_null, rJ_long, ckR_ref, ckR_null, ckr_ref, ckr_null, ckW_int, ckW_ref, ckW_null, cI_ok, cR_ok, cR_null, cV_ok, cJ_ok, qH_eq, qD_in, aG_ref, aS_ref, aL_ref, pF_ref, cK_ref, cK_null, zI_lit, zJ_lit, zI_add, zI_sub, zI_mul, zI_neg, zI_eq, zI_lt, zI_le, Int.reduceLT, Int.reduceLE, Int.reduceAdd, Int.reduceSub, Int.reduceMul, Int.reduceNeg, Int.reduceEq, Int.reduceNe, reduceIte, jf_in, pFc_in, aGi, aGb, aSi, aLc_in, cKc_in, nA_in, jm_s1, jm_s2, jm_p1, jm_p2, jm_b, jn_b, jn_s, jn_p, jset_jset, jset_jpush2, ckR_is, ckr_is, rR_is, ckW_is, cR_is, obi2, ckW_int, eq_self, if_true, ref_null, if_false, ne_eq, not_true_eq_false, not_false_eq_true, decide_true, decide_false, decide_not, Bool.true_and, Bool.false_and, Bool.and_true, Bool.and_false, Bool.true_or, Bool.false_or, Bool.or_true, Bool.or_false, Bool.not_true, Bool.not_false, Bool.false_eq_true, bI_t, bI_f, Int.natCast_one, Int.cast_ofNat_Int, Int.natCast_zero, o23_0, o23_1, o23_2, n23, o23s_0, o23s_1, o23s_2, o4_0, o4_1, o4_2, o4_3, o4_4, o4_5, o4_6, n4, o4s_0, o4s_1, o4s_2, o4s_3, o4s_4, o4s_5, o4s_6, o24_0, o24_1, o24_2, o24_3, o26_0, o28_0, o22_0, o22_1, o22_2, o22_3, o22_4, o22_5, o47_0, o47_1, o47_2, o47_3, n47, o47s_0, o47s_1, o47s_2, o47s_3, hm]
      try rfl
    · obtain ⟨v1, v2⟩ := tu_20 e
      rw [v1, v2]
      rw [e] at a0
      obtain ⟨H2, t1, t2, t3, t4, t5⟩ := tu_back (d := d + 11) hBa W hR
      refine ⟨H2, ?_, t2, t5, by omega, by omega⟩
      simp (disch := first | assumption | omega | decide | exact okF_i | exact okF_r | exact okF_n | exact okF_j | rfl) only [jc_ref, rI_int, rR_ref, rR_null, rJ_long, ckR_ref, ckR_null, ckr_ref, ckr_null, ckW_int, ckW_ref, ckW_null, cI_ok, cR_ok, cR_null, cV_ok, cJ_ok, qH_eq, qD_in, aG_ref, aS_ref, aL_ref, pF_ref, cK_ref, cK_null, zI_lit, zJ_lit, zI_add, zI_sub, zI_mul, zI_neg, zI_eq, zI_lt, zI_le, Int.reduceLT, Int.reduceLE, Int.reduceAdd, Int.reduceSub, Int.reduceMul, Int.reduceNeg, Int.reduceEq, Int.reduceNe, reduceIte, jf_in, pFc_in, aGi, aGb, aSi, aLc_in, cKc_in, nA_in, jm_s1, jm_s2, jm_p1, jm_p2, jm_b, jn_b, jn_s, jn_p, jset_jset, jset_jpush2, ckR_is, ckr_is, rR_is, ckW_is, cR_is, obi2, ckW_int, eq_self, if_true, ref_null, if_false, ne_eq, not_true_eq_false, not_false_eq_true, decide_true, decide_false, decide_not, Bool.true_and, Bool.false_and, Bool.and_true, Bool.and_false, Bool.true_or, Bool.false_or, Bool.or_true, Bool.or_false, Bool.not_true, Bool.not_false, Bool.false_eq_true, bI_t, bI_f, Int.natCast_one, Int.cast_ofNat_Int, Int.natCast_zero, o23_0, o23_1, o23_2, n23, o23s_0, o23s_1, o23s_2, o4_0, o4_1, o4_2, o4_3, o4_4, o4_5, o4_6, n4, o4s_0, o4s_1, o4s_2, o4s_3, o4s_4, o4s_5, o4s_6, o24_0, o24_1, o24_2, o24_3, o26_0, o28_0, o22_0, o22_1, o22_2, o22_3, o22_4, o22_5, o47_0, o47_1, o47_2, o47_3, n47, o47s_0, o47s_1, o47s_2, o47s_3, a0, hm]
      rw [F26000_16]
      simp (disch := first | assumption | omega | decide | exact okF_i | exact okF_r | exact okF_n | exact okF_j | rfl) only [jc_ref, rI_int, rR_ref, rR_null, rJ_long, ckR_ref, ckR_null, ckr_ref, ckr_null, ckW_int, ckW_ref, ckW_null, cI_ok, cR_ok, cR_null, cV_ok, cJ_ok, qH_eq, qD_in, aG_ref, aS_ref, aL_ref, pF_ref, cK_ref, cK_null, zI_lit, zJ_lit, zI_add, zI_sub, zI_mul, zI_neg, zI_eq, zI_lt, zI_le, Int.reduceLT, Int.reduceLE, Int.reduceAdd, Int.reduceSub, Int.reduceMul, Int.reduceNeg, Int.reduceEq, Int.reduceNe, reduceIte, jf_in, pFc_in, aGi, aGb, aSi, aLc_in, cKc_in, nA_in, jm_s1, jm_s2, jm_p1, jm_p2, jm_b, jn_b, jn_s, jn_p, jset_jset, jset_jpush2, ckR_is, ckr_is, rR_is, ckW_is, cR_is, obi2, ckW_int, eq_self, if_true, ref_null, if_false, ne_eq, not_true_eq_false, not_false_eq_true, decide_true, decide_false, decide_not, Bool.true_and, Bool.false_and, Bool.and_true, Bool.and_false, Bool.true_or, Bool.false_or, Bool.or_true, Bool.or_false, Bool.not_true, Bool.not_false, Bool.false_eq_true, bI_t, bI_f, Int.natCast_one, Int.cast_ofNat_Int, Int.natCast_zero, o23_0, o23_1, o23_2, n23, o23s_0, o23s_1, o23s_2, o4_0, o4_1, o4_2, o4_3, o4_4, o4_5, o4_6, n4, o4s_0, o4s_1, o4s_2, o4s_3, o4s_4, o4s_5, o4s_6, o24_0, o24_1, o24_2, o24_3, o26_0, o28_0, o22_0, o22_1, o22_2, o22_3, o22_4, o22_5, o47_0, o47_1, o47_2, o47_3, n47, o47s_0, o47s_1, o47s_2, o47s_3, hm]
      rw [F26000_41]
      simp (disch := first | assumption | omega | decide | exact okF_i | exact okF_r | exact okF_n | exact okF_j | rfl) only [jc_ref, rI_int, rR_ref, rR_null, rJ_long, ckR_ref, ckR_null, ckr_ref, ckr_null, ckW_int, ckW_ref, ckW_null, cI_ok, cR_ok, cR_null, cV_ok, cJ_ok, qH_eq, qD_in, aG_ref, aS_ref, aL_ref, pF_ref, cK_ref, cK_null, zI_lit, zJ_lit, zI_add, zI_sub, zI_mul, zI_neg, zI_eq, zI_lt, zI_le, Int.reduceLT, Int.reduceLE, Int.reduceAdd, Int.reduceSub, Int.reduceMul, Int.reduceNeg, Int.reduceEq, Int.reduceNe, reduceIte, jf_in, pFc_in, aGi, aGb, aSi, aLc_in, cKc_in, nA_in, jm_s1, jm_s2, jm_p1, jm_p2, jm_b, jn_b, jn_s, jn_p, jset_jset, jset_jpush2, ckR_is, ckr_is, rR_is, ckW_is, cR_is, obi2, ckW_int, eq_self, if_true, ref_null, if_false, ne_eq, not_true_eq_false, not_false_eq_true, decide_true, decide_false, decide_not, Bool.true_and, Bool.false_and, Bool.and_true, Bool.and_false, Bool.true_or, Bool.false_or, Bool.or_true, Bool.or_false, Bool.not_true, Bool.not_false, Bool.false_eq_true, bI_t, bI_f, Int.natCast_one, Int.cast_ofNat_Int, Int.natCast_zero, o23_0, o23_1, o23_2, n23, o23s_0, o23s_1, o23s_2, o4_0, o4_1, o4_2, o4_3, o4_4, o4_5, o4_6, n4, o4s_0, o4s_1, o4s_2, o4s_3, o4s_4, o4s_5, o4s_6, o24_0, o24_1, o24_2, o24_3, o26_0, o28_0, o22_0, o22_1, o22_2, o22_3, o22_4, o22_5, o47_0, o47_1, o47_2, o47_3, n47, o47s_0, o47s_1, o47s_2, o47s_3, hm, t1]
set_option maxRecDepth 8000 in
/-- a line of a book is done -/
theorem ac_does (hBa : ∀ z, StP a z → B z) (hBp : ∀ z, PlP p z → B z) (hBl : ∀ z, B z → z < H.1) (I : BkI T) (hk : 0 ≤ T 5 to ∧ T 5 to ≤ 5) (hL : T 5 to < 3 → LnW (T 2) (T 5) to)
    (hS : SchF (Fz B H) q (T 2) nm) (hD : DeedF (Fz B H) b (T 2) (T 5) to) (hR : StR B H a q (T 2)) (hP : PlG H p) (hap : a + 8 < p ∨ p + 4 < a) :
    ∃ H2, MvH (d + 16) 9101 [.ref b, .ref a, .ref p] H = some (.inl (some (.int (zI (deQ T to).1))), H2) ∧ Fr H H2 (fun z => StP a z ∨ PlP p z) ∧ StR B H2 a q ((deQ T to).2 2) ∧ PlG H2 p ∧ (H2.1 : Int) ≤ H.1 + 98 + 80 * pvS (T 2) ∧ (H2.2.1 : Int) ≤ H.2.1 + 474 + 360 * pvS (T 2) := by
  obtain ⟨W, hA, h35⟩ := id I
  have N := W.n0
  have p0 : 0 ≤ pvS (T 2) := by unfold pvS; omega
  unfold deQ
  rcases hD with ⟨h3, hm⟩ | ⟨h3, sb, hm, hSt⟩
  · have hm' := Fz_F.m hm
    obtain ⟨lt, nB⟩ := Fz_lt hm
    have mv : MvH (d + 16) 9101 [.ref b, .ref a, .ref p] H = M2 (d + 16) 26000 [.ref b, .ref a, .ref p] H := by simp only [MvH, hm']; rfl
    have pe : PlG H p := hP
    rw [if_neg (by omega)]
    obtain ⟨H2, e1, e2, e3, e4, e5⟩ := tu_does (d := d + 1) (p := p) (k := T 5 to - 3) hBa hBl W hS hR hm' (by omega) (fun z => nB (hBa b z)) lt
    have P2 : PlG H2 p := hP.fr e2 fun z hz hs => by unfold PlP at hz; unfold StP at hs; omega
    have fin : ∀ r : Int × (Nat → Int → Int), (zI r.1 = zI (tuV (T 5 to - 3) (T 2)) ∧ r.2 2 = tuS (T 5 to - 3) (T 2)) → ∃ H2, MvH (d + 16) 9101 [.ref b, .ref a, .ref p] H = some (.inl (some (.int (zI r.1))), H2) ∧ Fr H H2 (fun z => StP a z ∨ PlP p z) ∧ StR B H2 a q (r.2 2) ∧ PlG H2 p ∧ (H2.1 : Int) ≤ H.1 + 98 + 80 * pvS (T 2) ∧ (H2.2.1 : Int) ≤ H.2.1 + 474 + 360 * pvS (T 2) := fun r h => by
      refine ⟨H2, ?_, e2.mono fun _ _ z => Or.inl z, ?_, P2, by omega, by omega⟩
      · rw [h.1]; exact mv.trans e1
      · rw [h.2]; exact e3
    refine fin _ ?_
    rcases (show T 5 to = 3 ∨ T 5 to = 4 ∨ T 5 to = 5 by omega) with e | e | e
    · rw [e, if_pos rfl, show (3 : Int) - 3 = 0 from rfl]
      by_cases c : T 2 149 = 0
      · rw [if_pos c, (tu_00 c).1, (tu_00 c).2]
        exact ⟨rfl, tg_eq (T := T) (k := 2) (g := bgS (T 2))⟩
      · rw [if_neg c, (tu_01 c).1, (tu_01 c).2]
        exact ⟨rfl, rfl⟩
    · rw [e, if_neg (by decide), if_pos rfl, show (4 : Int) - 3 = 1 from rfl]
      have l2 : layL (ts T 0 26 0) (violS (T 2) true) 2 = T 2 := by rw [layL_k ⟨by decide, by decide, by decide, by decide⟩, ts_ne (by decide)]
      by_cases c : T 2 149 = 0
      · rw [show wcQ T = (1, T) by unfold wcQ; rw [if_pos c], if_neg (show ¬ ((1 : Int), T).1 = 0 by show ¬ (1 : Int) = 0; decide), (tu_10 c).1, (tu_10 c).2]
        exact ⟨rfl, rfl⟩
      · by_cases c2 : violS (T 2) true = []
        · rw [show wcQ T = (0, layL (ts T 0 26 0) (violS (T 2) true)) by unfold wcQ; rw [if_neg c, if_pos c2], if_pos (show ((0 : Int), layL (ts T 0 26 0) (violS (T 2) true)).1 = 0 from rfl), (tu_11 c c2).1, (tu_11 c c2).2]
          refine ⟨rfl, ?_⟩
          show tg (layL (ts T 0 26 0) (violS (T 2) true)) 2 (clS (fset (layL (ts T 0 26 0) (violS (T 2) true) 2) 149 0)) 2 = _
          rw [tg_eq, l2]
        · rw [show wcQ T = (2, layL (ts T 0 26 0) (violS (T 2) true)) by unfold wcQ; rw [if_neg c, if_neg c2], if_neg (show ¬ ((2 : Int), layL (ts T 0 26 0) (violS (T 2) true)).1 = 0 by show ¬ (2 : Int) = 0; decide), (tu_12 c c2).1, (tu_12 c c2).2]
          exact ⟨rfl, l2⟩
    · rw [e, if_neg (by decide), if_neg (by decide), show (5 : Int) - 3 = 2 from rfl]
      by_cases c : T 2 149 = 1
      · rw [if_pos c, (tu_20 c).1, (tu_20 c).2]
        exact ⟨rfl, tg_eq (T := T) (k := 2) (g := bkS (T 2))⟩
      · rw [if_neg c, (tu_21 c).1, (tu_21 c).2]
        exact ⟨rfl, rfl⟩
  · have hm' := Fz_F.m hm
    have rv : (jtRecv 28000).elem 28 = true := rfl
    have mv : MvH (d + 16) 9101 [.ref b, .ref a, .ref p] H = M2 (d + 16) 28000 [.ref b, .ref a, .ref p] H := by simp only [MvH, hm']; rfl
    rw [if_pos h3, mv, Y28000 H rfl rfl (jrecv_in hm' rv), F28000_0]
    obtain ⟨H2, ll, tou, S2, V, wl2, g, w, D, e1, e2, e3, e4, e5, e6, e7, e8, e9, e10, e11, e12⟩ := st_does (d := d) (to := to) hBa hBp hBl W hA (hL h3) h35 hS hSt hR hP hap
    have v0 := e3.1
    refine ⟨H2, ?_, e2, e10, e7.g, e11, e12⟩
    have e22 : ([22] : List Nat).elem 22 = true := rfl
    have e28 : ([28] : List Nat).elem 28 = true := rfl
    simp (disch := first | assumption | omega | decide | exact okF_i | exact okF_r | exact okF_n | exact okF_j | rfl) only [jc_ref, rI_int, rR_ref, rR_null, rJ_long, ckR_ref, ckR_null, ckr_ref, ckr_null, ckW_int, ckW_ref, ckW_null, cI_ok, cR_ok, cR_null, cV_ok, cJ_ok, qH_eq, qD_in, aG_ref, aS_ref, aL_ref, pF_ref, cK_ref, cK_null, zI_lit, zJ_lit, zI_add, zI_sub, zI_mul, zI_neg, zI_eq, zI_lt, zI_le, Int.reduceLT, Int.reduceLE, Int.reduceAdd, Int.reduceSub, Int.reduceMul, Int.reduceNeg, Int.reduceEq, Int.reduceNe, reduceIte, jf_in, pFc_in, aGi, aGb, aSi, aLc_in, cKc_in, nA_in, jm_s1, jm_s2, jm_p1, jm_p2, jm_b, jn_b, jn_s, jn_p, jset_jset, jset_jpush2, ckR_is, ckr_is, rR_is, ckW_is, cR_is, obi2, ckW_int, eq_self, if_true, ref_null, if_false, ne_eq, not_true_eq_false, not_false_eq_true, decide_true, decide_false, decide_not, Bool.true_and, Bool.false_and, Bool.and_true, Bool.and_false, Bool.true_or, Bool.false_or, Bool.or_true, Bool.or_false, Bool.not_true, Bool.not_false, Bool.false_eq_true, bI_t, bI_f, Int.natCast_one, Int.cast_ofNat_Int, Int.natCast_zero, o23_0, o23_1, o23_2, n23, o23s_0, o23s_1, o23s_2, o4_0, o4_1, o4_2, o4_3, o4_4, o4_5, o4_6, n4, o4s_0, o4s_1, o4s_2, o4s_3, o4s_4, o4s_5, o4s_6, o24_0, o24_1, o24_2, o24_3, o26_0, o28_0, o22_0, o22_1, o22_2, o22_3, o22_4, o22_5, o47_0, o47_1, o47_2, o47_3, n47, o47s_0, o47s_1, o47s_2, o47s_3, hm', e1, v0]
end
