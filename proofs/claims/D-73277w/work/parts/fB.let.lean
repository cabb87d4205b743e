/-! a plan: rows that go, and all that follow them -/
-- jc_ref, rI_int, rR_ref, rR_null, rJ_long, ckR_ref, ckR_null, ckr_ref, ckr_null, ckW_int, ckW_ref, ckW_null, cI_ok, cR_ok, cR_null, cV_ok, cJ_ok, qH_eq, qD_in, aG_ref, aS_ref, aL_ref, pF_ref, cK_ref, cK_null, zI_lit, zJ_lit, zI_add, zI_sub, zI_mul, zI_neg, zI_eq, zI_lt, zI_le, Int.reduceLT, Int.reduceLE, Int.reduceAdd, Int.reduceSub, Int.reduceMul, Int.reduceNeg, Int.reduceEq, Int.reduceNe, reduceIte, jf_in, pFc_in, aGi, aGb, aSi, aLc_in, cKc_in, nA_in, jm_s1, jm_s2, jm_p1, jm_p2, jm_b, jn_b, jn_s, jn_p, jset_jset, jset_jpush2, ckR_is, ckr_is, rR_is, ckW_is, cR_is, obi2, ckW_int, eq_self, if_true, ref_null, if_false, ne_eq, not_true_eq_false, not_false_eq_true, decide_true, decide_false, decide_not, Bool.true_and, Bool.false_and, Bool.and_true, Bool.and_false, Bool.true_or, Bool.false_or, Bool.or_true, Bool.or_false, Bool.not_true, Bool.not_false, Bool.false_eq_true, bI_t, bI_f, Int.natCast_one, Int.cast_ofNat_Int, Int.natCast_zero, o23_0, o23_1, o23_2, o12_0, o12_1, o13_0, o13_1, o13_2, o13_3, o13_4, o13_5, o13_6, o14_0, o14_1, o14_2, o14_3, o14_4, o14_5, o3_0, o3_1, o3_2, o3_3, o3_4, o11_0, o11_1, o11_2, o11_3, o4_0, o4_1, o4_2, o4_3, o4_4, o4_5, o4_6, o5_0, o5_1, o5_2, o5_3, o5_4, o5_5, n5, o5s_0, o5s_1, o5s_2, o5s_3, o5s_4, o5s_5 = jc_ref, rI_int, rR_ref, rR_null, rJ_long, ckR_ref, ckR_null, ckr_ref, ckr_null, ckW_int, ckW_ref, ckW_null, cI_ok, cR_ok, cR_null, cV_ok, cJ_ok, qH_eq, qD_in, aG_ref, aS_ref, aL_ref, pF_ref, cK_ref, cK_null, zI_lit, zJ_lit, zI_add, zI_sub, zI_mul, zI_neg, zI_eq, zI_lt, zI_le, Int.reduceLT, Int.reduceLE, Int.reduceAdd, Int.reduceSub, Int.reduceMul, Int.reduceNeg, Int.reduceEq, Int.reduceNe, reduceIte, jf_in, pFc_in, aGi, aGb, aSi, aLc_in, cKc_in, nA_in, jm_s1, jm_s2, jm_p1, jm_p2, jm_b, jn_b, jn_s, jn_p, jset_jset, jset_jpush2, ckR_is, ckr_is, rR_is, ckW_is, cR_is, obi2, ckW_int, eq_self, if_true, ref_null, if_false, ne_eq, not_true_eq_false, not_false_eq_true, decide_true, decide_false, decide_not, Bool.true_and, Bool.false_and, Bool.and_true, Bool.and_false, Bool.true_or, Bool.false_or, Bool.or_true, Bool.or_false, Bool.not_true, Bool.not_false, Bool.false_eq_true, bI_t, bI_f, Int.natCast_one, Int.cast_ofNat_Int, Int.natCast_zero, o23_0, o23_1, o23_2, o12_0, o12_1, o13_0, o13_1, o13_2, o13_3, o13_4, o13_5, o13_6, o14_0, o14_1, o14_2, o14_3, o14_4, o14_5, o3_0, o3_1, o3_2, o3_3, o3_4, o11_0, o11_1, o11_2, o11_3, o4_0, o4_1, o4_2, o4_3, o4_4, o4_5, o4_6, o5_0, o5_1, o5_2, o5_3, o5_4, o5_5, n5, o5s_0, o5s_1, o5s_2, o5s_3, o5s_4, o5s_5
def GS (g : Nat → Bool) (D : Int → Int) : Prop := (∀ r, 0 ≤ r → r < 99 → g r.toNat = decide (0 ≤ D r) ∧ -1 ≤ D r) ∧ ∀ k, 99 ≤ k → g k = false
def gset (g : Nat → Bool) (r : Int) : Nat → Bool := fun k => decide (k = r.toNat) || g k
/-- a queue of rows -/
def DqH (H : AH) (qd cap : Nat) (ra : Int → Nat) (Q : List Int) : Prop := (∃ hd, hd < cap ∧ jm H qd = some (cDQ cap hd (Q.map fun r => .ref (ra r)))) ∧ (cap = 17 ∨ cap = 36 ∨ cap = 74) ∧ Q.length < cap
def dqP (cap : Nat) : Nat := if cap = 17 then 2 else if cap = 36 then 1 else 0
def dqS (cap : Nat) : Nat := if cap = 17 then 110 else if cap = 36 then 74 else 0
section
variable {F : Nat → Option Cl} {d : Nat} {H H2 : AH} {a b e p q fb pb qd it cap hd : Nat} {r t c k n f v x : Int} {cs S nm : Int → Int} {ra : Int → Nat} {wl : Nat} {g : Nat → Bool} {w : WS} {sp : Int → Int} {P : Nat → Prop} {Q : List Int}
theorem GS.set (h : GS g sp) (r0 : 0 ≤ r) (r1 : r < 99) (v0 : 0 ≤ v) : GS (gset g r) (fset sp r v) := by
  refine ⟨fun k k0 k1 => ?_, fun k hk => ?_⟩
  · unfold gset
    by_cases hk : k = r
    · subst hk
      rw [fset_eq, decide_eq_true rfl, Bool.true_or, decide_eq_true v0]
      exact ⟨rfl, by omega⟩
    · rw [fset_ne hk, decide_eq_false (by omega), Bool.false_or]; exact h.1 k k0 k1
  · unfold gset
    rw [decide_eq_false (by omega), Bool.false_or]
    exact h.2 k hk
theorem PlW.mv {wl2 : Nat} {g2 : Nat → Bool} {w2 : WS} {sp2 : Int → Int} (h : PlW F H q a p S nm ra wl g w sp) (hp : PH H2 p a wl2 g2 w2 sp2) (fr : Fr H H2 P) (hP : ∀ x, P x → F x = none ∧ ¬ StP a x) : PlW F H2 q a p S nm ra wl2 g2 w2 sp2 := by
  obtain ⟨h1, h2, h3, ⟨ins, on, l1, l2, l3, wm, bs, h4, h5⟩, -, h6, h7⟩ := h
  exact ⟨h1.fr fr fun x hx => (hP x hx).1, h2, h3, ⟨ins, on, l1, l2, l3, wm, bs, h4.fr fr fun x hx z => (hP x z).2 hx, h5⟩, hp, h6, h7⟩
theorem PlW.ot {P : Nat → Prop} (h : PlW F H q a p S nm ra wl g w sp) (fr : Fr H H2 P) (hP : ∀ x, P x → F x = none ∧ ¬ StP a x ∧ ¬ PlP p x) : PlW F H2 q a p S nm ra wl g w sp := h.mv (h.2.2.2.2.1.fr fr fun x hx z => (hP x z).2.2 hx) fr fun x hx => ⟨(hP x hx).1, (hP x hx).2.1⟩
theorem PlW.out (h : PlW F H q a p S nm ra wl g w sp) (x : Nat) (hx : PlP p x) : F x = none ∧ ¬ StP a x := ⟨h.2.2.2.2.2.1 x hx, by have := h.2.2.2.2.2.2; unfold StP; unfold PlP at hx; omega⟩
/-- a row is marked: it goes, so many steps off -/
theorem p_mark (h : PlW F H q a p S nm ra wl g w sp) (r0 : 0 ≤ r) (r1 : r < 99) : ∃ (H1 : AH) (wl2 : Nat), (∀ d, M2 (d + 1) 44008 [.ref (p + 1), .int (zI r)] H = some (.inl none, H1)) ∧ (∀ v, PlW F (jset H1 (p + 4) (1000, 99, aI (fset sp r v))) q a p S nm ra wl2 (gset g r) w (fset sp r v)) ∧ PlW F H1 q a p S nm ra wl2 (gset g r) w sp ∧ Fr H H1 (PlP p) ∧ H1.1 + (2 - wl2) = H.1 + (2 - wl) ∧ H1.2.1 + 2 * (2 - wl2) = H.2.1 + 2 * (2 - wl) := by
  obtain ⟨h0, h1, h2, h3, h4, ⟨h5, h5', h5''⟩, h6⟩ := id h.2.2.2.2.1
  have bs := fun d => h_bset (d := d) h1 (i := r) (by omega) r0 (by omega)
  have up : 1 ≤ bsUp wl r.toNat ∧ bsUp wl r.toNat ≤ 2 ∧ ∀ k, 64 * bsUp wl r.toNat ≤ k → gset g r k = false := by
    unfold bsUp
    by_cases c : r.toNat / 64 < wl
    · rw [if_pos c]
      refine ⟨h5, h5', fun k hk => ?_⟩
      unfold gset
      rw [decide_eq_false (by omega), Bool.false_or]
      exact h5'' k hk
    · rw [if_neg c]
      have : max (2 * wl) (r.toNat / 64 + 1) = 2 := by omega
      rw [this]
      refine ⟨by omega, by omega, fun k hk => ?_⟩
      unfold gset
      rw [decide_eq_false (by omega), Bool.false_or]
      exact h5'' k (by omega)
  have bn : (bsBurn H wl r.toNat).1 + (2 - bsUp wl r.toNat) = H.1 + (2 - wl) ∧ (bsBurn H wl r.toNat).2.1 + 2 * (2 - bsUp wl r.toNat) = H.2.1 + 2 * (2 - wl) ∧ H.1 ≤ (bsBurn H wl r.toNat).1 := by
    unfold bsUp bsBurn
    by_cases c : r.toNat / 64 < wl
    · rw [if_pos c, if_pos c]; exact ⟨rfl, rfl, Nat.le_refl _⟩
    · rw [if_neg c, if_neg c]
      have e1 : wl = 1 := by omega
      have e2 : r.toNat / 64 = 1 := by omega
      subst e1
      rw [e2]
      exact ⟨rfl, rfl, Nat.le_add_right _ _⟩
  have fb : Fr H (bsBurn H wl r.toNat) (PlP p) := by
    unfold bsBurn
    split
    · exact Fr.rf
    · exact Fr.burn
  have f1 : Fr H (jset (bsBurn H wl r.toNat) (p + 1) (cBS (bsUp wl r.toNat) (gset g r))) (PlP p) := fb.tr (Fr.set (by unfold PlP; omega))
  have jb : ∀ x, jm (bsBurn H wl r.toNat) x = jm H x := fun x => by unfold bsBurn; split <;> rfl
  have ph1 : PH (jset (bsBurn H wl r.toNat) (p + 1) (cBS (bsUp wl r.toNat) (gset g r))) p a (bsUp wl r.toNat) (gset g r) w sp := ⟨(jm_s2 (show p ≠ p + 1 by omega)).trans ((jb _).trans h0), jm_s1, (jm_s2 (show p + 3 ≠ p + 1 by omega)).trans ((jb _).trans h2), (jm_s2 (show p + 4 ≠ p + 1 by omega)).trans ((jb _).trans h3), Nat.lt_of_lt_of_le h4 bn.2.2, up, h6⟩
  refine ⟨jset (bsBurn H wl r.toNat) (p + 1) (cBS (bsUp wl r.toNat) (gset g r)), bsUp wl r.toNat, bs, fun v => ?_, h.st ph1 f1, f1, bn.1, bn.2.1⟩
  have f2 : Fr H (jset (jset (bsBurn H wl r.toNat) (p + 1) (cBS (bsUp wl r.toNat) (gset g r))) (p + 4) (1000, 99, aI (fset sp r v))) (PlP p) := f1.tr (Fr.set (by unfold PlP; omega))
  obtain ⟨g0, g1, g2, g3, g4, g5, g6⟩ := ph1
  exact h.st ⟨(jm_s2 (show p ≠ p + 4 by omega)).trans g0, (jm_s2 (show p + 1 ≠ p + 4 by omega)).trans g1, (jm_s2 (show p + 3 ≠ p + 4 by omega)).trans g2, jm_s1, g4, g5, g6⟩ f2
/-- a row follows another one -/
theorem p_follows (h : PlW F H q a p S nm ra wl g w sp) (r0 : 0 ≤ r) (r1 : r < 99) (r2 : S (150 + r) = 1) (x0 : 0 ≤ x) (x1 : x < 99) (x2 : S (150 + x) = 1) : M2 (d + 4) 5006 [.ref p, .ref (ra r), .ref (ra x)] H = some (.inl (some (bI (edgB S r x))), H) := by
  have W := h.2.2.1
  have hF := h.1
  have N0 := W.n0
  obtain ⟨ins, on, v1, v2, v3, mc, l, s0, s1, s2⟩ := h.rows
  have p0 := h.2.2.2.2.1.1
  obtain ⟨ln, qt, qk, qr, qc, z1, -, -, z4, -⟩ := id h.2.1
  have z1' := hF.m z1
  have hRs := z4.size hF
  have hrow := h.row r0 r1 r2
  have lp : ∀ (j : Nat) (f : Int), 0 ≤ f → f + j = S 2 → G2 (d + 3) 5006 2 [.ref p, .ref (ra r), .ref (ra x), .int (zI f)] [] H = some (.inl (some (bI (anyF (fun f => decide (S (88 + f) = 1) && decide (parS S r f = x)) j f))), H) := by
    intro j
    induction j with
    | zero =>
      intro f f0 hf
      rw [F5006_2]
      simp (disch := first | assumption | omega | decide | exact okF_i | exact okF_r | exact okF_n | exact okF_j | rfl) only [jc_ref, rI_int, rR_ref, rR_null, rJ_long, ckR_ref, ckR_null, ckr_ref, ckr_null, ckW_int, ckW_ref, ckW_null, cI_ok, cR_ok, cR_null, cV_ok, cJ_ok, qH_eq, qD_in, aG_ref, aS_ref, aL_ref, pF_ref, cK_ref, cK_null, zI_lit, zJ_lit, zI_add, zI_sub, zI_mul, zI_neg, zI_eq, zI_lt, zI_le, Int.reduceLT, Int.reduceLE, Int.reduceAdd, Int.reduceSub, Int.reduceMul, Int.reduceNeg, Int.reduceEq, Int.reduceNe, reduceIte, jf_in, pFc_in, aGi, aGb, aSi, aLc_in, cKc_in, nA_in, jm_s1, jm_s2, jm_p1, jm_p2, jm_b, jn_b, jn_s, jn_p, jset_jset, jset_jpush2, ckR_is, ckr_is, rR_is, ckW_is, cR_is, obi2, ckW_int, eq_self, if_true, ref_null, if_false, ne_eq, not_true_eq_false, not_false_eq_true, decide_true, decide_false, decide_not, Bool.true_and, Bool.false_and, Bool.and_true, Bool.and_false, Bool.true_or, Bool.false_or, Bool.or_true, Bool.or_false, Bool.not_true, Bool.not_false, Bool.false_eq_true, bI_t, bI_f, Int.natCast_one, Int.cast_ofNat_Int, Int.natCast_zero, o23_0, o23_1, o23_2, o12_0, o12_1, o13_0, o13_1, o13_2, o13_3, o13_4, o13_5, o13_6, o14_0, o14_1, o14_2, o14_3, o14_4, o14_5, o3_0, o3_1, o3_2, o3_3, o3_4, o11_0, o11_1, o11_2, o11_3, o4_0, o4_1, o4_2, o4_3, o4_4, o4_5, o4_6, o5_0, o5_1, o5_2, o5_3, o5_4, o5_5, n5, o5s_0, o5s_1, o5s_2, o5s_3, o5s_4, o5s_5, p0, s0, z1', hRs, anyF]
      rw [if_pos (by omega)]
    | succ j ih =>
      intro f f0 hf
      obtain ⟨fb, hfb, hg⟩ := z4.get hF f0 (show f < S 2 by omega)
      obtain ⟨fe, y1, -⟩ := id hfb
      have y1' := hF.m y1
      have pr := c_parent (d := d) W hF h.2.1 h.sq hrow r0 r1 hfb f0 (by omega)
      have k3 := (W.key2 f0 (show f < S 2 by omega)).2.2.1
      have ih' := ih (f + 1) (by omega) (by omega)
      have prR : isR (prV ra (if S (249 + r) = S (58 + f) then tgtS S r f else -1)) = true := prV_R
      have e : anyF (fun f => decide (S (88 + f) = 1) && decide (parS S r f = x)) (j + 1) f = ((decide (S (88 + f) = 1) && decide (parS S r f = x)) || anyF (fun f => decide (S (88 + f) = 1) && decide (parS S r f = x)) j (f + 1)) := rfl
      have cond : (prV ra (if S (249 + r) = S (58 + f) then tgtS S r f else -1) = .ref (ra x)) ↔ parS S r f = x := by
        show (prV ra (parS S r f) = _) ↔ _
        have pg := parS_rg (S := S) (r := r) (f := f)
        unfold prV
        by_cases hp : parS S r f < 0
        · rw [if_pos hp]
          exact ⟨fun z => (by cases z), fun z => by omega⟩
        · rw [if_neg hp, ref_eq2]
          have al : S (150 + parS S r f) = 1 := by
            unfold parS at hp ⊢
            by_cases c : S (249 + r) = S (58 + f)
            · rw [if_pos c] at hp ⊢; exact (tgt_al (by omega)).1
            · rw [if_neg c] at hp; omega
          exact ⟨fun z => rows_inj s2 (by omega) pg.2 al x0 x1 x2 z, fun z => by rw [z]⟩
      rw [F5006_2, e]
      generalize anyF (fun f => decide (S (88 + f) = 1) && decide (parS S r f = x)) j (f + 1) = rest at ih' ⊢
      simp (disch := first | assumption | omega | decide | exact okF_i | exact okF_r | exact okF_n | exact okF_j | rfl) only [jc_ref, rI_int, rR_ref, rR_null, rJ_long, ckR_ref, ckR_null, ckr_ref, ckr_null, ckW_int, ckW_ref, ckW_null, cI_ok, cR_ok, cR_null, cV_ok, cJ_ok, qH_eq, qD_in, aG_ref, aS_ref, aL_ref, pF_ref, cK_ref, cK_null, zI_lit, zJ_lit, zI_add, zI_sub, zI_mul, zI_neg, zI_eq, zI_lt, zI_le, Int.reduceLT, Int.reduceLE, Int.reduceAdd, Int.reduceSub, Int.reduceMul, Int.reduceNeg, Int.reduceEq, Int.reduceNe, reduceIte, jf_in, pFc_in, aGi, aGb, aSi, aLc_in, cKc_in, nA_in, jm_s1, jm_s2, jm_p1, jm_p2, jm_b, jn_b, jn_s, jn_p, jset_jset, jset_jpush2, ckR_is, ckr_is, rR_is, ckW_is, cR_is, obi2, ckW_int, eq_self, if_true, ref_null, if_false, ne_eq, not_true_eq_false, not_false_eq_true, decide_true, decide_false, decide_not, Bool.true_and, Bool.false_and, Bool.and_true, Bool.and_false, Bool.true_or, Bool.false_or, Bool.or_true, Bool.or_false, Bool.not_true, Bool.not_false, Bool.false_eq_true, bI_t, bI_f, Int.natCast_one, Int.cast_ofNat_Int, Int.natCast_zero, o23_0, o23_1, o23_2, o12_0, o12_1, o13_0, o13_1, o13_2, o13_3, o13_4, o13_5, o13_6, o14_0, o14_1, o14_2, o14_3, o14_4, o14_5, o3_0, o3_1, o3_2, o3_3, o3_4, o11_0, o11_1, o11_2, o11_3, o4_0, o4_1, o4_2, o4_3, o4_4, o4_5, o4_6, o5_0, o5_1, o5_2, o5_3, o5_4, o5_5, n5, o5s_0, o5s_1, o5s_2, o5s_3, o5s_4, o5s_5, p0, s0, z1', hRs, hg, y1', pr]
      rw [if_neg (by omega)]
      by_cases o1 : S (88 + f) = 1
      · rw [if_pos o1]
        by_cases o2 : parS S r f = x
        · rw [if_pos (cond.mpr o2), decide_eq_true o1, decide_eq_true o2, Bool.true_and, Bool.true_or]
          rfl
        · rw [if_neg (fun z => o2 (cond.mp z)), ih']
          simp [o1, o2]
      · rw [if_neg o1, ih']
        simp [o1]
  have := lp (S 2).toNat 0 (Int.le_refl _) (by omega)
  rw [Y5006 H rfl rfl (jrecv_in p0 rfl), F5006_0]
  exact this
/-- who is found goes -/
theorem lt_5 {A : List Int} (hA : ∀ x ∈ A, AlS S x) (hhd : hd < cap) (hc : cap < 1000) (hl : A.length < cap) (hqd : F qd = none ∧ ¬ StP a qd ∧ ¬ PlP p qd) (hit : F it = none ∧ ¬ StP a it ∧ ¬ PlP p it) (hne : it ≠ qd) : ∀ (s : List Int) (k : Nat) (H : AH) (g : Nat → Bool) (sp : Int → Int) (wl : Nat) (lr : Int) (v3 : Value), PlW F H q a p S nm ra wl g w sp → GS g sp → A.drop k = s → k ≤ A.length → jm H qd = some (cDQ cap hd (A.map fun r => .ref (ra r))) → jm H it = some (64, 4, oDt ((hd + k) % cap : Nat) (A.length - k : Nat) lr qd) → qd < H.1 → it < H.1 →
    ∃ (H2 : AH) (g2 : Nat → Bool) (sp2 : Int → Int) (wl2 : Nat) (v3' : Value), G2 (d + 4) 5011 5 [.ref p, .ref qd, .ref it, v3, jno] [] H = G2 (d + 4) 5011 48 [.ref p, .ref qd, .ref it, v3', jno] [] H2 ∧ PlW F H2 q a p S nm ra wl2 g2 w sp2 ∧ GS g2 sp2 ∧ (∀ r, sp2 r = if r ∈ s then 0 else sp r) ∧ jm H2 qd = some (cDQ cap hd (A.map fun r => .ref (ra r))) ∧ Fr H H2 (fun x => PlP p x ∨ x = it) ∧ H2.1 + (2 - wl2) = H.1 + (2 - wl) ∧ H2.2.1 + 2 * (2 - wl2) = H.2.1 + 2 * (2 - wl) := by
  intro s
  induction s with
  | nil =>
    intro k H g sp wl lr v3 h hG hk hkl mq mi lq li
    have : A.length ≤ k := by
      have := congrArg List.length hk
      simp at this
      omega
    have dh := h_dhas (d := d + 3) mi (by omega) (by have := Nat.mod_lt (hd + k) (show 0 < cap by omega); omega) (by omega) (by omega)
    have m1 : MvH (d + 4) 9102 [.ref it] H = M2 (d + 4) 64000 [.ref it] H := by simp only [MvH, mi]; rfl
    refine ⟨H, g, sp, wl, v3, ?_, h, hG, fun r => by simp, mq, Fr.rf, rfl, rfl⟩
    conv => lhs; rw [F5011_5]
    have : decide ((0 : Int) < ((A.length - k : Nat) : Int)) = false := decide_eq_false (by omega)
    rw [this] at dh
    simp (disch := first | assumption | omega | decide | exact okF_i | exact okF_r | exact okF_n | exact okF_j | rfl) only [jc_ref, rI_int, rR_ref, rR_null, rJ_long, ckR_ref, ckR_null, ckr_ref, ckr_null, ckW_int, ckW_ref, ckW_null, cI_ok, cR_ok, cR_null, cV_ok, cJ_ok, qH_eq, qD_in, aG_ref, aS_ref, aL_ref, pF_ref, cK_ref, cK_null, zI_lit, zJ_lit, zI_add, zI_sub, zI_mul, zI_neg, zI_eq, zI_lt, zI_le, Int.reduceLT, Int.reduceLE, Int.reduceAdd, Int.reduceSub, Int.reduceMul, Int.reduceNeg, Int.reduceEq, Int.reduceNe, reduceIte, jf_in, pFc_in, aGi, aGb, aSi, aLc_in, cKc_in, nA_in, jm_s1, jm_s2, jm_p1, jm_p2, jm_b, jn_b, jn_s, jn_p, jset_jset, jset_jpush2, ckR_is, ckr_is, rR_is, ckW_is, cR_is, obi2, ckW_int, eq_self, if_true, ref_null, if_false, ne_eq, not_true_eq_false, not_false_eq_true, decide_true, decide_false, decide_not, Bool.true_and, Bool.false_and, Bool.and_true, Bool.and_false, Bool.true_or, Bool.false_or, Bool.or_true, Bool.or_false, Bool.not_true, Bool.not_false, Bool.false_eq_true, bI_t, bI_f, Int.natCast_one, Int.cast_ofNat_Int, Int.natCast_zero, o23_0, o23_1, o23_2, o12_0, o12_1, o13_0, o13_1, o13_2, o13_3, o13_4, o13_5, o13_6, o14_0, o14_1, o14_2, o14_3, o14_4, o14_5, o3_0, o3_1, o3_2, o3_3, o3_4, o11_0, o11_1, o11_2, o11_3, o4_0, o4_1, o4_2, o4_3, o4_4, o4_5, o4_6, o5_0, o5_1, o5_2, o5_3, o5_4, o5_5, n5, o5s_0, o5s_1, o5s_2, o5s_3, o5s_4, o5s_5, m1, dh]
  | cons x s ih =>
    intro k H g sp wl lr v3 h hG hk hkl mq mi lq li
    have hkn : k < A.length := by
      by_cases c : k < A.length
      · exact c
      · rw [List.drop_eq_nil_of_le (by omega)] at hk; cases hk
    rw [List.drop_eq_getElem_cons hkn] at hk
    simp only [List.cons.injEq] at hk
    obtain ⟨x0, x1, x2⟩ := hA x (hk.1 ▸ List.getElem_mem hkn)
    have hml : (A.map fun r => (Value.ref (ra r) : Value)).length = A.length := List.length_map _
    have hgd : (A.map fun r => (Value.ref (ra r) : Value)).getD k .null = .ref (ra x) := by
      rw [List.getD_eq_getElem?_getD, List.getElem?_map, List.getElem?_eq_getElem hkn, hk.1]; rfl
    have hF := h.1
    have hrow := h.row x0 x1 x2
    obtain ⟨xe, xg, m1, m2, m3⟩ := id hrow
    have dh := h_dhas (d := d + 3) mi (by omega) (by have := Nat.mod_lt (hd + k) (show 0 < cap by omega); omega) (by omega) (by omega)
    rw [decide_eq_true (show (0 : Int) < ((A.length - k : Nat) : Int) by omega)] at dh
    have dn := h_dnext (d := d + 3) (q := it) (k := k) (lr := lr) mq (by omega) (by rw [hml]; exact hkn) (by rw [hml]; exact hl) (by rw [hml]; exact mi)
    rw [hgd, hml] at dn
    have e1 : MvH (d + 4) 9102 [.ref it] H = M2 (d + 4) 64000 [.ref it] H := by simp only [MvH, mi]; rfl
    have e2 : MvH (d + 4) 9103 [.ref it] H = M2 (d + 4) 64001 [.ref it] H := by simp only [MvH, mi]; rfl
    -- the iterator moves
    obtain ⟨HI, hHI⟩ : ∃ HI, HI = jset H it (64, 4, oDt ((hd + (k + 1)) % cap : Nat) (A.length - (k + 1) : Nat) ((hd + k) % cap : Nat) qd) := ⟨_, rfl⟩
    have fI : Fr H HI (fun x => x = it) := by rw [hHI]; exact Fr.set rfl
    have hI : PlW F HI q a p S nm ra wl g w sp := h.ot fI fun y hy => by rw [hy]; exact hit
    have HI1 : HI.1 = H.1 := by rw [hHI]; rfl
    have HI2 : HI.2.1 = H.2.1 := by rw [hHI]; rfl
    have m1I := hI.1.m m1
    obtain ⟨H1, wl2, b1, b2, b2', b3, b4, b5⟩ := p_mark hI x0 x1
    have p0 := hI.2.2.2.2.1.1
    have p1 := b2'.2.2.2.2.1.1
    have p4 := b2'.2.2.2.2.1.2.2.2.1
    have m1J := b2'.1.m m1
    have nq : ¬ PlP p qd := hqd.2.2
    have ni : ¬ PlP p it := hit.2.2
    have np4 : PlP p (p + 4) := by unfold PlP; omega
    have mqI : jm HI qd = some (cDQ cap hd (A.map fun r => .ref (ra r))) := (fI.2.2 qd lq (Ne.symm hne)).trans mq
    have mq1 : jm (jset H1 (p + 4) (1000, 99, aI (fset sp x 0))) qd = some (cDQ cap hd (A.map fun r => .ref (ra r))) := (jm_s2 (by rintro rfl; exact nq np4)).trans ((b3.2.2 qd (by omega) nq).trans mqI)
    have mi1 : jm (jset H1 (p + 4) (1000, 99, aI (fset sp x 0))) it = some (64, 4, oDt ((hd + (k + 1)) % cap : Nat) (A.length - (k + 1) : Nat) ((hd + k) % cap : Nat) qd) := (jm_s2 (by rintro rfl; exact ni np4)).trans ((b3.2.2 it (by omega) ni).trans (by rw [hHI]; exact jm_s1))
    have lq1 : qd < H1.1 := Nat.lt_of_lt_of_le (by omega) b3.1
    have li1 : it < H1.1 := Nat.lt_of_lt_of_le (by omega) b3.1
    obtain ⟨H2, g2, sp2, wl3, v3', i1, i2, i3, i4, i5, i6, i7, i8⟩ := ih (k + 1) (jset H1 (p + 4) (1000, 99, aI (fset sp x 0))) (gset g x) (fset sp x 0) wl2 ((hd + k) % cap : Nat) (.ref (ra x)) (b2 0) (hG.set x0 x1 (Int.le_refl _)) hk.2 (by omega) mq1 mi1 lq1 li1
    refine ⟨H2, g2, sp2, wl3, v3', ?_, i2, i3, fun r => ?_, i5, ?_, ?_, ?_⟩
    · rw [← i1]
      conv => lhs; rw [F5011_5]
      simp (disch := first | assumption | omega | decide | exact okF_i | exact okF_r | exact okF_n | exact okF_j | rfl) only [jc_ref, rI_int, rR_ref, rR_null, rJ_long, ckR_ref, ckR_null, ckr_ref, ckr_null, ckW_int, ckW_ref, ckW_null, cI_ok, cR_ok, cR_null, cV_ok, cJ_ok, qH_eq, qD_in, aG_ref, aS_ref, aL_ref, pF_ref, cK_ref, cK_null, zI_lit, zJ_lit, zI_add, zI_sub, zI_mul, zI_neg, zI_eq, zI_lt, zI_le, Int.reduceLT, Int.reduceLE, Int.reduceAdd, Int.reduceSub, Int.reduceMul, Int.reduceNeg, Int.reduceEq, Int.reduceNe, reduceIte, jf_in, pFc_in, aGi, aGb, aSi, aLc_in, cKc_in, nA_in, jm_s1, jm_s2, jm_p1, jm_p2, jm_b, jn_b, jn_s, jn_p, jset_jset, jset_jpush2, ckR_is, ckr_is, rR_is, ckW_is, cR_is, obi2, ckW_int, eq_self, if_true, ref_null, if_false, ne_eq, not_true_eq_false, not_false_eq_true, decide_true, decide_false, decide_not, Bool.true_and, Bool.false_and, Bool.and_true, Bool.and_false, Bool.true_or, Bool.false_or, Bool.or_true, Bool.or_false, Bool.not_true, Bool.not_false, Bool.false_eq_true, bI_t, bI_f, Int.natCast_one, Int.cast_ofNat_Int, Int.natCast_zero, o23_0, o23_1, o23_2, o12_0, o12_1, o13_0, o13_1, o13_2, o13_3, o13_4, o13_5, o13_6, o14_0, o14_1, o14_2, o14_3, o14_4, o14_5, o3_0, o3_1, o3_2, o3_3, o3_4, o11_0, o11_1, o11_2, o11_3, o4_0, o4_1, o4_2, o4_3, o4_4, o4_5, o4_6, o5_0, o5_1, o5_2, o5_3, o5_4, o5_5, n5, o5s_0, o5s_1, o5s_2, o5s_3, o5s_4, o5s_5, e1, dh, e2, dn, ← hHI, m1I, p0, b1, p1, m1J, p4, aS_ref]
    · rw [i4 r]
      by_cases hr : r ∈ s
      · rw [if_pos hr, if_pos (List.mem_cons_of_mem _ hr)]
      · rw [if_neg hr]
        by_cases hrx : r = x
        · subst hrx; rw [fset_eq, if_pos List.mem_cons_self]
        · rw [fset_ne hrx, if_neg (by rw [List.mem_cons]; rintro (z | z); exact hrx z; exact hr z)]
    · exact (fI.mono fun _ _ z => Or.inr z).tr ((b3.mono fun _ _ z => Or.inl z).tr ((Fr.set (Or.inl np4)).tr i6))
    · have : (jset H1 (p + 4) (1000, 99, aI (fset sp x 0))).1 = H1.1 := rfl
      omega
    · have : (jset H1 (p + 4) (1000, 99, aI (fset sp x 0))).2.1 = H1.2.1 := rfl
      omega
end
