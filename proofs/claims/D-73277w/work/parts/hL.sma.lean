/-! the component's reader of schemas: a schema that is being made -/
-- jc_ref, rI_int, rR_ref, rR_null, rJ_long, ckR_ref, ckR_null, ckr_ref, ckr_null, ckW_int, ckW_ref, ckW_null, cI_ok, cR_ok, cR_null, cV_ok, cJ_ok, qH_eq, qD_in, aG_ref, aS_ref, aL_ref, pF_ref, cK_ref, cK_null, zI_lit, zJ_lit, zI_add, zI_sub, zI_mul, zI_neg, zI_eq, zI_lt, zI_le, Int.reduceLT, Int.reduceLE, Int.reduceAdd, Int.reduceSub, Int.reduceMul, Int.reduceNeg, Int.reduceEq, Int.reduceNe, reduceIte, jf_in, pFc_in, aGi, aGb, aSi, aLc_in, cKc_in, nA_in, jm_s1, jm_s2, jm_p1, jm_p2, jm_b, jn_b, jn_s, jn_p, jset_jset, jset_jpush2, ckR_is, ckr_is, rR_is, ckW_is, cR_is, obi2, ckW_int, eq_self, if_true, ref_null, if_false, ne_eq, not_true_eq_false, not_false_eq_true, decide_true, decide_false, decide_not, Bool.true_and, Bool.false_and, Bool.and_true, Bool.and_false, Bool.true_or, Bool.false_or, Bool.or_true, Bool.or_false, Bool.not_true, Bool.not_false, Bool.false_eq_true, bI_t, bI_f, Int.natCast_one, Int.cast_ofNat_Int, Int.natCast_zero, ju_self, ju_ne = jc_ref, rI_int, rR_ref, rR_null, rJ_long, ckR_ref, ckR_null, ckr_ref, ckr_null, ckW_int, ckW_ref, ckW_null, cI_ok, cR_ok, cR_null, cV_ok, cJ_ok, qH_eq, qD_in, aG_ref, aS_ref, aL_ref, pF_ref, cK_ref, cK_null, zI_lit, zJ_lit, zI_add, zI_sub, zI_mul, zI_neg, zI_eq, zI_lt, zI_le, Int.reduceLT, Int.reduceLE, Int.reduceAdd, Int.reduceSub, Int.reduceMul, Int.reduceNeg, Int.reduceEq, Int.reduceNe, reduceIte, jf_in, pFc_in, aGi, aGb, aSi, aLc_in, cKc_in, nA_in, jm_s1, jm_s2, jm_p1, jm_p2, jm_b, jn_b, jn_s, jn_p, jset_jset, jset_jpush2, ckR_is, ckr_is, rR_is, ckW_is, cR_is, obi2, ckW_int, eq_self, if_true, ref_null, if_false, ne_eq, not_true_eq_false, not_false_eq_true, decide_true, decide_false, decide_not, Bool.true_and, Bool.false_and, Bool.and_true, Bool.and_false, Bool.true_or, Bool.false_or, Bool.or_true, Bool.or_false, Bool.not_true, Bool.not_false, Bool.false_eq_true, bI_t, bI_f, Int.natCast_one, Int.cast_ofNat_Int, Int.natCast_zero, ju_self, ju_ne
/-- the twin's names, as a schema has them -/
def nmS (nm : Int → Int) : Int → Int := fun i => nm (20 + i)
theorem nmS_at {nm : Int → Int} {i : Int} : nmS nm i = nm (20 + i) := rfl
/-- a list that is being made -/
def LstM (H : AH) (u : Nat) (n : Int) (P : Int → Nat → Prop) : Prop := ∃ cap mc l, jm H u = some (cAL cap mc l) ∧ (cap = 0 ∧ l = [] ∨ cap = 10) ∧ (l.length : Int) = n ∧ ∀ k : Int, 0 ≤ k → k < n → ∃ b, l.getD k.toNat .null = .ref b ∧ P k b
def TabM (F : Nat → Option Cl) (H : AH) (b : Nat) (t : Int) (S nm : Int → Int) : Prop := (∃ qn, jm H b = some (11, 4, o11 (.ref qn) (.ref (b + 1)) (.ref (b + 2)) (.ref (b + 3))) ∧ ∃ s, StrF F qn s ∧ NmB s ∧ pk s = nm t) ∧
  LstM H (b + 1) (S (4 + t)) (fun c u => ∃ s, StrF F u s ∧ NmB s ∧ pk s = nm (4 + 4 * t + c)) ∧
  (∃ gd, jm H (b + 2) = some (1000, 4, aI gd) ∧ ∀ c, 0 ≤ c → c < 4 → gd c = S (8 + 4 * t + c)) ∧
  ∃ s, jm H (b + 3) = some (cBS 1 s) ∧ ∀ c : Int, 0 ≤ c → c < 4 → s c.toNat = decide (S (24 + 4 * t + c) = 1)
/-- the cells that are written -/
def Bs (a q : Nat) (bt : Int → Nat) (n : Int) : Nat → Prop := fun u => u = a ∨ (q ≤ u ∧ u < q + 5) ∨ ∃ t : Int, 0 ≤ t ∧ t < n ∧ bt t ≤ u ∧ u < bt t + 4
def OrdM (H : AH) (a q : Nat) (bt : Int → Nat) (m : Int) : Prop := (a < q ∧ q + 5 ≤ H.1) ∧ (∀ t, 0 ≤ t → t < m → q + 5 ≤ bt t ∧ bt t + 4 ≤ H.1) ∧ ∀ t t', 0 ≤ t → t < t' → t' < m → bt t + 4 ≤ bt t'
/-- a schema that is being made: n tables in its list, m of them there are -/
def SchM (H : AH) (a q : Nat) (bt : Int → Nat) (n m ln : Int) (S nm : Int → Int) : Prop := OrdM H a q bt m ∧
  jm H q = some (3, 5, o3 ln (.ref (q + 1)) (.ref (q + 2)) (.ref (q + 3)) (.ref (q + 4))) ∧
  LstM H (q + 1) n (fun t b => b = bt t) ∧
  LstM H (q + 2) (S 1) (fun k b => KeyF (Fz (Bs a q bt m) H) b k S) ∧
  LstM H (q + 3) (S 2) (fun k b => RefF (Fz (Bs a q bt m) H) b k S) ∧
  LstM H (q + 4) (S 3) (fun k b => ChkF (Fz (Bs a q bt m) H) b k S) ∧
  (∀ t, 0 ≤ t → t < m → TabM (Fz (Bs a q bt m) H) H (bt t) t S nm) ∧
  ((∀ t, m ≤ t → t < 4 → ∀ c, 0 ≤ c → c < 4 → S (8 + 4 * t + c) = -1 ∧ S (24 + 4 * t + c) = 0) ∧ ∀ k, S 3 ≤ k → k < 6 → S (130 + k) = 0) ∧ HsW S
section
variable {d : Nat} {H H2 : AH} {a b q u tp : Nat} {n m ln t e : Int} {F G : Nat → Option Cl} {P Q : Int → Nat → Prop} {P0 : Nat → Prop} {S S' nm nm' g : Int → Int} {bt bt' : Int → Nat} {z l : Int}
theorem LstM.up (h : LstM H u n P) (e : jm H2 u = jm H u) (hp : ∀ k b, 0 ≤ k → k < n → P k b → Q k b) : LstM H2 u n Q := by
  obtain ⟨cap, mc, l, h1, h2, h3, h4⟩ := h
  refine ⟨cap, mc, l, e.trans h1, h2, h3, fun k k0 k1 => ?_⟩
  obtain ⟨b, b1, b2⟩ := h4 k k0 k1
  exact ⟨b, b1, hp k b k0 k1 b2⟩
theorem LstM.sz (h : LstM H u n P) : M2 (d + 1) 43017 [.ref u] H = some (.inl (some (.int (zI n))), H) := by
  obtain ⟨cap, mc, l, h1, h2, h3, h4⟩ := h
  rw [h_size h1, h3]
theorem LstM.gt (h : LstM H u n P) (t0 : 0 ≤ t) (t1 : t < n) (n9 : n ≤ 10) : ∃ b, P t b ∧ ∀ d, M2 (d + 1) 43005 [.ref u, .int (zI t)] H = some (.inl (some (.ref b)), H) := by
  obtain ⟨cap, mc, l, h1, h2, h3, h4⟩ := h
  obtain ⟨b, b1, b2⟩ := h4 t t0 t1
  refine ⟨b, b2, fun d => ?_⟩
  rw [h_get (d := d) h1 t0 (by omega) (by omega) (by omega), b1]
theorem LstM.add (h : LstM H u n P) (n9 : n ≤ 9) {c : Cl} (hb : jm H b = some c) (hc : c.1 < 1000) : ∃ H2, (∀ d, M2 (d + 1) 43000 [.ref u, .ref b] H = some (.inl (some (.int 1)), H2)) ∧ Fr H H2 (fun x => x = u) ∧ H2.1 ≤ H.1 + 1 ∧ H2.2.1 ≤ H.2.1 + 10 ∧ ∀ Q : Int → Nat → Prop, (∀ k x, 0 ≤ k → k < n → P k x → Q k x) → Q n b → LstM H2 u (n + 1) Q := by
  obtain ⟨cap, mc, l, h1, h2, h3, h4⟩ := h
  have ad := fun d => h_add (d := d) h1 (by omega) (v := .ref b) (Or.inr ⟨b, c, rfl, hb, hc⟩)
  have cases : ∃ HB, alBurn H cap l.length = HB ∧ alUp cap l.length = 10 ∧ Fr H HB (fun x => x = u) ∧ HB.1 ≤ H.1 + 1 ∧ HB.2.1 ≤ H.2.1 + 10 := by
    rcases h2 with ⟨rfl, rfl⟩ | rfl
    · exact ⟨jburn H 1 10, rfl, rfl, Fr.burn, Nat.le_refl _, Nat.le_refl _⟩
    · refine ⟨H, ?_, ?_, Fr.rf, Nat.le_succ _, Nat.le_add_right _ _⟩
      · unfold alBurn; rw [if_pos (by omega)]
      · unfold alUp; rw [if_pos (by omega)]
  obtain ⟨HB, e1, e2, e3, e4, e5⟩ := cases
  rw [e1, e2] at ad
  refine ⟨_, ad, e3.tr (Fr.set rfl), e4, e5, fun Q hq q1 => ⟨10, mc + 1, l ++ [.ref b], jm_s1, Or.inr rfl, by rw [List.length_append]; simp; omega, fun k k0 k1 => ?_⟩⟩
  by_cases c1 : k < n
  · obtain ⟨x, x1, x2⟩ := h4 k k0 c1
    refine ⟨x, ?_, hq k x k0 c1 x2⟩
    rw [List.getD_eq_getElem?_getD, List.getElem?_append_left (by omega), ← List.getD_eq_getElem?_getD]; exact x1
  · have ek : k = n := by omega
    subst ek
    refine ⟨b, ?_, q1⟩
    rw [List.getD_eq_getElem?_getD, List.getElem?_append_right (by omega), show k.toNat - l.length = 0 by omega]; rfl
theorem LstM.f (h : LstM H u n P) (n9 : n ≤ 10) (hF : F u = jm H u) (hp : ∀ k b, 0 ≤ k → k < n → P k b → Q k b) : LstF F u n Q := by
  obtain ⟨cap, mc, l, h1, h2, h3, h4⟩ := h
  refine ⟨cap, mc, l, hF.trans h1, by omega, by omega, h3, fun k k0 k1 => ?_⟩
  obtain ⟨b, b1, b2⟩ := h4 k k0 k1
  exact ⟨b, b1, hp k b k0 k1 b2⟩
theorem TabM.up (h : TabM F H b t S nm) (e : ∀ i, i < 4 → jm H2 (b + i) = jm H (b + i)) (s : Sub F G) (e4 : S' (4 + t) = S (4 + t)) (e8 : ∀ c, 0 ≤ c → c < 4 → S' (8 + 4 * t + c) = S (8 + 4 * t + c)) (e24 : ∀ c, 0 ≤ c → c < 4 → S' (24 + 4 * t + c) = S (24 + 4 * t + c)) (en : nm' t = nm t) (ec : ∀ c, 0 ≤ c → c < S (4 + t) → nm' (4 + 4 * t + c) = nm (4 + 4 * t + c)) : TabM G H2 b t S' nm' := by
  obtain ⟨⟨qn, h1, s1, h2, h3, h4⟩, h5, ⟨gd, h6, h7⟩, s2, h8, h9⟩ := h
  refine ⟨⟨qn, (e 0 (by omega)).trans h1, s1, h2.sub s, h3, h4.trans en.symm⟩, ?_, ⟨gd, (e 2 (by omega)).trans h6, fun c c0 c1 => (h7 c c0 c1).trans (e8 c c0 c1).symm⟩, s2, (e 3 (by omega)).trans h8, fun c c0 c1 => by rw [e24 c c0 c1]; exact h9 c c0 c1⟩
  rw [e4]
  exact h5.up (e 1 (by omega)) fun k u k0 k1 ⟨s3, x1, x2, x3⟩ => ⟨s3, x1.sub s, x2, x3.trans (ec k k0 k1).symm⟩
theorem TabM.tn (h : TabM F H b t S nm) (hF : Fzn F H) (c4 : S (4 + t) ≤ 4) : TabN H b t S nm := by
  obtain ⟨⟨qn, h1, s1, h2, h3, h4⟩, ⟨cap, mc, l, c1, c2, c3, c5⟩, -⟩ := h
  refine ⟨_, _, qn, b + 1, h1, rfl, rfl, ⟨s1, h2.at hF, h3, h4⟩, cap, mc, l, c1, by omega, by omega, c3, fun c z0 z1 => ?_⟩
  obtain ⟨u, u1, s, x1, x2, x3⟩ := c5 c z0 z1
  exact ⟨u, u1, s, x1.at hF, x2, x3⟩
theorem OrdM.fr (h : OrdM H a q bt m) (f : H.1 ≤ H2.1) : OrdM H2 a q bt m := ⟨⟨h.1.1, by have := h.1.2; omega⟩, fun t t0 t1 => ⟨(h.2.1 t t0 t1).1, by have := (h.2.1 t t0 t1).2; omega⟩, h.2.2⟩
/-- what is not a cell of a table -/
theorem OrdM.out (h : OrdM H a q bt m) {t : Int} (t0 : 0 ≤ t) (t1 : t < m) {i : Nat} (hi : i < 4) : bt t + i < H.1 ∧ a < bt t + i ∧ q + 5 ≤ bt t + i := by
  have h1 := h.1
  have h2 := h.2.1 t t0 t1
  omega
theorem KeyF.cg {k : Int} (h : KeyF F b k S) (s : Sub F G) (e1 : S' (40 + k) = S (40 + k)) (e2 : S' (46 + k) = S (46 + k)) (e3 : S' (52 + k) = S (52 + k)) : KeyF G b k S' := by
  obtain ⟨e, x, y⟩ := h
  exact ⟨e, by rw [e1]; exact s _ _ x, by rw [e2, e3]; exact y.sub s⟩
theorem RefF.cg {k : Int} (h : RefF F b k S) (s : Sub F G) (e : ∀ j : Int, 0 ≤ j → j < 9 → S' (58 + 6 * j + k) = S (58 + 6 * j + k)) : RefF G b k S' := by
  obtain ⟨x, y, w⟩ := h
  have e0 := e 0 (by omega) (by omega)
  have e1 := e 1 (by omega) (by omega)
  have e2 := e 2 (by omega) (by omega)
  have e4 := e 4 (by omega) (by omega)
  have e5 := e 5 (by omega) (by omega)
  have e6 := e 6 (by omega) (by omega)
  have e7 := e 7 (by omega) (by omega)
  have e8 := e 8 (by omega) (by omega)
  refine ⟨x, ?_, ?_⟩
  · rw [show (58 : Int) + k = 58 + 6 * 0 + k by omega, e0, show (82 : Int) + k = 58 + 6 * 4 + k by omega, e4, show (88 : Int) + k = 58 + 6 * 5 + k by omega, e5, show (94 : Int) + k = 58 + 6 * 6 + k by omega, e6, show (100 : Int) + k = 58 + 6 * 7 + k by omega, e7, show (106 : Int) + k = 58 + 6 * 8 + k by omega, e8]
    have := s _ _ y
    rw [show (58 : Int) + 6 * 0 + k = 58 + k by omega, show (58 : Int) + 6 * 4 + k = 82 + k by omega, show (58 : Int) + 6 * 5 + k = 88 + k by omega, show (58 : Int) + 6 * 6 + k = 94 + k by omega, show (58 : Int) + 6 * 7 + k = 100 + k by omega, show (58 : Int) + 6 * 8 + k = 106 + k by omega]
    exact this
  · rw [show (64 : Int) + k = 58 + 6 * 1 + k by omega, e1, show (70 : Int) + k = 58 + 6 * 2 + k by omega, e2, show (58 : Int) + 6 * 1 + k = 64 + k by omega, show (58 : Int) + 6 * 2 + k = 70 + k by omega]
    exact w.sub s
theorem ChkF.cg {k : Int} (h : ChkF F b k S) (s : Sub F G) (e1 : S' (112 + k) = S (112 + k)) (e2 : S' (118 + k) = S (118 + k)) (e3 : S' (124 + k) = S (124 + k)) (e4 : S' (136 + k) = S (136 + k)) (e5 : S' (130 + k) = S (130 + k)) (e6 : S' (142 + k) = S (142 + k)) : ChkF G b k S' := by
  unfold ChkF
  rw [e1, e2, e3, e4, e5, e6]
  exact s _ _ h
theorem SchM.fr (h : SchM H a q bt n m ln S nm) (f : Fr H H2 (fun u => u = a)) : SchM H2 a q bt n m ln S nm := by
  obtain ⟨o, h1, h2, h3, h4, h5, h6, h7, h8⟩ := h
  have oa := o.1.1
  have ob := o.1.2
  have sb : Sub (Fz (Bs a q bt m) H) (Fz (Bs a q bt m) H2) := Fz_sub f fun u _ e => Or.inl e
  have e : ∀ i, i < 5 → jm H2 (q + i) = jm H (q + i) := fun i hi => f.2.2 _ (by omega) (by omega)
  refine ⟨o.fr f.1, (e 0 (by omega)).trans h1, h2.up (e 1 (by omega)) fun _ _ _ _ x => x, h3.up (e 2 (by omega)) fun _ _ _ _ x => x.sub sb, h4.up (e 3 (by omega)) fun _ _ _ _ x => x.sub sb, h5.up (e 4 (by omega)) fun _ _ _ _ x => x.sub sb, fun t t0 t1 => ?_, h7, h8⟩
  refine (h6 t t0 t1).up (fun i hi => ?_) sb rfl (fun _ _ _ => rfl) (fun _ _ _ => rfl) rfl fun _ _ _ => rfl
  have := o.out t0 t1 hi
  exact f.2.2 _ this.1 (by omega)
theorem SchM.ns (h : SchM H a q bt (S 0) m ln S nm) (hm : S 0 ≤ m) : SchN H q S nm := by
  obtain ⟨o, h1, ⟨cap, mc, lst, a1, a2, a3, a4⟩, h3, h4, h5, h6, h7, h8⟩ := h
  have b0 := h8.1.2.1
  refine ⟨5, _, q + 1, cap, mc, lst, h1, rfl, a1, by omega, by omega, a3, fun t t0 t1 => ?_⟩
  obtain ⟨b, b1, b2⟩ := a4 t t0 t1
  refine ⟨b, b1, ?_⟩
  rw [b2]
  exact (h6 t t0 (by omega)).tn Fz_F (h8.1.2.2.1 t t0 (by omega)).2
/-- what is laid into the lists of keys, of references, of checks -/
theorem SchM.up3 (h : SchM H a q bt n m ln S nm) (f : Fr H H2 P0) (hP : ∀ u, P0 u → u = a ∨ (q + 2 ≤ u ∧ u < q + 5)) (W : HsW S') (e : ∀ i, 4 ≤ i → i < 40 → S' i = S i)
    (l2 : LstM H2 (q + 2) (S' 1) (fun k b => KeyF (Fz (Bs a q bt m) H2) b k S')) (l3 : LstM H2 (q + 3) (S' 2) (fun k b => RefF (Fz (Bs a q bt m) H2) b k S')) (l4 : LstM H2 (q + 4) (S' 3) (fun k b => ChkF (Fz (Bs a q bt m) H2) b k S')) (m0 : 0 ≤ m) (m4 : m ≤ 4) (ec : ∀ k, S' 3 ≤ k → k < 6 → S' (130 + k) = 0) : SchM H2 a q bt n m ln S' nm := by
  obtain ⟨o, h1, h2, h3, h4, h5, h6, h7, h8⟩ := h
  have oa := o.1.1
  have ob := o.1.2
  have sb : Sub (Fz (Bs a q bt m) H) (Fz (Bs a q bt m) H2) := Fz_sub f fun u _ e => (hP u e).elim Or.inl fun z => Or.inr (Or.inl (by omega))
  have e2 : ∀ u, u < H.1 → u ≠ a → (u < q + 2 ∨ q + 5 ≤ u) → jm H2 u = jm H u := fun u u0 u1 u2 => f.2.2 u u0 fun p => (hP u p).elim u1 fun z => by omega
  refine ⟨o.fr f.1, (e2 q (by omega) (by omega) (by omega)).trans h1, h2.up (e2 _ (by omega) (by omega) (by omega)) fun _ _ _ _ x => x, l2, l3, l4, fun t t0 t1 => ?_, ⟨fun t t0 t1 c c0 c1 => ?_, ec⟩, W⟩
  · refine (h6 t t0 t1).up (fun i hi => ?_) sb (e _ (by omega) (by omega)) (fun _ _ _ => e _ (by omega) (by omega)) (fun _ _ _ => e _ (by omega) (by omega)) rfl fun _ _ _ => rfl
    have := o.out t0 t1 hi
    exact e2 _ this.1 (by omega) (by omega)
  · rw [e _ (by omega) (by omega), e _ (by omega) (by omega)]; exact h7.1 t t0 t1 c c0 c1
/-- what is laid into a table -/
theorem SchM.upT {tt : Int} (h : SchM H a q bt n m ln S nm) (f : Fr H H2 P0) (t0 : 0 ≤ tt) (t1 : tt < m) (hP : ∀ u, P0 u → u = a ∨ (bt tt ≤ u ∧ u < bt tt + 4)) (W : HsW S') (e : ∀ i, i < 4 ∨ 40 ≤ i → S' i = S i)
    (eo : ∀ t, t ≠ tt → 0 ≤ t → t < 4 → S' (4 + t) = S (4 + t) ∧ ∀ c, 0 ≤ c → c < 4 → S' (8 + 4 * t + c) = S (8 + 4 * t + c) ∧ S' (24 + 4 * t + c) = S (24 + 4 * t + c)) (en : ∀ t, t ≠ tt → 0 ≤ t → t < m → nm' t = nm t ∧ ∀ c, 0 ≤ c → c < 4 → nm' (4 + 4 * t + c) = nm (4 + 4 * t + c))
    (T : TabM (Fz (Bs a q bt m) H2) H2 (bt tt) tt S' nm') (m4 : m ≤ 4) : SchM H2 a q bt n m ln S' nm' := by
  obtain ⟨o, h1, h2, h3, h4, h5, h6, h7, h8⟩ := h
  have oa := o.1.1
  have ob := o.1.2
  have ot := o.2.1 tt t0 t1
  have sb : Sub (Fz (Bs a q bt m) H) (Fz (Bs a q bt m) H2) := Fz_sub f fun u _ e => (hP u e).elim Or.inl fun z => Or.inr (Or.inr ⟨tt, t0, t1, z⟩)
  have e2 : ∀ u, u < H.1 → u ≠ a → (u < bt tt ∨ bt tt + 4 ≤ u) → jm H2 u = jm H u := fun u u0 u1 u2 => f.2.2 u u0 fun p => (hP u p).elim u1 fun z => by omega
  have b1 := h8.1.2.2.2.1
  have b2 := h8.1.2.2.2.2.1
  have b3 := h8.1.2.2.2.2.2
  refine ⟨o.fr f.1, (e2 q (by omega) (by omega) (by omega)).trans h1, h2.up (e2 _ (by omega) (by omega) (by omega)) fun _ _ _ _ x => x, ?_, ?_, ?_, fun t z0 z1 => ?_, ⟨fun t z0 z1 c c0 c1 => ?_, fun k k0 k1 => by rw [e 3 (by omega)] at k0; rw [e _ (by omega)]; exact h7.2 k k0 k1⟩, W⟩
  · rw [e 1 (by omega)]
    exact h3.up (e2 _ (by omega) (by omega) (by omega)) fun k u k0 k1 z => z.cg sb (e _ (by omega)) (e _ (by omega)) (e _ (by omega))
  · rw [e 2 (by omega)]
    exact h4.up (e2 _ (by omega) (by omega) (by omega)) fun k u k0 k1 z => z.cg sb fun j j0 j1 => e _ (by omega)
  · rw [e 3 (by omega)]
    exact h5.up (e2 _ (by omega) (by omega) (by omega)) fun k u k0 k1 z => z.cg sb (e _ (by omega)) (e _ (by omega)) (e _ (by omega)) (e _ (by omega)) (e _ (by omega)) (e _ (by omega))
  · by_cases c : t = tt
    · rw [c]; exact T
    · obtain ⟨x1, x2⟩ := eo t c z0 (by omega)
      obtain ⟨y1, y2⟩ := en t c z0 z1
      have c4 := h8.1.2.2.1 t z0 (by omega)
      refine (h6 t z0 z1).up (fun i hi => ?_) sb x1 (fun c c0 c1 => (x2 c c0 c1).1) (fun c c0 c1 => (x2 c c0 c1).2) y1 fun c c0 c1 => y2 c c0 (by omega)
      have := o.out z0 z1 hi
      refine e2 _ this.1 (by omega) ?_
      have h9 := o.2.2
      rcases Int.lt_or_lt_of_ne c with l1 | l1
      · have := h9 t tt z0 l1 t1; omega
      · have := h9 tt t t0 l1 z1; omega
  · obtain ⟨x1, x2⟩ := eo t (by omega) (by omega) z1
    rw [(x2 c c0 c1).1, (x2 c c0 c1).2]
    exact h7.1 t z0 z1 c c0 c1
/-- names can be looked up, whatever the reader does -/
theorem SchM.p (h : SchM H a q bt (S 0) m ln S nm) (hm : S 0 ≤ m) : SchP (fun u => u = a) H q S nm := fun H2 f => (h.fr f).ns hm
theorem hold_col {nm : Int → Int} {p : Int} : holdP g z l S (nmS nm) t (-1) p = colP g z l S nm t p := by
  have e : (fun c => nmS nm (4 + 4 * t + c)) = fun k => nm (24 + 4 * t + k) := funext fun k => by rw [nmS_at]; congr 1; omega
  unfold holdP colP
  rw [e]
  cases hr : lookP g z l (fun k => nm (24 + 4 * t + k)) (S (4 + t)).toNat p with
  | error er => rfl
  | ok v =>
    rw [eb_ok]
    have := (look_rg hr).1
    rw [if_neg (by omega)]
theorem hold_but {nm : Int → Int} {p but : Int} : holdP g z l S (nmS nm) t but p = eb (colP g z l S nm t p) fun c => if c = but then .error (erx g z l p 3) else .ok c := by
  have e : (fun c => nmS nm (4 + 4 * t + c)) = fun k => nm (24 + 4 * t + k) := funext fun k => by rw [nmS_at]; congr 1; omega
  unfold holdP colP
  rw [e]
theorem tab_look {nm : Int → Int} {p : Int} : lookP g z l (fun k => nmS nm k) (S 0).toNat p = tabP g z l S nm p := rfl
end
