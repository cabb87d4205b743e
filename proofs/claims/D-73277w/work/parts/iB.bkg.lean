/-! the component's reader of books: all lines -/
-- jc_ref, rI_int, rR_ref, rR_null, rJ_long, ckR_ref, ckR_null, ckr_ref, ckr_null, ckW_int, ckW_ref, ckW_null, cI_ok, cR_ok, cR_null, cV_ok, cJ_ok, qH_eq, qD_in, aG_ref, aS_ref, aL_ref, pF_ref, cK_ref, cK_null, zI_lit, zJ_lit, zI_add, zI_sub, zI_mul, zI_neg, zI_eq, zI_lt, zI_le, Int.reduceLT, Int.reduceLE, Int.reduceAdd, Int.reduceSub, Int.reduceMul, Int.reduceNeg, Int.reduceEq, Int.reduceNe, reduceIte, jf_in, pFc_in, aGi, aGb, aSi, aLc_in, cKc_in, nA_in, jm_s1, jm_s2, jm_p1, jm_p2, jm_b, jn_b, jn_s, jn_p, jset_jset, jset_jpush2, ckR_is, ckr_is, rR_is, ckW_is, cR_is, obi2, ckW_int, eq_self, if_true, ref_null, if_false, ne_eq, not_true_eq_false, not_false_eq_true, decide_true, decide_false, decide_not, Bool.true_and, Bool.false_and, Bool.and_true, Bool.and_false, Bool.true_or, Bool.false_or, Bool.or_true, Bool.or_false, Bool.not_true, Bool.not_false, Bool.false_eq_true, bI_t, bI_f, Int.natCast_one, Int.cast_ofNat_Int, Int.natCast_zero, ju_self, ju_ne = jc_ref, rI_int, rR_ref, rR_null, rJ_long, ckR_ref, ckR_null, ckr_ref, ckr_null, ckW_int, ckW_ref, ckW_null, cI_ok, cR_ok, cR_null, cV_ok, cJ_ok, qH_eq, qD_in, aG_ref, aS_ref, aL_ref, pF_ref, cK_ref, cK_null, zI_lit, zJ_lit, zI_add, zI_sub, zI_mul, zI_neg, zI_eq, zI_lt, zI_le, Int.reduceLT, Int.reduceLE, Int.reduceAdd, Int.reduceSub, Int.reduceMul, Int.reduceNeg, Int.reduceEq, Int.reduceNe, reduceIte, jf_in, pFc_in, aGi, aGb, aSi, aLc_in, cKc_in, nA_in, jm_s1, jm_s2, jm_p1, jm_p2, jm_b, jn_b, jn_s, jn_p, jset_jset, jset_jpush2, ckR_is, ckr_is, rR_is, ckW_is, cR_is, obi2, ckW_int, eq_self, if_true, ref_null, if_false, ne_eq, not_true_eq_false, not_false_eq_true, decide_true, decide_false, decide_not, Bool.true_and, Bool.false_and, Bool.and_true, Bool.and_false, Bool.true_or, Bool.false_or, Bool.or_true, Bool.or_false, Bool.not_true, Bool.not_false, Bool.false_eq_true, bI_t, bI_f, Int.natCast_one, Int.cast_ofNat_Int, Int.natCast_zero, ju_self, ju_ne
section
variable {F G : Nat → Option Cl} {b : Nat} {S L L' : Int → Int} {to : Int}
/-- a statement's object by other ints that agree where its line lies -/
theorem StmF.cgL (h : StmF F b S L to) (W : LnW S L to) (e : ∀ i, to ≤ i → i < to + 20 → L' i = L i) : StmF F b S L' to := by
  have e0 := e to (by omega) (by omega)
  have e1 := e (to + 1) (by omega) (by omega)
  rcases h with ⟨h0, ce, gg, h1, h2, h3⟩ | ⟨h0, we, h1, h2⟩
  · refine Or.inl ⟨by rw [e0]; exact h0, ce, gg, by rw [e1]; exact h1, h2, fun c c0 c1 => ?_⟩
    rw [h3 c c0 c1]
    unfold insV
    rw [e1, e (to + 3 + c) (by omega) (by omega)]
  · have nz : L to ≠ 0 := by rcases h0 with h | h <;> omega
    obtain ⟨C, Se⟩ := W.2.2.2 nz
    have k4 := C.1
    have m2 := Se.1
    refine Or.inr ⟨by rw [e0]; exact h0, we, ?_, ?_⟩
    · rw [e (to + 7) (by omega) (by omega)]
      exact h1.cg fun k wb k0 k1 x => by rw [e (to + 8 + 3 * k) (by omega) (by omega), e (to + 8 + 3 * k + 1) (by omega) (by omega), e (to + 8 + 3 * k + 2) (by omega) (by omega)]; exact x
    · rcases h2 with ⟨h2, h3, h4⟩ | ⟨h2, ce, ve, n, gc, gv, h3, h4, h5, h6, h7⟩
      · exact Or.inl ⟨by rw [e0]; exact h2, by rw [e (to + 2) (by omega) (by omega)]; exact h3, by rw [e1]; exact h4⟩
      · refine Or.inr ⟨by rw [e0]; exact h2, ce, ve, n, gc, gv, by rw [e1]; exact h3, h4, h5, by rw [e (to + 2) (by omega) (by omega)]; exact h6, fun k k0 k1 => ?_⟩
        have := h7 k k0 k1
        rw [e (to + 3 + 2 * k) (by omega) (by omega), e (to + 4 + 2 * k) (by omega) (by omega)]
        exact this
theorem DeedF.sub (h : DeedF F b S L to) (s : Sub F G) : DeedF G b S L to := by
  rcases h with ⟨h1, h2⟩ | ⟨h1, sb, h2, h3⟩
  · exact Or.inl ⟨h1, s _ _ h2⟩
  · exact Or.inr ⟨h1, sb, s _ _ h2, h3.sub s⟩
theorem DeedF.cgL (h : DeedF F b S L to) (W : L to < 3 → LnW S L to) (e : ∀ i, to ≤ i → i < to + 20 → L' i = L i) : DeedF F b S L' to := by
  have e0 := e to (by omega) (by omega)
  rcases h with ⟨h1, h2⟩ | ⟨h1, sb, h2, h3⟩
  · exact Or.inl ⟨by rw [e0]; exact h1, by rw [e0]; exact h2⟩
  · exact Or.inr ⟨by rw [e0]; exact h1, sb, h2, h3.cgL (W h1) e⟩
theorem DeedF.cell (h : DeedF F b S L to) : ∃ c : Cl, F b = some c ∧ c.1 < 1000 := by
  rcases h with ⟨h1, h2⟩ | ⟨h1, sb, h2, h3⟩
  · exact ⟨_, h2, by show 26 < 1000; omega⟩
  · exact ⟨_, h2, by show 28 < 1000; omega⟩
end
section
variable {d : Nat} {H H2 : AH} {a b q n t tp sc ql : Nat} {z l p nn v : Int} {f : Nat → Value} {g : Int → Int} {B C : Nat → Prop} {x y : Value} {S nm L : Int → Int} {mc : Int32} {lst : List Value}
/-- what a book that is read leaves: at most 206 cells a line -/
def BksK (B : Nat → Prop) (a n tp sc ql : Nat) (g : Int → Int) (z l : Int) (y : Value) (S : Int → Int) (c0 s0 : Nat) : ((Int → Int) × Int) → Option Value → AH → Prop := fun v w H2 => w = some (.ref ql) ∧ (∃ p, RdC B H2 a 27 n tp sc g z l (.ref ql) y p) ∧ LstB H2 ql v.2 (fun k b => DeedF (Fz B H2) b S v.1 (20 * k)) ∧ LkW S v.1 v.2 ∧ (0 ≤ v.2 ∧ v.2 ≤ 40 ∧ 5 * v.2 ≤ z) ∧ (H2.1 : Int) ≤ c0 + 206 * v.2 ∧ (H2.2.1 : Int) ≤ s0 + 1970 * v.2
set_option maxRecDepth 8000 in
theorem rb_lines {c0 s0 : Nat} (bq : B ql) (ca : C a) (cq : C ql) (W : ScW S) (hne : ql ≠ a) : ∀ (j : Nat) (L : Int → Int) (nn p : Int) (H : AH), RdC B H a 27 n tp sc g z l (.ref ql) y p → SchP C H sc S nm → LstB H ql nn (fun k b => DeedF (Fz B H) b S L (20 * k)) → LkW S L nn → 0 ≤ nn → nn ≤ 40 → nn + j = 41 → 5 * nn ≤ p → (H.1 : Int) ≤ c0 + 206 * nn → (H.2.1 : Int) ≤ s0 + 1970 * nn →
    CR (bksP g z l S nm j L nn p) (G2 (d + 15) 27001 4 [.ref a] [] H) H (fun u => u = a ∨ u = ql) (206 * j) (1970 * j) (BksK B a n tp sc ql g z l y S c0 s0) := by
  intro j
  induction j with
  | zero => intro L nn p H h hS hl hk n0 n4 hj h5 hc hs; omega
  | succ j ih =>
    intro L nn p H h hS hl hk n0 n4 hj h5 hc hs0
    have pz := h.2.2.2
    obtain ⟨-, -, -, -, -, pr, -⟩ := pz
    obtain ⟨f, mm, -, -, f4, f5, -, -, -, f10, -⟩ := h.fs
    obtain ⟨-, -, c0, -⟩ := ckd_is (g := g) (z := z) (l := l) (q := p)
    have cr := ckd_rg (g := g) (z := z) (l := l) (q := p)
    have e9 : ([9, 15, 27, 29] : List Nat).elem 27 = true := rfl
    have e27 : ([27] : List Nat).elem 27 = true := rfl
    rw [F27001_4]
    unfold bksP
    by_cases k0 : kd g z l p = 0
    · rw [if_pos k0]
      have ck := c0.mpr k0
      refine ⟨H, Fr.rf, by omega, by omega, _, ?_, rfl, ⟨p, h⟩, hl, hk, ⟨n0, n4, by omega⟩, hc, hs0⟩
      simp (disch := first | assumption | omega | decide | exact okF_i | exact okF_r | exact okF_n | exact okF_j | rfl) only [jc_ref, rI_int, rR_ref, rR_null, rJ_long, ckR_ref, ckR_null, ckr_ref, ckr_null, ckW_int, ckW_ref, ckW_null, cI_ok, cR_ok, cR_null, cV_ok, cJ_ok, qH_eq, qD_in, aG_ref, aS_ref, aL_ref, pF_ref, cK_ref, cK_null, zI_lit, zJ_lit, zI_add, zI_sub, zI_mul, zI_neg, zI_eq, zI_lt, zI_le, Int.reduceLT, Int.reduceLE, Int.reduceAdd, Int.reduceSub, Int.reduceMul, Int.reduceNeg, Int.reduceEq, Int.reduceNe, reduceIte, jf_in, pFc_in, aGi, aGb, aSi, aLc_in, cKc_in, nA_in, jm_s1, jm_s2, jm_p1, jm_p2, jm_b, jn_b, jn_s, jn_p, jset_jset, jset_jpush2, ckR_is, ckr_is, rR_is, ckW_is, cR_is, obi2, ckW_int, eq_self, if_true, ref_null, if_false, ne_eq, not_true_eq_false, not_false_eq_true, decide_true, decide_false, decide_not, Bool.true_and, Bool.false_and, Bool.and_true, Bool.and_false, Bool.true_or, Bool.false_or, Bool.or_true, Bool.or_false, Bool.not_true, Bool.not_false, Bool.false_eq_true, bI_t, bI_f, Int.natCast_one, Int.cast_ofNat_Int, Int.natCast_zero, ju_self, ju_ne, mm, f5, ck, f10]
    rw [if_neg k0]
    have ck : ¬ ckd g z l p = 0 := fun u => k0 (c0.mp u)
    obtain ⟨cap, mc, lst, l1, l2, l3, l4⟩ := id hl
    have pre : zpI (jf (jc H (.ref a)) [9, 15, 27, 29] 5) (fun x1 => if x1 = 0 then (zpR (jf (jc H (.ref a)) [27] 10) (fun r2 => ckR r2 (some (.inl (some r2), H))) ()) else (zpR (jf (jc H (.ref a)) [27] 10) (fun r3 => zcR (M2 (d + 15) 27000 [.ref a] H) (fun r4 h5 => zcI (M2 (d + 15) 43000 [r3, r4] h5) (fun x6 h7 => zcV (MvH (d + 15) 9110 [.ref a] h7) (fun h9 => G2 (d + 15) 27001 4 [.ref a] [] h9) ()) ()) ()) ())) () = (zcR (M2 (d + 15) 27000 [.ref a] H) (fun r4 h5 => zcI (M2 (d + 15) 43000 [.ref ql, r4] h5) (fun x6 h7 => zcV (MvH (d + 15) 9110 [.ref a] h7) (fun h9 => G2 (d + 15) 27001 4 [.ref a] [] h9) ()) ()) () : Rz) := by
      simp (disch := first | assumption | omega | decide | exact okF_i | exact okF_r | exact okF_n | exact okF_j | rfl) only [jc_ref, rI_int, rR_ref, rR_null, rJ_long, ckR_ref, ckR_null, ckr_ref, ckr_null, ckW_int, ckW_ref, ckW_null, cI_ok, cR_ok, cR_null, cV_ok, cJ_ok, qH_eq, qD_in, aG_ref, aS_ref, aL_ref, pF_ref, cK_ref, cK_null, zI_lit, zJ_lit, zI_add, zI_sub, zI_mul, zI_neg, zI_eq, zI_lt, zI_le, Int.reduceLT, Int.reduceLE, Int.reduceAdd, Int.reduceSub, Int.reduceMul, Int.reduceNeg, Int.reduceEq, Int.reduceNe, reduceIte, jf_in, pFc_in, aGi, aGb, aSi, aLc_in, cKc_in, nA_in, jm_s1, jm_s2, jm_p1, jm_p2, jm_b, jn_b, jn_s, jn_p, jset_jset, jset_jpush2, ckR_is, ckr_is, rR_is, ckW_is, cR_is, obi2, ckW_int, eq_self, if_true, ref_null, if_false, ne_eq, not_true_eq_false, not_false_eq_true, decide_true, decide_false, decide_not, Bool.true_and, Bool.false_and, Bool.and_true, Bool.and_false, Bool.true_or, Bool.false_or, Bool.or_true, Bool.or_false, Bool.not_true, Bool.not_false, Bool.false_eq_true, bI_t, bI_f, Int.natCast_one, Int.cast_ofNat_Int, Int.natCast_zero, ju_self, ju_ne, mm, f5, ck, f10]
    rw [pre]
    obtain ⟨H1, a1, a2, a3, a4⟩ := rb_one (d := d + 1) (L := L) h hS ca W l1 l3 n4
    have A1 : Fr H H1 (fun u => u = a ∨ u = ql) := a1.mono fun _ _ z => Or.inl z
    have q1 : jm H1 ql = jm H ql := by
      have := h.2.2.1 ql bq
      exact a1.2.2 ql this hne
    have s1 : Sub (Fz B H) (Fz B H1) := Fz_sub a1 fun u _ z => z ▸ h.2.1
    cases hr : bkP g z l S nm L nn p with
    | error er =>
      rw [hr] at a4
      rw [eb_er]
      rcases a4 with ⟨u, r1, r2⟩ | ⟨w, p', r1, r2, r3, k1, b, c, rfl, mb, cb⟩
      · exact ⟨H1, A1, by omega, by omega, u, by rw [r1, cR_th], r2⟩
      · have hl1 : LstB H1 ql nn (fun _ _ => True) := hl.up q1 fun _ _ _ _ _ => trivial
        obtain ⟨H2, ad, b1, b2, b3, -⟩ := hl1.add (by omega) mb cb
        have k2 := k1.fr b1 (fun u _ z => z ▸ bq) (fun z => hne z.symm)
        obtain ⟨-, -, -, -, -, me⟩ := mvB k2
        obtain ⟨H3, i1, i2, i3, i4⟩ := rc_end (d := d + 9) k2
        have es : signP g z l 59 p' = .error (erx g z l p' 1) := by unfold signP; rw [isS_kd r2, if_neg (by decide)]
        rw [es] at i4
        obtain ⟨u, r5, r6⟩ := i4
        have r5' := (me (d + 15)).trans r5
        rw [r3]
        exact ⟨H3, (A1.tr (b1.mono fun u _ z => Or.inr z)).tr (i1.mono fun u _ z => Or.inl z), by omega, by omega, u, by rw [r1, cR_ok, ad (d + 14), cI_ok, r5', cV_th], r6⟩
    | ok v =>
      rw [hr] at a4
      obtain ⟨w, r1, k1, b, rfl, lo, db⟩ := a4
      rw [eb_ok]
      obtain ⟨bk1, bk2⟩ := bkP_ok W hr
      have blo := bkP_lo hr
      have hl1 : LstB H1 ql nn (fun k b => DeedF (Fz B H1) b S v.1 (20 * k)) := hl.up q1 fun k x k0 k1 hx => (hx.sub s1).cgL (hk k k0 k1).2 fun i i0 i1 => blo i (by omega)
      obtain ⟨c, cb, c1⟩ := db.cell
      obtain ⟨H2, ad, b1, b2, b3, b4⟩ := hl1.add (by omega) (Fz_F.m cb) c1
      have s2 : Sub (Fz B H1) (Fz B H2) := Fz_sub b1 fun u _ z => z ▸ bq
      have hl2 := b4 (fun k b => DeedF (Fz B H2) b S v.1 (20 * k)) (fun k x _ _ hx => hx.sub s2) (db.sub s2)
      have hk2 : LkW S v.1 (nn + 1) := fun i i0 i1 => by
        by_cases c : i < nn
        · exact (hk.cg W (fun i _ hi => blo i hi) (fun _ _ _ => rfl)) i i0 c
        · rw [show i = nn by omega]; exact bk2
      have k2 := k1.fr b1 (fun u _ z => z ▸ bq) (fun z => hne z.symm)
      obtain ⟨-, -, -, -, -, me⟩ := mvB k2
      obtain ⟨H3, i1, i2, i3, i4⟩ := rc_end (d := d + 9) k2
      have A3 : Fr H H3 (fun u => u = a ∨ u = ql) := (A1.tr (b1.mono fun u _ z => Or.inr z)).tr (i1.mono fun u _ z => Or.inl z)
      cases hs : signP g z l 59 v.2 with
      | error er =>
        rw [hs] at i4
        rw [eb_er]
        obtain ⟨u, r5, r6⟩ := i4
        have r5' := (me (d + 15)).trans r5
        exact ⟨H3, A3, by omega, by omega, u, by rw [r1, cR_ok, ad (d + 14), cI_ok, r5', cV_th], r6⟩
      | ok p2 =>
        rw [hs] at i4
        rw [eb_ok]
        obtain ⟨u, r5, rfl, rfl, k3⟩ := i4
        have nx := bkP_nx hr
        have isg : isS g z l v.2 59 = true := by
          unfold signP at hs
          cases h' : isS g z l v.2 59 with
          | true => rfl
          | false => rw [h', if_neg (by decide)] at hs; cases hs
        have gt3 : v.2 < nxt g z l v.2 := nxt_gt3 (by simp only [isS, decide_eq_true_eq] at isg; exact isg.1)
        have r5' := (me (d + 15)).trans r5
        have s3 : Sub (Fz B H2) (Fz B H3) := Fz_sub i1 fun u _ z => z ▸ h.2.1
        have q3 : jm H3 ql = jm H2 ql := i1.2.2 ql (k2.2.2.1 ql bq) hne
        have IH := ih v.1 (nn + 1) (nxt g z l v.2) H3 k3 (hS.fr A3 fun u z => by rcases z with rfl | rfl; exact ca; exact cq) (hl2.up q3 fun k x _ _ hx => hx.sub s3) hk2 (by omega) (by omega) (by omega) (by omega) (by omega) (by omega)
        rw [r1, cR_ok, ad (d + 14), cI_ok, r5', cV_ok]
        exact CR.wk (CR.stp (c := 206) (s := 1970) A3 (fun _ z => z) (by omega) (by omega) IH) (fun _ z => z) (by omega) (by omega)
/-- a reader of books, made -/
theorem rb_make (K : RdK (Fz B H) (je H) tp g z 400) (hB : ∀ u, B u → u < H.1) : ∃ H2 y, M2 (d + 3) 27900 [.ref H.1, .ref tp, .int (zI z), .ref sc] (jpush H (27, 11, o27 .null 0 0 0 .null 0 0 0 0 .null .null)) = some (.inl none, H2) ∧ Fr H H2 (fun _ => False) ∧ H2.1 = H.1 + 2 ∧ H2.2.1 = H.2.1 + 14 ∧ RdN (fun u => B u ∨ u = H.1 ∨ u = H.1 + 1) H2 H.1 27 11 tp sc g z 400 (.ref (H.1 + 1)) y ∧ jm H2 (H.1 + 1) = some (cAL 0 0 []) := by
  obtain ⟨H1, hH1⟩ : ∃ H1, H1 = jpush H (27, 11, o27 .null 0 0 0 .null 0 0 0 0 .null .null) := ⟨_, rfl⟩
  have m1 : jm H1 H.1 = some (27, 11, o27 .null 0 0 0 .null 0 0 0 0 .null .null) := by rw [hH1]; exact jm_p1
  have f1 : Fr H H1 (fun _ => False) := by rw [hH1]; exact Fr.push
  have n1 : H1.1 = H.1 + 1 ∧ H1.2.1 = H.2.1 + 11 := by rw [hH1]; exact ⟨rfl, rfl⟩
  have K1 : RdK (Fz B H1) (je H1) tp g z 400 := by rw [f1.2.1]; exact K.sub (Fz_sub f1 fun _ _ z => z.elim)
  obtain ⟨f', j1, j2, j3, j4, j5, j6⟩ := c_reader (d := d) (z := z) (l := 400) (tp := tp) (sc := sc) m1 (Or.inr (Or.inr (Or.inl rfl))) rfl ⟨_, rfl⟩ K1.2.2.2.2
  obtain ⟨H2, hH2⟩ : ∃ H2, H2 = jset H1 H.1 (27, 11, f') := ⟨_, rfl⟩
  rw [← hH2] at j1 j2
  have m2 : jm H2 H.1 = some (27, 11, f') := by rw [hH2]; exact jm_s1
  have n2 : H2.1 = H1.1 ∧ H2.2.1 = H1.2.1 := by rw [hH2]; exact ⟨rfl, rfl⟩
  obtain ⟨H3, hH3⟩ : ∃ H3, H3 = nl0 H2 H.1 (27, 11, ju f' 10 (.ref (H.1 + 1))) := ⟨_, rfl⟩
  obtain ⟨x1, x2, x3, x4, x5, x6⟩ := nl0_f (c := (27, 11, ju f' 10 (.ref (H.1 + 1)))) (show H.1 < H2.1 by omega)
  rw [← hH3] at x1 x2 x3 x4 x5 x6
  have e2 : H2.1 = H.1 + 1 := by omega
  have F3 : Fr H H3 (fun _ => False) := ⟨by omega, by rw [x6, hH2]; exact f1.2.1, fun q q0 _ => by
    rw [x5 q (by omega) (by omega), hH2, jm_s2 (by omega)]
    exact f1.2.2 q q0 fun z => z⟩
  have sub : Sub (Fz B H) (Fz (fun u => B u ∨ u = H.1 ∨ u = H.1 + 1) H3) := fun u c hu => by
    obtain ⟨lt, nb⟩ := Fz_lt hu
    exact Fz_in (by omega) (fun hb => by rcases hb with hb | hb | hb; exact nb hb; omega; omega) ((F3.2.2 u lt fun z => z).trans (Fz_F.m hu))
  have ne : ∀ i : Nat, i ≠ 10 → ju f' 10 (.ref (H.1 + 1)) i = f' i := fun i hi => ju_ne (by omega)
  rw [e2] at x4
  refine ⟨H3, f' 11, ?_, F3, by omega, by omega, ⟨by rw [F3.2.1]; exact K.sub sub, Or.inr (Or.inl rfl), fun u hu => ?_, ju f' 10 (.ref (H.1 + 1)), j2.up x3 (ne 0 (by omega)) (ne 1 (by omega)) (ne 2 (by omega)) ((ne 3 (by omega)).trans j2.2.2.2.2.2.1) (ne 4 (by omega)), ?_, ?_, ju_self, ne 11 (by omega)⟩, x4⟩
  · have rv : (jtRecv 27900).elem 27 = true := rfl
    have e27 : ([27] : List Nat).elem 27 = true := rfl
    have nw := nl0_new (d := d + 1) (H := H2)
    have r3 : jset (jset (jpush H2 (43, 3, jL [.int (zI 0), .null, .int (zI 0)])) H2.1 (cAL 0 0 [])) H.1 (27, 11, ju f' 10 (.ref (H.1 + 1))) = H3 := hH3.symm
    rw [e2] at nw r3
    rw [show cAL 0 0 [] = cAL 0 (zI 0) [] from rfl] at nw r3
    have nq : H.1 ≠ H.1 + 1 := by omega
    rw [← hH1, Y27900 H1 rfl rfl (jrecv_in m1 rv), F27900_0]
    simp (disch := first | assumption | omega | decide | exact okF_i | exact okF_r | exact okF_n | exact okF_j | rfl) only [jc_ref, rI_int, rR_ref, rR_null, rJ_long, ckR_ref, ckR_null, ckr_ref, ckr_null, ckW_int, ckW_ref, ckW_null, cI_ok, cR_ok, cR_null, cV_ok, cJ_ok, qH_eq, qD_in, aG_ref, aS_ref, aL_ref, pF_ref, cK_ref, cK_null, zI_lit, zJ_lit, zI_add, zI_sub, zI_mul, zI_neg, zI_eq, zI_lt, zI_le, Int.reduceLT, Int.reduceLE, Int.reduceAdd, Int.reduceSub, Int.reduceMul, Int.reduceNeg, Int.reduceEq, Int.reduceNe, reduceIte, jf_in, pFc_in, aGi, aGb, aSi, aLc_in, cKc_in, nA_in, jm_s1, jm_s2, jm_p1, jm_p2, jm_b, jn_b, jn_s, jn_p, jset_jset, jset_jpush2, ckR_is, ckr_is, rR_is, ckW_is, cR_is, obi2, ckW_int, eq_self, if_true, ref_null, if_false, ne_eq, not_true_eq_false, not_false_eq_true, decide_true, decide_false, decide_not, Bool.true_and, Bool.false_and, Bool.and_true, Bool.and_false, Bool.true_or, Bool.false_or, Bool.or_true, Bool.or_false, Bool.not_true, Bool.not_false, Bool.false_eq_true, bI_t, bI_f, Int.natCast_one, Int.cast_ofNat_Int, Int.natCast_zero, ju_self, ju_ne, j1, e2, nw, m2, r3]
  · rcases hu with hu | hu | hu
    · have := hB u hu; omega
    · omega
    · omega
  · obtain ⟨v, hv⟩ := j3; exact ⟨v, (ne 7 (by omega)).trans hv⟩
  · obtain ⟨w, hw⟩ := j4; exact ⟨w, (ne 9 (by omega)).trans hw⟩
set_option maxRecDepth 8000 in
/-- a book is read -/
theorem rb_read (h : RdN B H a 27 n tp sc g z l (.ref ql) y) (bq : B ql) (hS : SchP C H sc S nm) (ca : C a) (cq : C ql) (W : ScW S) (hne : ql ≠ a) (hl : jm H ql = some (cAL 0 0 [])) : CR (bksP g z l S nm 41 L 0 0) (M2 (d + 16) 27001 [.ref a] H) H (fun u => u = a ∨ u = ql) 8460 80850 (BksK B a n tp sc ql g z l y S (H.1 + 4) (H.2.1 + 31)) := by
  obtain ⟨f, m0⟩ : ∃ f, jm H a = some (27, n, f) := by obtain ⟨-, -, -, f, h1, -⟩ := h; exact ⟨f, h1.1⟩
  have rv : (jtRecv 27001).elem 27 = true := rfl
  obtain ⟨H1, a1, a2, a3, a4, h1⟩ := rn_go (d := d + 13) h
  have mg : MvH (d + 15) 9109 [.ref a] H = M2 (d + 15) 8004 [.ref a] H := by simp only [MvH, m0]; rfl
  have mg' := mg.trans a1
  have A1 : Fr H H1 (fun u => u = a ∨ u = ql) := a2.mono fun _ _ z => Or.inl z
  have l1 : LstB H1 ql 0 (fun k b => DeedF (Fz B H1) b S L (20 * k)) := ⟨0, 0, [], (a2.2.2 ql (h.2.2.1 ql bq) hne).trans hl, by simp, rfl, fun k k0 k1 => by omega⟩
  have R := rb_lines (d := d) (c0 := H.1 + 4) (s0 := H.2.1 + 31) bq ca cq W hne 41 L 0 0 H1 h1 (hS.fr A1 fun u z => by rcases z with rfl | rfl; exact ca; exact cq) l1 (fun i i0 i1 => by omega) (by omega) (by omega) (by omega) (by omega) (by omega) (by omega)
  rw [Y27001 H (jrecv_in m0 rv), F27001_0, mg', cV_ok]
  exact CR.wk (CR.stp (c := 4) (s := 31) A1 (fun _ z => z) (by omega) (by omega) R) (fun _ z => z) (by omega) (by omega)
end
