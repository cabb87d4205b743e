/-! the component's reader: sets; any statement -/
-- jc_ref, rI_int, rR_ref, rR_null, rJ_long, ckR_ref, ckR_null, ckr_ref, ckr_null, ckW_int, ckW_ref, ckW_null, cI_ok, cR_ok, cR_null, cV_ok, cJ_ok, qH_eq, qD_in, aG_ref, aS_ref, aL_ref, pF_ref, cK_ref, cK_null, zI_lit, zJ_lit, zI_add, zI_sub, zI_mul, zI_neg, zI_eq, zI_lt, zI_le, Int.reduceLT, Int.reduceLE, Int.reduceAdd, Int.reduceSub, Int.reduceMul, Int.reduceNeg, Int.reduceEq, Int.reduceNe, reduceIte, jf_in, pFc_in, aGi, aGb, aSi, aLc_in, cKc_in, nA_in, jm_s1, jm_s2, jm_p1, jm_p2, jm_b, jn_b, jn_s, jn_p, jset_jset, jset_jpush2, ckR_is, ckr_is, rR_is, ckW_is, cR_is, obi2, ckW_int, eq_self, if_true, ref_null, if_false, ne_eq, not_true_eq_false, not_false_eq_true, decide_true, decide_false, decide_not, Bool.true_and, Bool.false_and, Bool.and_true, Bool.and_false, Bool.true_or, Bool.false_or, Bool.or_true, Bool.or_false, Bool.not_true, Bool.not_false, Bool.false_eq_true, bI_t, bI_f, Int.natCast_one, Int.cast_ofNat_Int, Int.natCast_zero, ju_self, ju_ne = jc_ref, rI_int, rR_ref, rR_null, rJ_long, ckR_ref, ckR_null, ckr_ref, ckr_null, ckW_int, ckW_ref, ckW_null, cI_ok, cR_ok, cR_null, cV_ok, cJ_ok, qH_eq, qD_in, aG_ref, aS_ref, aL_ref, pF_ref, cK_ref, cK_null, zI_lit, zJ_lit, zI_add, zI_sub, zI_mul, zI_neg, zI_eq, zI_lt, zI_le, Int.reduceLT, Int.reduceLE, Int.reduceAdd, Int.reduceSub, Int.reduceMul, Int.reduceNeg, Int.reduceEq, Int.reduceNe, reduceIte, jf_in, pFc_in, aGi, aGb, aSi, aLc_in, cKc_in, nA_in, jm_s1, jm_s2, jm_p1, jm_p2, jm_b, jn_b, jn_s, jn_p, jset_jset, jset_jpush2, ckR_is, ckr_is, rR_is, ckW_is, cR_is, obi2, ckW_int, eq_self, if_true, ref_null, if_false, ne_eq, not_true_eq_false, not_false_eq_true, decide_true, decide_false, decide_not, Bool.true_and, Bool.false_and, Bool.and_true, Bool.and_false, Bool.true_or, Bool.false_or, Bool.or_true, Bool.or_false, Bool.not_true, Bool.not_false, Bool.false_eq_true, bI_t, bI_f, Int.natCast_one, Int.cast_ofNat_Int, Int.natCast_zero, ju_self, ju_ne
section
variable {d : Nat} {H H2 : AH} {a b t n tp sc w c s c2 s2 e : Nat} {f : Nat → Value} {g : Int → Int} {z l p q k o tt but to : Int} {F : Nat → Option Cl} {B P Q C C2 : Nat → Prop} {x y : Value} {S nm L : Int → Int} {sw : List Int}
theorem isNm_no {v : Int} (h : isNm g z l q = true) (hv : rsv.elem v = true) : isW g z l q v = false := by
  unfold isNm at h
  rw [Bool.and_eq_true] at h
  unfold isW
  refine decide_eq_false fun e => ?_
  rw [e.2, hv] at h
  cases h.2
theorem isNm_k (h : isNm g z l q = true) : kd g z l q = 1 := by
  unfold isNm at h
  rw [Bool.and_eq_true, decide_eq_true_eq] at h
  exact h.1
/-- what sets a statement: its columns and values lie at hand, its conditions come -/
theorem st_tail {m : Nat} {H1 : AH} {gc gv : Int → Int} (h : RdC B H a t n tp sc g z l x y q) (hS : SchP C H sc S nm) (ca : C a) (W : ScW S) (t0 : 0 ≤ tt) (t1 : tt < S 0) (hL : L (to + 1) = tt) (hL0 : L to = 2) (hL2 : L (to + 2) = m) (h7 : L (to + 7) = 0) (hm : m ≤ 2) (hc : ∀ k : Int, 0 ≤ k → k < m → gc k = L (to + 3 + 2 * k) ∧ gv k = L (to + 4 + 2 * k))
    (f1 : Fr H H1 (fun _ => False)) (n1 : H1.1 = H.1 + 3) (n2 : H1.2.1 ≤ H.2.1 + 8) (m0 : jm H1 H.1 = some (21, 4, jL [.int (zI 0), .null, .null, .null])) (m1 : jm H1 (H.1 + 1) = some (1000, m, aI gc)) (m2 : jm H1 (H.1 + 2) = some (1000, m, aI gv)) :
    CR (condsP g z l S nm L to q) (zcR (M2 (d + 10) 8019 [.ref a, .int (zI tt)] H1) (fun r12 h13 => zcV (M2 (d + 10) 21900 [.ref H.1, .int (zI tt), .ref (H.1 + 1), .ref (H.1 + 2), r12] h13) (fun h15 => some (.inl (some (.ref H.1)), h15)) ()) ()) H (fun u => u = a) 154 1411 (StmK B H a t n tp sc g z l x y S to H.1) := by
  have al := h.2.2.1 a h.2.1
  have nB : ∀ u, H.1 ≤ u → ¬ B u := fun u hu hb => by have := h.2.2.1 u hb; omega
  have h1 : RdC (fun u => B u ∨ u = H.1) H1 a t n tp sc g z l x y q := h.more f1 (fun _ _ e => e.elim) (fun e => e) (fun u hu => hu.elim Or.inl fun e => Or.inr (by omega)) fun u hu => Or.inl hu
  have S1 : SchP (fun u => C u ∨ u = H.1) H1 sc S nm := hS.new f1 (fun _ e => e.elim) fun u hu => hu.elim Or.inl fun e => Or.inr (by omega)
  have z1 : Fz (fun u => B u ∨ u = H.1) H1 (H.1 + 1) = some (1000, m, aI gc) := Fz_in (by omega) (fun z => z.elim (nB _ (by omega)) fun z => by omega) m1
  have z2 : Fz (fun u => B u ∨ u = H.1) H1 (H.1 + 2) = some (1000, m, aI gv) := Fz_in (by omega) (fun z => z.elim (nB _ (by omega)) fun z => by omega) m2
  obtain ⟨H2, i1, i2, i3, i4⟩ := rc_whens (d := d) (to := to) (L := L) h1 S1 (Or.inl ca) W t0 t1 hL h7
  cases hr : condsP g z l S nm L to q with
  | error er =>
    rw [hr] at i4
    obtain ⟨u, r5, r6⟩ := i4
    refine ⟨H2, (f1.mono fun _ _ z => z.elim).tr i1, by omega, by omega, u, ?_, r6⟩
    rw [r5, cR_th]
  | ok b =>
    rw [hr] at i4
    obtain ⟨u, r5, h2, we, rfl, j1, j2, j3⟩ := i4
    have m3 : jm H2 H.1 = some (21, 4, jL [.int (zI 0), .null, .null, .null]) := (i1.2.2 _ (by omega) (by omega)).trans m0
    have r21 : (jtRecv 21900).elem 21 = true := rfl
    have r18 : (jtRecv 18900).elem 21 = true := rfl
    have r16 : (jtRecv 16900).elem 21 = true := rfl
    obtain ⟨H3, hH3⟩ : ∃ H3, H3 = jset H2 H.1 (21, 4, o21 tt (.ref we) (.ref (H.1 + 1)) (.ref (H.1 + 2))) := ⟨_, rfl⟩
    have ini : M2 (d + 10) 21900 [.ref H.1, .int (zI tt), .ref (H.1 + 1), .ref (H.1 + 2), .ref we] H2 = some (.inl none, H3) := by
      have k1 : M2 (d + 8) 16900 [.ref H.1, .int (zI tt)] H2 = some (.inl none, jset H2 H.1 (21, 4, o21 tt .null .null .null)) := by
        rw [Y16900 H2 (jrecv_in m3 r16), F16900_0]
        simp (disch := first | assumption | omega | decide | exact okF_i | exact okF_r | exact okF_n | exact okF_j | rfl) only [jc_ref, rI_int, rR_ref, rR_null, rJ_long, ckR_ref, ckR_null, ckr_ref, ckr_null, ckW_int, ckW_ref, ckW_null, cI_ok, cR_ok, cR_null, cV_ok, cJ_ok, qH_eq, qD_in, aG_ref, aS_ref, aL_ref, pF_ref, cK_ref, cK_null, zI_lit, zJ_lit, zI_add, zI_sub, zI_mul, zI_neg, zI_eq, zI_lt, zI_le, Int.reduceLT, Int.reduceLE, Int.reduceAdd, Int.reduceSub, Int.reduceMul, Int.reduceNeg, Int.reduceEq, Int.reduceNe, reduceIte, jf_in, pFc_in, aGi, aGb, aSi, aLc_in, cKc_in, nA_in, jm_s1, jm_s2, jm_p1, jm_p2, jm_b, jn_b, jn_s, jn_p, jset_jset, jset_jpush2, ckR_is, ckr_is, rR_is, ckW_is, cR_is, obi2, ckW_int, eq_self, if_true, ref_null, if_false, ne_eq, not_true_eq_false, not_false_eq_true, decide_true, decide_false, decide_not, Bool.true_and, Bool.false_and, Bool.and_true, Bool.and_false, Bool.true_or, Bool.false_or, Bool.or_true, Bool.or_false, Bool.not_true, Bool.not_false, Bool.false_eq_true, bI_t, bI_f, Int.natCast_one, Int.cast_ofNat_Int, Int.natCast_zero, ju_self, ju_ne, n21, o21s_0, o21s_1, o21s_2, o21s_3, m3]
      have k2 : M2 (d + 9) 18900 [.ref H.1, .int (zI tt), .ref we] H2 = some (.inl none, jset H2 H.1 (21, 4, o21 tt (.ref we) .null .null)) := by
        rw [Y18900 H2 rfl (jrecv_in m3 r18), F18900_0]
        simp (disch := first | assumption | omega | decide | exact okF_i | exact okF_r | exact okF_n | exact okF_j | rfl) only [jc_ref, rI_int, rR_ref, rR_null, rJ_long, ckR_ref, ckR_null, ckr_ref, ckr_null, ckW_int, ckW_ref, ckW_null, cI_ok, cR_ok, cR_null, cV_ok, cJ_ok, qH_eq, qD_in, aG_ref, aS_ref, aL_ref, pF_ref, cK_ref, cK_null, zI_lit, zJ_lit, zI_add, zI_sub, zI_mul, zI_neg, zI_eq, zI_lt, zI_le, Int.reduceLT, Int.reduceLE, Int.reduceAdd, Int.reduceSub, Int.reduceMul, Int.reduceNeg, Int.reduceEq, Int.reduceNe, reduceIte, jf_in, pFc_in, aGi, aGb, aSi, aLc_in, cKc_in, nA_in, jm_s1, jm_s2, jm_p1, jm_p2, jm_b, jn_b, jn_s, jn_p, jset_jset, jset_jpush2, ckR_is, ckr_is, rR_is, ckW_is, cR_is, obi2, ckW_int, eq_self, if_true, ref_null, if_false, ne_eq, not_true_eq_false, not_false_eq_true, decide_true, decide_false, decide_not, Bool.true_and, Bool.false_and, Bool.and_true, Bool.and_false, Bool.true_or, Bool.false_or, Bool.or_true, Bool.or_false, Bool.not_true, Bool.not_false, Bool.false_eq_true, bI_t, bI_f, Int.natCast_one, Int.cast_ofNat_Int, Int.natCast_zero, ju_self, ju_ne, n21, o21s_0, o21s_1, o21s_2, o21s_3, k1]
      rw [Y21900 H2 rfl rfl rfl (jrecv_in m3 r21), F21900_0, hH3]
      simp (disch := first | assumption | omega | decide | exact okF_i | exact okF_r | exact okF_n | exact okF_j | rfl) only [jc_ref, rI_int, rR_ref, rR_null, rJ_long, ckR_ref, ckR_null, ckr_ref, ckr_null, ckW_int, ckW_ref, ckW_null, cI_ok, cR_ok, cR_null, cV_ok, cJ_ok, qH_eq, qD_in, aG_ref, aS_ref, aL_ref, pF_ref, cK_ref, cK_null, zI_lit, zJ_lit, zI_add, zI_sub, zI_mul, zI_neg, zI_eq, zI_lt, zI_le, Int.reduceLT, Int.reduceLE, Int.reduceAdd, Int.reduceSub, Int.reduceMul, Int.reduceNeg, Int.reduceEq, Int.reduceNe, reduceIte, jf_in, pFc_in, aGi, aGb, aSi, aLc_in, cKc_in, nA_in, jm_s1, jm_s2, jm_p1, jm_p2, jm_b, jn_b, jn_s, jn_p, jset_jset, jset_jpush2, ckR_is, ckr_is, rR_is, ckW_is, cR_is, obi2, ckW_int, eq_self, if_true, ref_null, if_false, ne_eq, not_true_eq_false, not_false_eq_true, decide_true, decide_false, decide_not, Bool.true_and, Bool.false_and, Bool.and_true, Bool.and_false, Bool.true_or, Bool.false_or, Bool.or_true, Bool.or_false, Bool.not_true, Bool.not_false, Bool.false_eq_true, bI_t, bI_f, Int.natCast_one, Int.cast_ofNat_Int, Int.natCast_zero, ju_self, ju_ne, n21, o21s_0, o21s_1, o21s_2, o21s_3, k2]
    have fr3 : Fr H2 H3 (fun u => u = H.1) := by rw [hH3]; exact Fr.set rfl
    have m4 : jm H3 H.1 = some (21, 4, o21 tt (.ref we) (.ref (H.1 + 1)) (.ref (H.1 + 2))) := by rw [hH3]; exact jm_s1
    have n3 : H3.1 = H2.1 ∧ H3.2.1 = H2.2.1 := by rw [hH3]; exact ⟨rfl, rfl⟩
    have h3 := (h2.fr fr3 (fun u _ z => Or.inr z) (by omega)).less (B := B) (fun u hu => Or.inl hu) h.2.1
    have sub3 : Sub (Fz (fun u => B u ∨ u = H.1) H2) (Fz B H3) := (Fz_sub fr3 fun u _ z => Or.inr z).tr (sub_less fun u hu => Or.inl hu)
    have sub2 : Sub (Fz (fun u => B u ∨ u = H.1) H1) (Fz (fun u => B u ∨ u = H.1) H2) := Fz_sub i1 fun u _ z => by rw [z]; exact Or.inl h.2.1
    have l2 := i1.1
    refine ⟨H3, ((f1.mono fun _ _ z => z.elim).tr i1).new (fr3.mono fun u _ z => Or.inr (by omega)), by omega, by omega, some (.ref H.1), ?_, h3, H.1, rfl, Nat.le_refl _, Or.inr ⟨Or.inr ?_, we, j2.sub sub3 fun k wb x => sub3 _ _ x, Or.inr ⟨?_, H.1 + 1, H.1 + 2, m, gc, gv, ?_, sub3 _ _ (sub2 _ _ z1), sub3 _ _ (sub2 _ _ z2), ?_, fun k k0 k1 => ?_⟩⟩⟩
    · rw [r5, cR_ok, ini, cV_ok]
    · rw [j3 _ (by omega)]; exact hL0
    · rw [j3 _ (by omega)]; exact hL0
    · rw [j3 _ (by omega), hL]
      exact Fz_in (by omega) (nB _ (Nat.le_refl _)) m4
    · rw [j3 _ (by omega)]; exact hL2.symm
    · rw [j3 _ (by omega), j3 _ (by omega)]; exact hc k k0 k1
theorem CR.go {α : Type} {r : Except Er α} {R : Rz} {H1 : AH} {K : α → Option Value → AH → Prop} (h : CR r R H1 P c s K) (f : Fr H H1 P) (hc : H1.1 ≤ H.1 + c2) (hs : H1.2.1 ≤ H.2.1 + s2) : CR r R H P (c2 + c) (s2 + s) K := by
  obtain ⟨H2, h1, h2, h3, h4⟩ := h
  exact ⟨H2, f.tr h1, by omega, by omega, h4⟩
theorem CR.kk {α : Type} {r : Except Er α} {R : Rz} {c' s' : Nat} {K K' : α → Option Value → AH → Prop} (h : CR r R H P c s K) (hc : c ≤ c') (hs : s ≤ s') (hk : ∀ v w H2, K v w H2 → K' v w H2) : CR r R H P c' s' K' := by
  obtain ⟨H2, h1, h2, h3, h4⟩ := h
  refine ⟨H2, h1, by omega, by omega, ?_⟩
  cases r with
  | error e => exact h4
  | ok v => obtain ⟨w, w1, w2⟩ := h4; exact ⟨w, w1, hk _ _ _ w2⟩
theorem StmK.lo {lo lo2 : Nat} {b : LQ} {w : Option Value} (h : StmK B H a t n tp sc g z l x y S to lo b w H2) (hl : lo2 ≤ lo) : StmK B H a t n tp sc g z l x y S to lo2 b w H2 := by
  obtain ⟨h1, sb, h2, h3, h4⟩ := h
  exact ⟨h1, sb, h2, by omega, h4⟩
/-- sets, behind their table -/
def sttP (g : Int → Int) (z l : Int) (S nm L : Int → Int) (to tt q : Int) : Except Er LQ :=
  eb (lookC g z l S nm tt q) fun c =>
  eb (valP g z l (fset L (to + 3) c) (to + 4) (nxt g z l q)) fun b =>
  if kd g z l b.2 = 1 ∧ isW g z l b.2 wIF = false then
    eb (lookC g z l S nm tt b.2) fun c2 =>
    if c2 = b.1 (to + 3) then .error (erx g z l b.2 3) else
    eb (valP g z l (fset (fset b.1 (to + 2) 1) (to + 5) c2) (to + 6) (nxt g z l b.2)) fun e =>
    condsP g z l S nm (fset e.1 (to + 2) 2) to e.2
  else condsP g z l S nm (fset b.1 (to + 2) 1) to b.2
theorem rc_sets (h : RdC B H a t n tp sc g z l x y q) (hS : SchP C H sc S nm) (ca : C a) (W : ScW S) (t0 : 0 ≤ tt) (t1 : tt < S 0) (hL : L (to + 1) = tt) (hL0 : L to = 2) (h7 : L (to + 7) = 0) :
    CRl g z l (sttP g z l S nm L to tt q) (M2 (d + 11) 8014 [.ref a, .int (zI tt)] H) H (fun u => u = a) 186 1704 (StmK B H a t n tp sc g z l x y S to H.1) (fun q' w H2 => RdC B H2 a t n tp sc g z l x y q' ∧ ∃ sb, w = some (.ref sb)) := by
  have W0 := W.1
  have co := W.2 tt t0 (by omega)
  have al := h.2.2.1 a h.2.1
  obtain ⟨f, m0, te, ht, f4, f5, -⟩ := h.fs
  have rv : (jtRecv 8014).elem t = true := by rcases ht with e | e | e | e <;> subst e <;> rfl
  have nB : ∀ (H' : AH), H.1 ≤ H'.1 → ∀ u, H'.1 ≤ u → ¬ B u := fun H' hh u hu hb => by have := h.2.2.1 u hb; omega
  rw [Y8014 H (jrecv_in m0 rv), F8014_0]
  unfold sttP
  -- col
  obtain ⟨H1, a1, a2, a3, a4⟩ := rc_col (d := d + 2) (but := -1) h hS (by omega) t0 t1 co.1 (by omega) (by omega)
  rw [hold_look] at a4
  cases hr : lookC g z l S nm tt q with
  | error er =>
    rw [hr] at a4
    obtain ⟨u, r5, r6⟩ := a4
    rw [eb_er]
    refine ⟨H1, a1, by omega, by omega, Or.inl ⟨u, ?_, r6⟩⟩
    rw [show zI (-1) = (-1 : Int32) from rfl] at r5
    rw [r5, cI_th]
  | ok cv =>
    rw [hr] at a4
    obtain ⟨u, r5, rfl, h1, v0, v1, -, -⟩ := a4
    rw [eb_ok]
    have S1 := hS.fr a1 fun u z => by rw [z]; exact ca
    -- value
    obtain ⟨H2, b1, b2, b3, b4⟩ := rc_value (d := d + 2) h1
    rw [valP_vl]
    cases hv : vlP g z l (nxt g z l q) with
    | error er =>
      rw [hv] at b4
      obtain ⟨u, r6, r7⟩ := b4
      rw [eb_er, eb_er]
      refine ⟨H2, a1.tr b1, by omega, by omega, Or.inl ⟨u, ?_, r7⟩⟩
      simp (disch := first | assumption | omega | decide | exact okF_i | exact okF_r | exact okF_n | exact okF_j | rfl) only [jc_ref, rI_int, rR_ref, rR_null, rJ_long, ckR_ref, ckR_null, ckr_ref, ckr_null, ckW_int, ckW_ref, ckW_null, cI_ok, cR_ok, cR_null, cV_ok, cJ_ok, qH_eq, qD_in, aG_ref, aS_ref, aL_ref, pF_ref, cK_ref, cK_null, zI_lit, zJ_lit, zI_add, zI_sub, zI_mul, zI_neg, zI_eq, zI_lt, zI_le, Int.reduceLT, Int.reduceLE, Int.reduceAdd, Int.reduceSub, Int.reduceMul, Int.reduceNeg, Int.reduceEq, Int.reduceNe, reduceIte, jf_in, pFc_in, aGi, aGb, aSi, aLc_in, cKc_in, nA_in, jm_s1, jm_s2, jm_p1, jm_p2, jm_b, jn_b, jn_s, jn_p, jset_jset, jset_jpush2, ckR_is, ckr_is, rR_is, ckW_is, cR_is, obi2, ckW_int, eq_self, if_true, ref_null, if_false, ne_eq, not_true_eq_false, not_false_eq_true, decide_true, decide_false, decide_not, Bool.true_and, Bool.false_and, Bool.and_true, Bool.and_false, Bool.true_or, Bool.false_or, Bool.or_true, Bool.or_false, Bool.not_true, Bool.not_false, Bool.false_eq_true, bI_t, bI_f, Int.natCast_one, Int.cast_ofNat_Int, Int.natCast_zero, ju_self, ju_ne, r5, r6, cI_th]
    | ok vv =>
      rw [hv] at b4
      obtain ⟨u, r6, rfl, eq2, h2⟩ := b4
      rw [eb_ok, eb_ok]
      rw [← eq2] at h2
      have S2 := S1.fr b1 fun u z => by rw [z]; exact ca
      -- a name?
      obtain ⟨H3, c1, c2', c3, c4⟩ := rc_isName (d := d + 5) h2
      have h3 := h2.no c2'
      have S3 := S2.fr c2' fun u z => z.elim
      have F13 : Fr H H3 (fun u => u = a) := (a1.tr b1).tr (c2'.mono fun _ _ z => z.elim)
      have al3 : a < H3.1 := Nat.lt_of_lt_of_le al F13.1
      cases hn : isNm g z l vv.2 with
      | false =>
        rw [hn, bZ_f] at c1
        -- objects
        obtain ⟨H7, hH7⟩ : ∃ H7, H7 = jpush H3 (21, 4, jL [.int (zI 0), .null, .null, .null]) := ⟨_, rfl⟩
        have m7 : jm H7 H3.1 = some (21, 4, jL [.int (zI 0), .null, .null, .null]) := by rw [hH7]; exact jm_p1
        have n7 : H7.1 = H3.1 + 1 ∧ H7.2.1 = H3.2.1 + 4 := by rw [hH7]; exact ⟨rfl, rfl⟩
        obtain ⟨H8, hH8⟩ : ∃ H8, H8 = jpush H7 (1000, 1, fun _ => .int (zI 0)) := ⟨_, rfl⟩
        have m8 : jm H8 H7.1 = some (1000, 1, aI (fun _ => 0)) := by rw [hH8]; exact jm_p1
        obtain ⟨H9, hH9⟩ : ∃ H9, H9 = jset H8 H7.1 (1000, 1, aI (fset (fun _ => 0) 0 cv)) := ⟨_, rfl⟩
        have n9 : H9.1 = H3.1 + 2 ∧ H9.2.1 = H3.2.1 + 5 := by rw [hH9, hH8]; exact ⟨by show H7.1 + 1 = _; omega, by show H7.2.1 + 1 = _; omega⟩
        obtain ⟨H10, hH10⟩ : ∃ H10, H10 = jpush H9 (1000, 1, fun _ => .int (zI 0)) := ⟨_, rfl⟩
        have m10 : jm H10 H9.1 = some (1000, 1, aI (fun _ => 0)) := by rw [hH10]; exact jm_p1
        obtain ⟨H11, hH11⟩ : ∃ H11, H11 = jset H10 H9.1 (1000, 1, aI (fset (fun _ => 0) 0 vv.1)) := ⟨_, rfl⟩
        have n11 : H11.1 = H3.1 + 3 ∧ H11.2.1 = H3.2.1 + 6 := by rw [hH11, hH10]; exact ⟨by show H9.1 + 1 = _; omega, by show H9.2.1 + 1 = _; omega⟩
        have fr11 : Fr H3 H11 (fun _ => False) := by
          rw [hH11, hH10, hH9, hH8, hH7]
          exact Fr.new (P := fun _ => False) Fr.rf ((((Fr.push.tr Fr.push).tr (Fr.set (Or.inr (Nat.le_succ _)))).tr Fr.push).tr (Fr.set (Or.inr (by rw [← hH7, ← hH8, ← hH9]; omega))))
        have e71 : H7.1 = H3.1 + 1 := n7.1
        have e91 : H9.1 = H3.1 + 2 := n9.1
        have k0 : jm H11 H3.1 = some (21, 4, jL [.int (zI 0), .null, .null, .null]) := by
          rw [hH11, jm_s2 (by omega), hH10, jm_p2 (by omega), hH9, jm_s2 (by omega), hH8, jm_p2 (by omega)]; exact m7
        have k1 : jm H11 (H3.1 + 1) = some (1000, 1, aI (fset (fun _ => 0) 0 cv)) := by
          rw [hH11, jm_s2 (by omega), hH10, jm_p2 (by omega), hH9, ← e71]; exact jm_s1
        have k2 : jm H11 (H3.1 + 2) = some (1000, 1, aI (fset (fun _ => 0) 0 vv.1)) := by
          rw [hH11, ← e91]; exact jm_s1
        have hL' : ∃ L', L' = fset (fset (fset L (to + 3) cv) (to + 4) vv.1) (to + 2) 1 := ⟨_, rfl⟩
        obtain ⟨L', hL'⟩ := hL'
        have T := st_tail (d := d) (m := 1) (to := to) (L := L') (gc := fset (fun _ => 0) 0 cv) (gv := fset (fun _ => 0) 0 vv.1) h3 S3 ca W t0 t1 (by rw [hL']; simp (disch := omega) only [fset_ne]; exact hL) (by rw [hL']; simp (disch := omega) only [fset_ne]; exact hL0) (by rw [hL', fset_eq]; rfl) (by rw [hL']; simp (disch := omega) only [fset_ne]; exact h7) (by omega) (fun k k0 k1 => by
          have ek : k = 0 := by omega
          subst ek
          rw [fset_eq, fset_eq, hL', show to + 3 + 2 * 0 = to + 3 by omega, show to + 4 + 2 * 0 = to + 4 by omega]
          simp (disch := omega) only [fset_ne, fset_eq, and_self]) fr11 n11.1 (by omega) k0 k1 k2
        have run : ∀ X : Rz, (zcR (M2 (d + 10) 8019 [.ref a, .int (zI tt)] H11) (fun r12 h13 => zcV (M2 (d + 10) 21900 [.ref H3.1, .int (zI tt), .ref (H3.1 + 1), .ref (H3.1 + 2), r12] h13) (fun h15 => some (.inl (some (.ref H3.1)), h15)) ()) ()) = X → (zcI (M2 (d + 10) 8002 [.ref a, .int (zI tt), .int (-1)] H) (fun x1 h2 => zcI (M2 (d + 10) 8018 [.ref a] h2) (fun x3 h4 => zcI (M2 (d + 10) 8009 [.ref a] h4) (fun x5 h6 => if x5 = 0 then (zqH (jpush h6 (21, 4, jL [.int 0, .null, .null, .null])) (fun h7 => zqN 1 (zqH (jpush h7 (1000, (1 : Int32).toNatClampNeg, fun _ => .int 0)) (fun h8 => zqS h8 (.ref h7.1) [1000] 0 (.int x1) (fun h9 => zqN 1 (zqH (jpush h9 (1000, (1 : Int32).toNatClampNeg, fun _ => .int 0)) (fun h10 => zqS h10 (.ref h9.1) [1000] 0 (.int x3) (fun h11 => zcR (M2 (d + 10) 8019 [.ref a, .int (zI tt)] h11) (fun r12 h13 => zcV (M2 (d + 10) 21900 [.ref h6.1, .int (zI tt), .ref h7.1, .ref h9.1, r12] h13) (fun h15 => some (.inl (some (.ref h6.1)), h15)) ()) ()) ()) ()) ()) ()) ()) ()) ()) else (zcI (M2 (d + 10) 8002 [.ref a, .int (zI tt), .int x1] h6) (fun x16 h17 => zcI (M2 (d + 10) 8018 [.ref a] h17) (fun x18 h19 => zqH (jpush h19 (21, 4, jL [.int 0, .null, .null, .null])) (fun h20 => zqN 2 (zqH (jpush h20 (1000, (2 : Int32).toNatClampNeg, fun _ => .int 0)) (fun h21 => zqS h21 (.ref h20.1) [1000] 0 (.int x1) (fun h22 => zqS h22 (.ref h20.1) [1000] 1 (.int x16) (fun h23 => zqN 2 (zqH (jpush h23 (1000, (2 : Int32).toNatClampNeg, fun _ => .int 0)) (fun h24 => zqS h24 (.ref h23.1) [1000] 0 (.int x3) (fun h25 => zqS h25 (.ref h23.1) [1000] 1 (.int x18) (fun h26 => zcR (M2 (d + 10) 8019 [.ref a, .int (zI tt)] h26) (fun r27 h28 => zcV (M2 (d + 10) 21900 [.ref h19.1, .int (zI tt), .ref h20.1, .ref h23.1, r27] h28) (fun h30 => some (.inl (some (.ref h19.1)), h30)) ()) ()) ()) ()) ()) ()) ()) ()) ()) ()) ()) ()) ())) ()) ()) ()) = X := by
          intro X hX
          rw [← hX]
          have m8' := m8
          have hH9' := hH9
          rw [e71] at m8' hH9'
          have m10' := m10
          have hH11' := hH11
          rw [e91] at m10' hH11'
          have e81 : H8.1 = H3.1 + 2 := by rw [hH8]; show H7.1 + 1 = _; omega
          have q1 : (1 : Int32).toNatClampNeg = 1 := by decide
          have q1' : (zI 1).toNatClampNeg = 1 := by decide
          simp (disch := first | assumption | omega | decide | exact okF_i | exact okF_r | exact okF_n | exact okF_j | rfl) only [jc_ref, rI_int, rR_ref, rR_null, rJ_long, ckR_ref, ckR_null, ckr_ref, ckr_null, ckW_int, ckW_ref, ckW_null, cI_ok, cR_ok, cR_null, cV_ok, cJ_ok, qH_eq, qD_in, aG_ref, aS_ref, aL_ref, pF_ref, cK_ref, cK_null, zI_lit, zJ_lit, zI_add, zI_sub, zI_mul, zI_neg, zI_eq, zI_lt, zI_le, Int.reduceLT, Int.reduceLE, Int.reduceAdd, Int.reduceSub, Int.reduceMul, Int.reduceNeg, Int.reduceEq, Int.reduceNe, reduceIte, jf_in, pFc_in, aGi, aGb, aSi, aLc_in, cKc_in, nA_in, jm_s1, jm_s2, jm_p1, jm_p2, jm_b, jn_b, jn_s, jn_p, jset_jset, jset_jpush2, ckR_is, ckr_is, rR_is, ckW_is, cR_is, obi2, ckW_int, eq_self, if_true, ref_null, if_false, ne_eq, not_true_eq_false, not_false_eq_true, decide_true, decide_false, decide_not, Bool.true_and, Bool.false_and, Bool.and_true, Bool.and_false, Bool.true_or, Bool.false_or, Bool.or_true, Bool.or_false, Bool.not_true, Bool.not_false, Bool.false_eq_true, bI_t, bI_f, Int.natCast_one, Int.cast_ofNat_Int, Int.natCast_zero, ju_self, ju_ne, r5, r6, c1, q1, q1', ← hH7, ← hH8, m8', ← hH9', ← hH10, m10', ← hH11', e81]
          rw [e81]
        have T2 := T.go (H := H) F13 (c2 := 18) (s2 := 163) (by omega) (by omega)
        by_cases hk : kd g z l vv.2 = 1 ∧ isW g z l vv.2 wIF = false
        · -- a taken word: the fault comes later
          rw [if_pos hk]
          have lk : lookC g z l S nm tt vv.2 = .error (erx g z l vv.2 1) := by unfold lookC lookP; rw [if_pos hn]
          rw [lk, eb_er]
          have cp : condsP g z l S nm L' to vv.2 = .ok (L', vv.2) := by unfold condsP; rw [hk.2, if_neg (by decide)]
          rw [cp] at T2
          obtain ⟨HZ, z1, z2, z3, wz, z4, z5, sb, z6, z7⟩ := T2
          exact ⟨HZ, z1, by omega, by omega, Or.inr ⟨wz, vv.2, run _ z4, hk.1, rfl, z5, sb, z6⟩⟩
        · rw [if_neg hk]
          show CRl g z l (condsP g z l S nm (fset (fset (fset L (to + 3) cv) (to + 4) vv.1) (to + 2) 1) to vv.2) _ _ _ _ _ _ _
          rw [← hL', run _ rfl]
          exact (T2.kk (by omega) (by omega) fun v w H2 hk => hk.lo F13.1).li
      | true =>
        rw [hn, bZ_t] at c1
        have hk : kd g z l vv.2 = 1 ∧ isW g z l vv.2 wIF = false := ⟨isNm_k hn, isNm_no hn (by decide)⟩
        rw [if_pos hk]
        -- the second column
        obtain ⟨H4, d1, d2, d3, d4⟩ := rc_col (d := d + 2) (but := cv) h3 S3 (by omega) t0 t1 co.1 (by omega) (by omega)
        unfold holdP at d4
        rw [show lookP g z l (fun c => nm (4 + 4 * tt + c)) (S (4 + tt)).toNat vv.2 = lookC g z l S nm tt vv.2 from rfl] at d4
        cases hr2 : lookC g z l S nm tt vv.2 with
        | error er =>
          rw [hr2] at d4
          obtain ⟨u, r7, r8⟩ := d4
          rw [eb_er]
          refine ⟨H4, F13.tr d1, by omega, by omega, Or.inl ⟨u, ?_, r8⟩⟩
          simp (disch := first | assumption | omega | decide | exact okF_i | exact okF_r | exact okF_n | exact okF_j | rfl) only [jc_ref, rI_int, rR_ref, rR_null, rJ_long, ckR_ref, ckR_null, ckr_ref, ckr_null, ckW_int, ckW_ref, ckW_null, cI_ok, cR_ok, cR_null, cV_ok, cJ_ok, qH_eq, qD_in, aG_ref, aS_ref, aL_ref, pF_ref, cK_ref, cK_null, zI_lit, zJ_lit, zI_add, zI_sub, zI_mul, zI_neg, zI_eq, zI_lt, zI_le, Int.reduceLT, Int.reduceLE, Int.reduceAdd, Int.reduceSub, Int.reduceMul, Int.reduceNeg, Int.reduceEq, Int.reduceNe, reduceIte, jf_in, pFc_in, aGi, aGb, aSi, aLc_in, cKc_in, nA_in, jm_s1, jm_s2, jm_p1, jm_p2, jm_b, jn_b, jn_s, jn_p, jset_jset, jset_jpush2, ckR_is, ckr_is, rR_is, ckW_is, cR_is, obi2, ckW_int, eq_self, if_true, ref_null, if_false, ne_eq, not_true_eq_false, not_false_eq_true, decide_true, decide_false, decide_not, Bool.true_and, Bool.false_and, Bool.and_true, Bool.and_false, Bool.true_or, Bool.false_or, Bool.or_true, Bool.or_false, Bool.not_true, Bool.not_false, Bool.false_eq_true, bI_t, bI_f, Int.natCast_one, Int.cast_ofNat_Int, Int.natCast_zero, ju_self, ju_ne, r5, r6, c1, r7, cI_th]
        | ok c2v =>
          rw [hr2, eb_ok] at d4
          rw [eb_ok]
          have ecv : fset (fset L (to + 3) cv) (to + 4) vv.1 (to + 3) = cv := by simp (disch := omega) only [fset_ne, fset_eq]
          show CRl g z l (if c2v = fset (fset L (to + 3) cv) (to + 4) vv.1 (to + 3) then .error (erx g z l vv.2 3) else eb (valP g z l (fset (fset (fset (fset L (to + 3) cv) (to + 4) vv.1) (to + 2) 1) (to + 5) c2v) (to + 6) (nxt g z l vv.2)) fun e => condsP g z l S nm (fset e.1 (to + 2) 2) to e.2) _ _ _ _ _ _ _
          rw [ecv]
          by_cases cc : c2v = cv
          · rw [if_pos cc] at d4 ⊢
            obtain ⟨u, r7, r8⟩ := d4
            refine ⟨H4, F13.tr d1, by omega, by omega, Or.inl ⟨u, ?_, r8⟩⟩
            simp (disch := first | assumption | omega | decide | exact okF_i | exact okF_r | exact okF_n | exact okF_j | rfl) only [jc_ref, rI_int, rR_ref, rR_null, rJ_long, ckR_ref, ckR_null, ckr_ref, ckr_null, ckW_int, ckW_ref, ckW_null, cI_ok, cR_ok, cR_null, cV_ok, cJ_ok, qH_eq, qD_in, aG_ref, aS_ref, aL_ref, pF_ref, cK_ref, cK_null, zI_lit, zJ_lit, zI_add, zI_sub, zI_mul, zI_neg, zI_eq, zI_lt, zI_le, Int.reduceLT, Int.reduceLE, Int.reduceAdd, Int.reduceSub, Int.reduceMul, Int.reduceNeg, Int.reduceEq, Int.reduceNe, reduceIte, jf_in, pFc_in, aGi, aGb, aSi, aLc_in, cKc_in, nA_in, jm_s1, jm_s2, jm_p1, jm_p2, jm_b, jn_b, jn_s, jn_p, jset_jset, jset_jpush2, ckR_is, ckr_is, rR_is, ckW_is, cR_is, obi2, ckW_int, eq_self, if_true, ref_null, if_false, ne_eq, not_true_eq_false, not_false_eq_true, decide_true, decide_false, decide_not, Bool.true_and, Bool.false_and, Bool.and_true, Bool.and_false, Bool.true_or, Bool.false_or, Bool.or_true, Bool.or_false, Bool.not_true, Bool.not_false, Bool.false_eq_true, bI_t, bI_f, Int.natCast_one, Int.cast_ofNat_Int, Int.natCast_zero, ju_self, ju_ne, r5, r6, c1, r7, cI_th]
          · rw [if_neg cc] at d4 ⊢
            obtain ⟨u, r7, rfl, h4, w0, w1, -, -⟩ := d4
            have S4 := S3.fr d1 fun u z => by rw [z]; exact ca
            -- the second value
            obtain ⟨H5, g1, g2, g3, g4⟩ := rc_value (d := d + 2) h4
            rw [valP_vl]
            cases hv2 : vlP g z l (nxt g z l vv.2) with
            | error er =>
              rw [hv2] at g4
              obtain ⟨u, r8, r9⟩ := g4
              rw [eb_er, eb_er]
              refine ⟨H5, (F13.tr d1).tr g1, by omega, by omega, Or.inl ⟨u, ?_, r9⟩⟩
              simp (disch := first | assumption | omega | decide | exact okF_i | exact okF_r | exact okF_n | exact okF_j | rfl) only [jc_ref, rI_int, rR_ref, rR_null, rJ_long, ckR_ref, ckR_null, ckr_ref, ckr_null, ckW_int, ckW_ref, ckW_null, cI_ok, cR_ok, cR_null, cV_ok, cJ_ok, qH_eq, qD_in, aG_ref, aS_ref, aL_ref, pF_ref, cK_ref, cK_null, zI_lit, zJ_lit, zI_add, zI_sub, zI_mul, zI_neg, zI_eq, zI_lt, zI_le, Int.reduceLT, Int.reduceLE, Int.reduceAdd, Int.reduceSub, Int.reduceMul, Int.reduceNeg, Int.reduceEq, Int.reduceNe, reduceIte, jf_in, pFc_in, aGi, aGb, aSi, aLc_in, cKc_in, nA_in, jm_s1, jm_s2, jm_p1, jm_p2, jm_b, jn_b, jn_s, jn_p, jset_jset, jset_jpush2, ckR_is, ckr_is, rR_is, ckW_is, cR_is, obi2, ckW_int, eq_self, if_true, ref_null, if_false, ne_eq, not_true_eq_false, not_false_eq_true, decide_true, decide_false, decide_not, Bool.true_and, Bool.false_and, Bool.and_true, Bool.and_false, Bool.true_or, Bool.false_or, Bool.or_true, Bool.or_false, Bool.not_true, Bool.not_false, Bool.false_eq_true, bI_t, bI_f, Int.natCast_one, Int.cast_ofNat_Int, Int.natCast_zero, ju_self, ju_ne, r5, r6, c1, r7, r8, cI_th]
            | ok v2 =>
              rw [hv2] at g4
              obtain ⟨u, r8, rfl, eq3, h5⟩ := g4
              rw [eb_ok, eb_ok]
              rw [← eq3] at h5
              have S5 := S4.fr g1 fun u z => by rw [z]; exact ca
              have F15 : Fr H H5 (fun u => u = a) := (F13.tr d1).tr g1
              obtain ⟨H7, hH7⟩ : ∃ H7, H7 = jpush H5 (21, 4, jL [.int (zI 0), .null, .null, .null]) := ⟨_, rfl⟩
              have m7 : jm H7 H5.1 = some (21, 4, jL [.int (zI 0), .null, .null, .null]) := by rw [hH7]; exact jm_p1
              have n7 : H7.1 = H5.1 + 1 ∧ H7.2.1 = H5.2.1 + 4 := by rw [hH7]; exact ⟨rfl, rfl⟩
              obtain ⟨H8, hH8⟩ : ∃ H8, H8 = jpush H7 (1000, 2, fun _ => .int (zI 0)) := ⟨_, rfl⟩
              have m8 : jm H8 H7.1 = some (1000, 2, aI (fun _ => 0)) := by rw [hH8]; exact jm_p1
              obtain ⟨H9, hH9⟩ : ∃ H9, H9 = jset H8 H7.1 (1000, 2, aI (fset (fset (fun _ => 0) 0 cv) 1 c2v)) := ⟨_, rfl⟩
              have n9 : H9.1 = H5.1 + 2 ∧ H9.2.1 = H5.2.1 + 6 := by rw [hH9, hH8]; exact ⟨by show H7.1 + 1 = _; omega, by show H7.2.1 + 2 = _; omega⟩
              obtain ⟨H10, hH10⟩ : ∃ H10, H10 = jpush H9 (1000, 2, fun _ => .int (zI 0)) := ⟨_, rfl⟩
              have m10 : jm H10 H9.1 = some (1000, 2, aI (fun _ => 0)) := by rw [hH10]; exact jm_p1
              obtain ⟨H11, hH11⟩ : ∃ H11, H11 = jset H10 H9.1 (1000, 2, aI (fset (fset (fun _ => 0) 0 vv.1) 1 v2.1)) := ⟨_, rfl⟩
              have n11 : H11.1 = H5.1 + 3 ∧ H11.2.1 = H5.2.1 + 8 := by rw [hH11, hH10]; exact ⟨by show H9.1 + 1 = _; omega, by show H9.2.1 + 2 = _; omega⟩
              have fr11 : Fr H5 H11 (fun _ => False) := by
                rw [hH11, hH10, hH9, hH8, hH7]
                exact Fr.new (P := fun _ => False) Fr.rf ((((Fr.push.tr Fr.push).tr (Fr.set (Or.inr (Nat.le_succ _)))).tr Fr.push).tr (Fr.set (Or.inr (by rw [← hH7, ← hH8, ← hH9]; omega))))
              have e71 : H7.1 = H5.1 + 1 := n7.1
              have e91 : H9.1 = H5.1 + 2 := n9.1
              have k0 : jm H11 H5.1 = some (21, 4, jL [.int (zI 0), .null, .null, .null]) := by
                rw [hH11, jm_s2 (by omega), hH10, jm_p2 (by omega), hH9, jm_s2 (by omega), hH8, jm_p2 (by omega)]; exact m7
              have k1 : jm H11 (H5.1 + 1) = some (1000, 2, aI (fset (fset (fun _ => 0) 0 cv) 1 c2v)) := by
                rw [hH11, jm_s2 (by omega), hH10, jm_p2 (by omega), hH9, ← e71]; exact jm_s1
              have k2 : jm H11 (H5.1 + 2) = some (1000, 2, aI (fset (fset (fun _ => 0) 0 vv.1) 1 v2.1)) := by
                rw [hH11, ← e91]; exact jm_s1
              have hL' : ∃ L', L' = fset (fset (fset (fset (fset (fset L (to + 3) cv) (to + 4) vv.1) (to + 2) 1) (to + 5) c2v) (to + 6) v2.1) (to + 2) 2 := ⟨_, rfl⟩
              obtain ⟨L', hL'⟩ := hL'
              have T := st_tail (d := d) (m := 2) (to := to) (L := L') (gc := fset (fset (fun _ => 0) 0 cv) 1 c2v) (gv := fset (fset (fun _ => 0) 0 vv.1) 1 v2.1) h5 S5 ca W t0 t1 (by rw [hL']; simp (disch := omega) only [fset_ne]; exact hL) (by rw [hL']; simp (disch := omega) only [fset_ne]; exact hL0) (by rw [hL', fset_eq]; rfl) (by rw [hL']; simp (disch := omega) only [fset_ne]; exact h7) (by omega) (fun k k0 k1 => by
                rcases (show k = 0 ∨ k = 1 by omega) with ek | ek
                · subst ek
                  rw [hL', show to + 3 + 2 * 0 = to + 3 by omega, show to + 4 + 2 * 0 = to + 4 by omega]
                  simp (disch := omega) only [fset_ne, fset_eq, and_self]
                · subst ek
                  rw [hL', show to + 3 + 2 * 1 = to + 5 by omega, show to + 4 + 2 * 1 = to + 6 by omega]
                  simp (disch := omega) only [fset_ne, fset_eq, and_self]) fr11 n11.1 (by omega) k0 k1 k2
              have T2 := T.go (H := H) F15 (c2 := 32) (s2 := 293) (by omega) (by omega)
              show CRl g z l (condsP g z l S nm (fset (fset (fset (fset (fset (fset L (to + 3) cv) (to + 4) vv.1) (to + 2) 1) (to + 5) c2v) (to + 6) v2.1) (to + 2) 2) to v2.2) _ _ _ _ _ _ _
              rw [← hL']
              have T3 := T2.kk (c' := 186) (s' := 1704) (by omega) (by omega) fun v w H2 hk => hk.lo F15.1
              have m8' := m8
              have hH9' := hH9
              rw [e71] at m8' hH9'
              have m10' := m10
              have hH11' := hH11
              rw [e91] at m10' hH11'
              have e81 : H8.1 = H5.1 + 2 := by rw [hH8]; show H7.1 + 1 = _; omega
              refine CR.li ?_
              have q2 : (2 : Int32).toNatClampNeg = 2 := by decide
              have q2' : (zI 2).toNatClampNeg = 2 := by decide
              simp (disch := first | assumption | omega | decide | exact okF_i | exact okF_r | exact okF_n | exact okF_j | rfl) only [jc_ref, rI_int, rR_ref, rR_null, rJ_long, ckR_ref, ckR_null, ckr_ref, ckr_null, ckW_int, ckW_ref, ckW_null, cI_ok, cR_ok, cR_null, cV_ok, cJ_ok, qH_eq, qD_in, aG_ref, aS_ref, aL_ref, pF_ref, cK_ref, cK_null, zI_lit, zJ_lit, zI_add, zI_sub, zI_mul, zI_neg, zI_eq, zI_lt, zI_le, Int.reduceLT, Int.reduceLE, Int.reduceAdd, Int.reduceSub, Int.reduceMul, Int.reduceNeg, Int.reduceEq, Int.reduceNe, reduceIte, jf_in, pFc_in, aGi, aGb, aSi, aLc_in, cKc_in, nA_in, jm_s1, jm_s2, jm_p1, jm_p2, jm_b, jn_b, jn_s, jn_p, jset_jset, jset_jpush2, ckR_is, ckr_is, rR_is, ckW_is, cR_is, obi2, ckW_int, eq_self, if_true, ref_null, if_false, ne_eq, not_true_eq_false, not_false_eq_true, decide_true, decide_false, decide_not, Bool.true_and, Bool.false_and, Bool.and_true, Bool.and_false, Bool.true_or, Bool.false_or, Bool.or_true, Bool.or_false, Bool.not_true, Bool.not_false, Bool.false_eq_true, bI_t, bI_f, Int.natCast_one, Int.cast_ofNat_Int, Int.natCast_zero, ju_self, ju_ne, r5, r6, c1, r7, r8, q2, q2', ← hH7, ← hH8, m8', ← hH9', ← hH10, m10', ← hH11', e81]
              rw [e81]
              exact T3
end
