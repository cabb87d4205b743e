/-! the component's reader of sentences: operands that are joined -/
-- jc_ref, rI_int, rR_ref, rR_null, rJ_long, ckR_ref, ckR_null, ckr_ref, ckr_null, ckW_int, ckW_ref, ckW_null, cI_ok, cR_ok, cR_null, cV_ok, cJ_ok, qH_eq, qD_in, aG_ref, aS_ref, aL_ref, pF_ref, cK_ref, cK_null, zI_lit, zJ_lit, zI_add, zI_sub, zI_mul, zI_neg, zI_eq, zI_lt, zI_le, Int.reduceLT, Int.reduceLE, Int.reduceAdd, Int.reduceSub, Int.reduceMul, Int.reduceNeg, Int.reduceEq, Int.reduceNe, reduceIte, jf_in, pFc_in, aGi, aGb, aSi, aLc_in, cKc_in, nA_in, jm_s1, jm_s2, jm_p1, jm_p2, jm_b, jn_b, jn_s, jn_p, jset_jset, jset_jpush2, ckR_is, ckr_is, rR_is, ckW_is, cR_is, obi2, ckW_int, eq_self, if_true, ref_null, if_false, ne_eq, not_true_eq_false, not_false_eq_true, decide_true, decide_false, decide_not, Bool.true_and, Bool.false_and, Bool.and_true, Bool.and_false, Bool.true_or, Bool.false_or, Bool.or_true, Bool.or_false, Bool.not_true, Bool.not_false, Bool.false_eq_true, bI_t, bI_f, Int.natCast_one, Int.cast_ofNat_Int, Int.natCast_zero, ju_self, ju_ne = jc_ref, rI_int, rR_ref, rR_null, rJ_long, ckR_ref, ckR_null, ckr_ref, ckr_null, ckW_int, ckW_ref, ckW_null, cI_ok, cR_ok, cR_null, cV_ok, cJ_ok, qH_eq, qD_in, aG_ref, aS_ref, aL_ref, pF_ref, cK_ref, cK_null, zI_lit, zJ_lit, zI_add, zI_sub, zI_mul, zI_neg, zI_eq, zI_lt, zI_le, Int.reduceLT, Int.reduceLE, Int.reduceAdd, Int.reduceSub, Int.reduceMul, Int.reduceNeg, Int.reduceEq, Int.reduceNe, reduceIte, jf_in, pFc_in, aGi, aGb, aSi, aLc_in, cKc_in, nA_in, jm_s1, jm_s2, jm_p1, jm_p2, jm_b, jn_b, jn_s, jn_p, jset_jset, jset_jpush2, ckR_is, ckr_is, rR_is, ckW_is, cR_is, obi2, ckW_int, eq_self, if_true, ref_null, if_false, ne_eq, not_true_eq_false, not_false_eq_true, decide_true, decide_false, decide_not, Bool.true_and, Bool.false_and, Bool.and_true, Bool.and_false, Bool.true_or, Bool.false_or, Bool.or_true, Bool.or_false, Bool.not_true, Bool.not_false, Bool.false_eq_true, bI_t, bI_f, Int.natCast_one, Int.cast_ofNat_Int, Int.natCast_zero, ju_self, ju_ne
/-- a contract of a reader of operands; cells and slots by how many operands are read -/
def SnC (B : Nat → Prop) (a tp sc : Nat) (g : Int → Int) (z l : Int) (S nm : Int → Int) (wi : Int) (H : AH) (ones o1 s : Int) (r : Except Er SR) (R : Rz) : Prop :=
  ∃ H2, Fr H H2 (fun u => u = a) ∧ match r with
    | .error e => ((H2.1 : Int) + 60 * ones + 5 * s ≤ H.1 + 1300 ∧ (H2.2.1 : Int) + 500 * ones + 40 * s ≤ H.2.1 + 10800) ∧ ∃ x, R = some (.inr x, H2) ∧ FaF H2 x e
    | .ok v => ((H2.1 : Int) + 60 * ones + 5 * s ≤ H.1 + 60 * v.2.1 ∧ (H2.2.1 : Int) + 500 * ones + 40 * s ≤ H.2.1 + 500 * v.2.1) ∧ (o1 ≤ v.2.1 ∧ v.2.1 ≤ 20) ∧ ∃ b, R = some (.inl (some (.ref b)), H2) ∧ RdC B H2 a 29 12 tp sc g z l (.int (zI v.2.1)) (.int (zI wi)) v.2.2 ∧ CondF (Fz B H2) S nm v.1.length b v.1
/-- what is said of a reader of operands: method y, at depth D and more -/
def SaC (C : Nat → Prop) (a tp sc : Nat) (g : Int → Int) (z l : Int) (S nm : Int → Int) (wi : Int) (D y : Nat) (sa : Int → Int → Except Er SR) : Prop :=
  ∀ (B : Nat → Prop) (H : AH) (ones q : Int) (d : Nat), RdC B H a 29 12 tp sc g z l (.int (zI ones)) (.int (zI wi)) q → SchP C H sc S nm → 0 ≤ ones → ones ≤ 20 → SnC B a tp sc g z l S nm wi H ones (ones + 1) 1 (sa ones q) (M2 (d + D) y [.ref a] H)
/-- operands joined by a word -/
def jnL (g : Int → Int) (z l : Int) (w cv : Int) (sa : Int → Int → Except Er SR) : Nat → SR → Except Er SR
  | 0, a => .error (erx g z l a.2.2 4)
  | n + 1, a => if isW g z l a.2.2 w = true then eb (sa a.2.1 (nxt g z l a.2.2)) fun b => jnL g z l w cv sa n (a.1 ++ b.1 ++ [(cv, 0, 0)], b.2) else .ok a
theorem anL_jn {g : Int → Int} {z l : Int} {sa : Int → Int → Except Er SR} : ∀ (n : Nat) (a : SR), anL g z l sa n a = jnL g z l wAND 21 sa n a := by
  intro n
  induction n with
  | zero => intro a; rfl
  | succ n ih =>
    intro a
    show (if isW g z l a.2.2 wAND = true then eb (sa a.2.1 (nxt g z l a.2.2)) fun b => anL g z l sa n (a.1 ++ b.1 ++ [(21, 0, 0)], b.2) else .ok a) = (if isW g z l a.2.2 wAND = true then eb (sa a.2.1 (nxt g z l a.2.2)) fun b => jnL g z l wAND 21 sa n (a.1 ++ b.1 ++ [(21, 0, 0)], b.2) else .ok a)
    rw [show (fun b : SR => anL g z l sa n (a.1 ++ b.1 ++ [(21, 0, 0)], b.2)) = (fun b : SR => jnL g z l wAND 21 sa n (a.1 ++ b.1 ++ [(21, 0, 0)], b.2)) from funext fun b => ih _]
theorem orL_jn {g : Int → Int} {z l : Int} {sa : Int → Int → Except Er SR} : ∀ (n : Nat) (a : SR), orL g z l sa n a = jnL g z l wOR 22 (anP g z l sa) n a := by
  intro n
  induction n with
  | zero => intro a; rfl
  | succ n ih =>
    intro a
    show (if isW g z l a.2.2 wOR = true then eb (anP g z l sa a.2.1 (nxt g z l a.2.2)) fun b => orL g z l sa n (a.1 ++ b.1 ++ [(22, 0, 0)], b.2) else .ok a) = (if isW g z l a.2.2 wOR = true then eb (anP g z l sa a.2.1 (nxt g z l a.2.2)) fun b => jnL g z l wOR 22 (anP g z l sa) n (a.1 ++ b.1 ++ [(22, 0, 0)], b.2) else .ok a)
    rw [show (fun b : SR => orL g z l sa n (a.1 ++ b.1 ++ [(22, 0, 0)], b.2)) = (fun b : SR => jnL g z l wOR 22 (anP g z l sa) n (a.1 ++ b.1 ++ [(22, 0, 0)], b.2)) from funext fun b => ih _]
section
variable {d : Nat} {H H2 : AH} {a b q n t tp sc e1 e2 : Nat} {z l p v wi ones o1 : Int} {f : Nat → Value} {g : Int → Int} {B C P : Nat → Prop} {x y : Value} {S nm : Int → Int}
/-- steps ahead -/
theorem SnC.stp {r : Except Er SR} {R : Rz} {ones' o1' s s' : Int} (h : SnC B a tp sc g z l S nm wi H2 ones' o1' s' r R) (f : Fr H H2 (fun u => u = a)) (hc : (H2.1 : Int) + 60 * ones + 5 * s ≤ H.1 + 60 * ones' + 5 * s') (hs : (H2.2.1 : Int) + 500 * ones + 40 * s ≤ H.2.1 + 500 * ones' + 40 * s') (ho : o1 ≤ o1') : SnC B a tp sc g z l S nm wi H ones o1 s r R := by
  obtain ⟨H3, k1, k2⟩ := h
  refine ⟨H3, f.tr k1, ?_⟩
  cases r with
  | error e => exact ⟨⟨by have := k2.1.1; omega, by have := k2.1.2; omega⟩, k2.2⟩
  | ok v => exact ⟨⟨by have := k2.1.1; omega, by have := k2.1.2; omega⟩, ⟨by have := k2.2.1; omega, k2.2.1.2⟩, k2.2.2⟩
set_option maxRecDepth 8000 in
theorem jn_loop {D y ys k : Nat} {w cv : Int} {sa : Int → Int → Except Er SR} (hsa : SaC C a tp sc g z l S nm wi D ys sa) (k0 : 9 ≤ k) (k1 : k < 47) (hb : NmB (bsL k)) (hw : pk (bsL k) = w) (hcv : cv = 21 ∨ cv = 22) (D3 : 3 ≤ D)
    (hF : ∀ (d : Nat) (v1 : Value) (h : AH), G2 d y 5 [.ref a, v1] [] h = zpR (je h k) (fun r1 => zcI (MvH d 9123 [.ref a, r1] h) (fun x2 h3 => if x2 = 0 then (zkR v1 (ckR v1 (some (.inl (some v1), h3))) ()) else (zcV (MvH d 9124 [.ref a] h3) (fun h5 => zqH (jpush h5 (35, 3, jL [.null, .null, .int 0])) (fun h6 => zkR v1 (zcR (M2 d ys [.ref a] h6) (fun r7 h8 => zcV (M2 d 35900 [.ref h5.1, v1, r7, .int (zI (22 - cv))] h8) (fun h10 => G2 d y 5 [.ref a, .ref h5.1] [] h10) ()) ()) ()) ()) ())) ()) ()) :
    ∀ (n : Nat) (v : SR) (H : AH) (b : Nat), RdC B H a 29 12 tp sc g z l (.int (zI v.2.1)) (.int (zI wi)) v.2.2 → SchP C H sc S nm → C a → CondF (Fz B H) S nm v.1.length b v.1 → 0 ≤ v.2.1 → v.2.1 ≤ 20 → 21 ≤ n + v.2.1 → SnC B a tp sc g z l S nm wi H v.2.1 v.2.1 0 (jnL g z l w cv sa n v) (G2 (d + D) y 5 [.ref a, .ref b] [] H) := by
  intro n
  induction n with
  | zero => intro v H b h hS ca hc v0 v1 hn; omega
  | succ n ih =>
    intro v H b h hS ca hc v0 v1 hn
    obtain ⟨w1, a1, b1⟩ := rc_isE h k0 k1 hb
    rw [hw] at b1
    obtain ⟨mi, mg, -⟩ := mvS h
    obtain ⟨D', hD'⟩ : ∃ D', d + D = D' + 3 := ⟨d + D - 3, by omega⟩
    have b1' : MvH (d + D) 9123 [.ref a, .ref w1] H = some (.inl (some (.int (zI (bZ (isW g z l v.2.2 w))))), H) := by rw [mi, hD']; exact b1 (D' + 1)
    unfold jnL
    cases hi : isW g z l v.2.2 w with
    | false =>
      rw [hi, bZ_f] at b1'
      rw [if_neg (by decide)]
      refine ⟨H, Fr.rf, ⟨by omega, by omega⟩, ⟨Int.le_refl _, v1⟩, b, ?_, h, hc⟩
      rw [hF]
      simp (disch := first | assumption | omega | decide | exact okF_i | exact okF_r | exact okF_n | exact okF_j | rfl) only [jc_ref, rI_int, rR_ref, rR_null, rJ_long, ckR_ref, ckR_null, ckr_ref, ckr_null, ckW_int, ckW_ref, ckW_null, cI_ok, cR_ok, cR_null, cV_ok, cJ_ok, qH_eq, qD_in, aG_ref, aS_ref, aL_ref, pF_ref, cK_ref, cK_null, zI_lit, zJ_lit, zI_add, zI_sub, zI_mul, zI_neg, zI_eq, zI_lt, zI_le, Int.reduceLT, Int.reduceLE, Int.reduceAdd, Int.reduceSub, Int.reduceMul, Int.reduceNeg, Int.reduceEq, Int.reduceNe, reduceIte, jf_in, pFc_in, aGi, aGb, aSi, aLc_in, cKc_in, nA_in, jm_s1, jm_s2, jm_p1, jm_p2, jm_b, jn_b, jn_s, jn_p, jset_jset, jset_jpush2, ckR_is, ckr_is, rR_is, ckW_is, cR_is, obi2, ckW_int, eq_self, if_true, ref_null, if_false, ne_eq, not_true_eq_false, not_false_eq_true, decide_true, decide_false, decide_not, Bool.true_and, Bool.false_and, Bool.and_true, Bool.and_false, Bool.true_or, Bool.false_or, Bool.or_true, Bool.or_false, Bool.not_true, Bool.not_false, Bool.false_eq_true, bI_t, bI_f, Int.natCast_one, Int.cast_ofNat_Int, Int.natCast_zero, ju_self, ju_ne, a1, b1']
    | true =>
      rw [hi, bZ_t] at b1'
      rw [if_pos rfl]
      obtain ⟨H2, g1, g2, g3, g4, k2⟩ := rc_go (d := D' + 1) h
      have g1' : MvH (d + D) 9124 [.ref a] H = some (.inl none, H2) := by rw [mg, hD']; exact g1
      have S2 := hS.fr g2 fun u z => z ▸ ca
      obtain ⟨H3, hH3⟩ : ∃ H3, H3 = jpush H2 (35, 3, o35 .null .null 0) := ⟨_, rfl⟩
      obtain ⟨k3, S3', f3, m3, n3, n3s⟩ := rc_obj (cl := (35, 3, o35 .null .null 0)) k2 S2
      rw [← hH3] at k3 S3' f3 m3 n3 n3s
      have S3 : SchP C H3 sc S nm := S2.fr f3 fun _ z => z.elim
      have n3s : H3.2.1 = H2.2.1 + 3 := n3s
      have SA := hsa (fun u => B u ∨ u = H2.1) H3 v.2.1 (nxt g z l v.2.2) d k3 S3 v0 v1
      have pre : ∀ X : Rz, M2 (d + D) ys [.ref a] H3 = X → G2 (d + D) y 5 [.ref a, .ref b] [] H = zcR X (fun r7 h8 => zcV (M2 (d + D) 35900 [.ref H2.1, .ref b, r7, .int (zI (22 - cv))] h8) (fun h10 => G2 (d + D) y 5 [.ref a, .ref H2.1] [] h10) ()) () := by
        intro X hX
        rw [← hX, hF]
        simp (disch := first | assumption | omega | decide | exact okF_i | exact okF_r | exact okF_n | exact okF_j | rfl) only [jc_ref, rI_int, rR_ref, rR_null, rJ_long, ckR_ref, ckR_null, ckr_ref, ckr_null, ckW_int, ckW_ref, ckW_null, cI_ok, cR_ok, cR_null, cV_ok, cJ_ok, qH_eq, qD_in, aG_ref, aS_ref, aL_ref, pF_ref, cK_ref, cK_null, zI_lit, zJ_lit, zI_add, zI_sub, zI_mul, zI_neg, zI_eq, zI_lt, zI_le, Int.reduceLT, Int.reduceLE, Int.reduceAdd, Int.reduceSub, Int.reduceMul, Int.reduceNeg, Int.reduceEq, Int.reduceNe, reduceIte, jf_in, pFc_in, aGi, aGb, aSi, aLc_in, cKc_in, nA_in, jm_s1, jm_s2, jm_p1, jm_p2, jm_b, jn_b, jn_s, jn_p, jset_jset, jset_jpush2, ckR_is, ckr_is, rR_is, ckW_is, cR_is, obi2, ckW_int, eq_self, if_true, ref_null, if_false, ne_eq, not_true_eq_false, not_false_eq_true, decide_true, decide_false, decide_not, Bool.true_and, Bool.false_and, Bool.and_true, Bool.and_false, Bool.true_or, Bool.false_or, Bool.or_true, Bool.or_false, Bool.not_true, Bool.not_false, Bool.false_eq_true, bI_t, bI_f, Int.natCast_one, Int.cast_ofNat_Int, Int.natCast_zero, ju_self, ju_ne, n35, a1, b1', g1', ← hH3]
      have F3 : Fr H H3 (fun u => u = a) := g2.tr (f3.mono fun _ _ z => z.elim)
      obtain ⟨H4, t1, t2⟩ := SA
      have F4 : Fr H H4 (fun u => u = a) := F3.tr t1
      have al2 := k2.2.2.1 a k2.2.1
      cases hr : sa v.2.1 (nxt g z l v.2.2) with
      | error er =>
        rw [hr] at t2
        rw [eb_er]
        obtain ⟨⟨c1, c2⟩, u, r1, r2⟩ := t2
        refine ⟨H4, F4, ⟨by omega, by omega⟩, u, ?_, r2⟩
        exact (pre _ r1).trans cR_th
      | ok vv =>
        rw [hr] at t2
        rw [eb_ok]
        obtain ⟨⟨c1, c2⟩, ⟨o1, o2⟩, sb, r1, k4, cd⟩ := t2
        have m4 : jm H4 H2.1 = some (35, 3, o35 .null .null 0) := (t1.2.2 _ (by omega) (by omega)).trans m3
        have ck := ck_35900 (d := D') (e1 := b) (e2 := sb) (v := 22 - cv) m4 (by omega)
        obtain ⟨H5, hH5⟩ : ∃ H5, H5 = jset H4 H2.1 (35, 3, o35 (.ref b) (.ref sb) (22 - cv)) := ⟨_, rfl⟩
        rw [← hH5] at ck
        have m5 : jm H5 H2.1 = some (35, 3, o35 (.ref b) (.ref sb) (22 - cv)) := by rw [hH5]; exact jm_s1
        have f5 : Fr H4 H5 (fun u => u = H2.1) := by rw [hH5]; exact Fr.set rfl
        have n5 : H5.1 = H4.1 ∧ H5.2.1 = H4.2.1 := by rw [hH5]; exact ⟨rfl, rfl⟩
        have F5 : Fr H H5 (fun u => u = a) := F4.new (f5.mono fun u _ z => Or.inr (by have := g2.1; omega))
        have l4 := t1.1
        have k5 : RdC B H5 a 29 12 tp sc g z l (.int (zI vv.2.1)) (.int (zI wi)) vv.2.2 := (k4.fr f5 (fun u _ z => Or.inr z) (by omega)).less (fun u hu => Or.inl hu) h.2.1
        have nb : ¬ B H2.1 := fun hb => by have := k2.2.2.1 _ hb; omega
        have sb1 : Sub (Fz B H) (Fz B H5) := fun u c hu => by
          obtain ⟨lt, nbu⟩ := Fz_lt hu
          exact Fz_in (Nat.lt_of_lt_of_le lt F5.1) nbu ((F5.2.2 u lt (fun e => nbu (e ▸ h.2.1))).trans (Fz_F.m hu))
        have sb2 : Sub (Fz (fun u => B u ∨ u = H2.1) H4) (Fz B H5) := (Fz_sub f5 fun u _ z => Or.inr z).tr (sub_less fun u hu => Or.inl hu)
        have cd5 : CondF (Fz B H5) S nm (v.1 ++ vv.1 ++ [(cv, 0, 0)]).length H2.1 (v.1 ++ vv.1 ++ [(cv, 0, 0)]) := by
          have el : (v.1 ++ vv.1 ++ [((cv, 0, 0) : Cd)]).length = (v.1.length + vv.1.length) + 1 := by simp [Nat.add_assoc]
          rw [el]
          exact Or.inr (Or.inr ⟨b, sb, v.1, vv.1, cv, Fz_in (by omega) nb m5, hcv, rfl, CondF.up _ _ (by omega) (CondF.sub sb1 _ hc), CondF.up _ _ (by omega) (CondF.sub sb2 _ cd)⟩)
        have IH := ih (v.1 ++ vv.1 ++ [(cv, 0, 0)], vv.2) H5 H2.1 k5 (hS.fr F5 fun u z => z ▸ ca) ca cd5 (by show 0 ≤ vv.2.1; omega) o2 (by show 21 ≤ (n : Int) + vv.2.1; omega)
        have run : G2 (d + D) y 5 [.ref a, .ref b] [] H = G2 (d + D) y 5 [.ref a, .ref H2.1] [] H5 := by
          rw [pre _ r1, cR_ok, hD', ck, cV_ok]
        rw [run]
        exact IH.stp F5 (by show (H5.1 : Int) + 60 * v.2.1 + 5 * 0 ≤ H.1 + 60 * vv.2.1 + 5 * 0; omega) (by show (H5.2.1 : Int) + 500 * v.2.1 + 40 * 0 ≤ H.2.1 + 500 * vv.2.1 + 40 * 0; omega) (by show v.2.1 ≤ vv.2.1; omega)
/-- operands joined by and -/
theorem an_C {D : Nat} {sa : Int → Int → Except Er SR} (ca : C a) (hsa : SaC C a tp sc g z l S nm wi D 29005 sa) (D3 : 3 ≤ D) : SaC C a tp sc g z l S nm wi (D + 1) 29000 (anP g z l sa) := by
  intro B H ones q d h hS o0 o2
  obtain ⟨f, mm, -⟩ := h.fs
  have rv : (jtRecv 29000).elem 29 = true := rfl
  have SA := hsa B H ones q d h hS o0 o2
  unfold anP
  rw [show d + (D + 1) = (d + D) + 1 by omega, Y29000 H (jrecv_in mm rv), F29000_0]
  obtain ⟨H2, t1, t2⟩ := SA
  cases hr : sa ones q with
  | error er =>
    rw [hr] at t2
    rw [eb_er]
    obtain ⟨⟨c1, c2⟩, u, r1, r2⟩ := t2
    exact ⟨H2, t1, ⟨c1, c2⟩, u, by rw [r1, cR_th], r2⟩
  | ok v =>
    rw [hr] at t2
    rw [eb_ok, anL_jn]
    obtain ⟨⟨c1, c2⟩, ⟨o1, o3⟩, b, r1, k2, cd⟩ := t2
    have L := jn_loop (d := d) hsa (k := 38) (w := wAND) (cv := 21) (y := 29000) (by omega) (by omega) (nmE (by decide)) (by decide) (Or.inl rfl) D3 (fun d v1 h => F29000_5 d a v1 h) 21 v H2 b k2 (hS.fr t1 fun u z => z ▸ ca) ca cd (by omega) o3 (by omega)
    rw [r1, cR_ok]
    exact L.stp t1 (by omega) (by omega) o1
/-- those joined by or -/
theorem or_C {D : Nat} {sa : Int → Int → Except Er SR} (ca : C a) (hsa : SaC C a tp sc g z l S nm wi D 29005 sa) (D3 : 3 ≤ D) : SaC C a tp sc g z l S nm wi (D + 2) 29003 (orP g z l sa) := by
  intro B H ones q d h hS o0 o2
  obtain ⟨f, mm, -⟩ := h.fs
  have rv : (jtRecv 29003).elem 29 = true := rfl
  have AN := an_C ca hsa D3
  have SA := AN B H ones q d h hS o0 o2
  unfold orP
  rw [show d + (D + 2) = (d + (D + 1)) + 1 by omega, Y29003 H (jrecv_in mm rv), F29003_0]
  obtain ⟨H2, t1, t2⟩ := SA
  cases hr : anP g z l sa ones q with
  | error er =>
    rw [hr] at t2
    rw [eb_er]
    obtain ⟨⟨c1, c2⟩, u, r1, r2⟩ := t2
    exact ⟨H2, t1, ⟨c1, c2⟩, u, by rw [r1, cR_th], r2⟩
  | ok v =>
    rw [hr] at t2
    rw [eb_ok, orL_jn]
    obtain ⟨⟨c1, c2⟩, ⟨o1, o3⟩, b, r1, k2, cd⟩ := t2
    have L := jn_loop (d := d) AN (k := 37) (w := wOR) (cv := 22) (y := 29003) (by omega) (by omega) (nmE (by decide)) (by decide) (Or.inr rfl) (by omega) (fun d v1 h => F29003_5 d a v1 h) 21 v H2 b k2 (hS.fr t1 fun u z => z ▸ ca) ca cd (by omega) o3 (by omega)
    rw [r1, cR_ok]
    exact L.stp t1 (by omega) (by omega) o1
end
