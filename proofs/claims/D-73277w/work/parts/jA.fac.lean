/-! the face: all that stands between two calls, component against twin -/
-- jc_ref, rI_int, rR_ref, rR_null, rJ_long, ckR_ref, ckR_null, ckr_ref, ckr_null, ckW_int, ckW_ref, ckW_null, cI_ok, cR_ok, cR_null, cV_ok, cJ_ok, qH_eq, qD_in, aG_ref, aS_ref, aL_ref, pF_ref, cK_ref, cK_null, zI_lit, zJ_lit, zI_add, zI_sub, zI_mul, zI_neg, zI_eq, zI_lt, zI_le, Int.reduceLT, Int.reduceLE, Int.reduceAdd, Int.reduceSub, Int.reduceMul, Int.reduceNeg, Int.reduceEq, Int.reduceNe, reduceIte, jf_in, pFc_in, aGi, aGb, aSi, aLc_in, cKc_in, nA_in, jm_s1, jm_s2, jm_p1, jm_p2, jm_b, jn_b, jn_s, jn_p, jset_jset, jset_jpush2, ckR_is, ckr_is, rR_is, ckW_is, cR_is, obi2, ckW_int, eq_self, if_true, ref_null, if_false, ne_eq, not_true_eq_false, not_false_eq_true, decide_true, decide_false, decide_not, Bool.true_and, Bool.false_and, Bool.and_true, Bool.and_false, Bool.true_or, Bool.false_or, Bool.or_true, Bool.or_false, Bool.not_true, Bool.not_false, Bool.false_eq_true, bI_t, bI_f, Int.natCast_one, Int.cast_ofNat_Int, Int.natCast_zero, o23_0, o23_1, o23_2, n23, o23s_0, o23s_1, o23s_2, o4_0, o4_1, o4_2, o4_3, o4_4, o4_5, o4_6, n4, o4s_0, o4s_1, o4s_2, o4s_3, o4s_4, o4s_5, o4s_6, o24_0, o24_1, o24_2, o24_3, o26_0, o28_0, o22_0, o22_1, o22_2, o22_3, o22_4, o22_5, o47_0, o47_1, o47_2, o47_3, n47, o47s_0, o47s_1, o47s_2, o47s_3 = jc_ref, rI_int, rR_ref, rR_null, rJ_long, ckR_ref, ckR_null, ckr_ref, ckr_null, ckW_int, ckW_ref, ckW_null, cI_ok, cR_ok, cR_null, cV_ok, cJ_ok, qH_eq, qD_in, aG_ref, aS_ref, aL_ref, pF_ref, cK_ref, cK_null, zI_lit, zJ_lit, zI_add, zI_sub, zI_mul, zI_neg, zI_eq, zI_lt, zI_le, Int.reduceLT, Int.reduceLE, Int.reduceAdd, Int.reduceSub, Int.reduceMul, Int.reduceNeg, Int.reduceEq, Int.reduceNe, reduceIte, jf_in, pFc_in, aGi, aGb, aSi, aLc_in, cKc_in, nA_in, jm_s1, jm_s2, jm_p1, jm_p2, jm_b, jn_b, jn_s, jn_p, jset_jset, jset_jpush2, ckR_is, ckr_is, rR_is, ckW_is, cR_is, obi2, ckW_int, eq_self, if_true, ref_null, if_false, ne_eq, not_true_eq_false, not_false_eq_true, decide_true, decide_false, decide_not, Bool.true_and, Bool.false_and, Bool.and_true, Bool.and_false, Bool.true_or, Bool.false_or, Bool.or_true, Bool.or_false, Bool.not_true, Bool.not_false, Bool.false_eq_true, bI_t, bI_f, Int.natCast_one, Int.cast_ofNat_Int, Int.natCast_zero, o23_0, o23_1, o23_2, n23, o23s_0, o23s_1, o23s_2, o4_0, o4_1, o4_2, o4_3, o4_4, o4_5, o4_6, n4, o4s_0, o4s_1, o4s_2, o4s_3, o4s_4, o4s_5, o4s_6, o24_0, o24_1, o24_2, o24_3, o26_0, o28_0, o22_0, o22_1, o22_2, o22_3, o22_4, o22_5, o47_0, o47_1, o47_2, o47_3, n47, o47s_0, o47s_1, o47s_2, o47s_3
/-- the cells that the face writes; x: the component -/
def FcW (x u : Nat) : Prop := u = x ∨ u = x + 1 ∨ StP (x + 7) u ∨ StP (x + 16) u ∨ PlP (x + 25) u ∨ PlP (x + 30) u ∨ u = x + 35 ∨ u = x + 37 ∨ u = x + 38 ∨ u = x + 40 ∨ StP (x + 41) u ∨ u = x + 50 ∨ StP (x + 51) u ∨ ∃ k, k < 8 ∧ StP (x + 60 + 9 * k) u
/-- those but the tape -/
def FcT (x u : Nat) : Prop := FcW x u ∧ u ≠ x + 1
/-- a list of violations that stands -/
def VLF (F : Nat → Option Cl) (S : Int → Int) (q : Nat) (xs : List Vi) : Prop := ∃ (ns : List Nat) (vs : List Value) (mc : Int), F q = some (47, 4, o47 mc vs.length (ndV ns 0) (prvV ns ns.length)) ∧ ns.length = vs.length ∧ ns.length < 100000 ∧ ns.Nodup ∧ (∀ v ∈ vs, isR v = true) ∧ (∀ (i : Nat) (p : Nat), ns[i]? = some p → F p = some (70, 3, o70 (vs.getD i .null) (ndV ns (i + 1)) (prvV ns i))) ∧ vs.length = xs.length ∧ ∀ (i : Nat) (x : Vi), xs[i]? = some x → ∃ b : Nat, vs[i]? = some (.ref b) ∧ F b = some (24, 4, o24 x.1 (S (249 + x.2.2)) x.2.1 x.2.2)
/-- small numbers that are kept as objects -/
def IntF (F : Nat → Option Cl) (E : Nat → Value) : Prop := ∃ (ic : Nat) (fc : Nat → Value), E 6 = .ref ic ∧ F ic = some (1071, 256, fc) ∧ ∀ k : Nat, k < 256 → ∃ b : Nat, fc k = .ref b ∧ F b = some (162, 1, jL [.int (zI ((k : Int) - 128))])
/-- a store, whatever it holds -/
def StG (H : AH) (a : Nat) : Prop := ∃ (v : Value) (ins on : Int) (l1 l2 l3 : List Value) (wl : Nat) (bs : Nat → Bool), SH H a v ins on l1 l2 l3 wl bs
/-- a sentence that is kept -/
def SenI (F : Nat → Option Cl) (sen : Value) (S nm : Int → Int) : Prop := (S 1239 = 0 ∧ sen = .null) ∨ ∃ (sb : Nat) (cds : List Cd), sen = .ref sb ∧ S 1239 ≠ 0 ∧ CdK S cds ∧ WfC S nm cds 0 ∧ CondF F S nm cds.length sb cds
def ObI (x : Nat) (H : AH) (T : Nat → Int → Int) (sc : Nat) (sen ver : Value) (vl tg : Nat) (seed : Int) : Prop := x + 132 ≤ H.1 ∧ jm H x = some (2, 18, o2 (.ref (x + 1)) (T 0 2) (T 0 16) (.ref sc) (.ref (x + 7)) (.ref (x + 16)) (.ref (x + 25)) (.ref (x + 30)) sen (.ref (x + 35)) (T 0 44) ver (.ref vl) (.ref (x + 37)) (.ref tg) seed (.ref (x + 38)) (.ref (x + 39))) ∧ isR sen = true ∧ isR ver = true
def PlI (x : Nat) (H : AH) (T : Nat → Int → Int) : Prop := ∃ (a wl : Nat) (g : Nat → Bool) (w : WS) (D : Int → Int), PH H (x + 25) a wl g w D ∧ GS g D ∧ ∀ r, 0 ≤ r → r < 99 → D r = if T 0 42 = 0 then -1 else T 16 r
/-- an image of the rows, k-th of those that can be brought back -/
def imS (T : Nat → Int → Int) (k : Int) : Int → Int := fun i => if i < 148 then T 2 i else T 20 (1091 * k + (i - 148))
def BeI (x : Nat) (H : AH) (T : Nat → Int → Int) (sc : Nat) : Prop := ∃ (fb : Nat → Value) (bp : Nat → Nat), jm H (x + 35) = some (1050, 8, fb) ∧ (∀ k, k < 8 → bp k < 8 ∧ fb k = .ref (x + 60 + 9 * bp k)) ∧ (∀ i j, i < 8 → j < 8 → bp i = bp j → i = j) ∧ (∀ k, k < 8 → StG H (x + 60 + 9 * k)) ∧ ∀ k : Nat, (k : Int) < T 0 44 → StR (FcW x) H (x + 60 + 9 * bp k) sc (imS T k) ∧ StW (imS T k)
def VdI (F : Nat → Option Cl) (T : Nat → Int → Int) (ver : Value) : Prop := (T 0 42 = 0 ∧ ver = .null) ∨ (T 0 42 = 1 ∧ ∃ (vb ll : Nat) (tou : Int), ver = .ref vb ∧ F vb = some (22, 6, o22 (T 15 0) (T 15 1) (T 15 2) (T 15 3) tou (.ref ll)))
def VlI (F : Nat → Option Cl) (T : Nat → Int → Int) (vl : Nat) : Prop := ∃ (V : List Vi) (S2 : Int → Int), VLF F S2 vl V ∧ T 0 41 = V.length ∧ V.length ≤ 960 ∧ ∀ (i : Nat) (v : Vi), V[i]? = some v → T 17 i = v.1 ∧ T 18 i = v.2.1 ∧ T 19 i = v.2.2
def OrI (F : Nat → Option Cl) (x : Nat) (H : AH) (T : Nat → Int → Int) : Prop := (-1 ≤ T 0 48 ∧ T 0 48 ≤ 4) ∧ ∃ (cap : Nat) (mc : Int32) (l : List Value), jm H (x + 37) = some (cAL cap mc l) ∧ cap ≤ 10 ∧ (l.length : Int) = (if T 0 48 < 0 then 0 else T 0 48) ∧ ∀ k : Int, 0 ≤ k → k < l.length → ∃ b : Nat, l.getD k.toNat .null = .ref b ∧ F b = some (162, 1, jL [.int (zI (T 22 k))])
def TgI (F : Nat → Option Cl) (T : Nat → Int → Int) (tg : Nat) : Prop := ∃ s, StrF F tg s ∧ (s.length : Int) = T 0 50 ∧ T 0 50 ≤ 30 ∧ ∀ k : Nat, k < s.length → s.getD k 0 = T 24 k
def ToI (x : Nat) (H : AH) (T : Nat → Int → Int) : Prop := (T 0 55 = 0 ∨ T 0 55 = 1) ∧ ∃ gt, jm H (x + 38) = some (1000, 4, aI gt) ∧ ∀ i, 0 ≤ i → i < 4 → gt i = if T 0 55 = 0 then -1 else T 25 i
def kpS (T : Nat → Int → Int) (k : Int) : Int → Int := fun i => T 29 (1420 * k + i)
def kpN (T : Nat → Int → Int) (k : Int) : Int → Int := fun i => T 30 (20 * k + i)
def KpI (x : Nat) (H : AH) (T : Nat → Int → Int) (k : Nat) : Prop := ∃ (qv sv : Value), jm H (x + 40 + 10 * k) = some (6, 3, o6 qv sv (.ref (x + 41 + 10 * k))) ∧ isR sv = true ∧ StG H (x + 41 + 10 * k) ∧ ((T 31 k = 0 ∧ qv = .null) ∨ (T 31 k = 1 ∧ ∃ q, qv = .ref q ∧ SchF (Fz (FcW x) H) q (kpS T k) (kpN T k) ∧ StR (FcW x) H (x + 41 + 10 * k) q (kpS T k) ∧ StW (kpS T k) ∧ SenI (Fz (FcW x) H) sv (kpS T k) (kpN T k)))
/-- what is so of the twin alone -/
def TwI (T : Nat → Int → Int) : Prop := TwC T ∧ BkI T ∧ (0 ≤ T 0 44 ∧ T 0 44 ≤ 8) ∧ (T 0 42 = 0 ∨ T 0 42 = 1) ∧ (∀ r, 0 ≤ r → r < 99 → -1 ≤ T 16 r ∧ T 16 r ≤ 200) ∧ (∀ i, 0 ≤ T 30 i ∧ T 30 i < 72057594037927936) ∧ (∀ k, 0 ≤ k → k ≤ 1 → T 31 k = 0 ∨ T 31 k = 1)
/-- all but the object, the tape, what is only tried -/
def FaceQ (x : Nat) (H : AH) (T : Nat → Int → Int) (sc : Nat) (sen ver : Value) (vl tg : Nat) : Prop := EnvS (Fz (FcW x) H) (je H) ∧ IntF (Fz (FcW x) H) (je H) ∧ SchF (Fz (FcW x) H) sc (T 2) (T 6) ∧ StR (FcW x) H (x + 7) sc (T 2) ∧ PlI x H T ∧ SenI (Fz (FcW x) H) sen (T 2) (T 6) ∧ BeI x H T sc ∧ VdI (Fz (FcW x) H) T ver ∧ VlI (Fz (FcW x) H) T vl ∧ OrI (Fz (FcW x) H) x H T ∧ TgI (Fz (FcW x) H) T tg ∧ ToI x H T ∧ (∃ fk, Fz (FcW x) H (x + 39) = some (1060, 2, fk) ∧ fk 0 = .ref (x + 40) ∧ fk 1 = .ref (x + 50)) ∧ KpI x H T 0 ∧ KpI x H T 1
/-- component and twin are alike -/
def FaceI (x : Nat) (H : AH) (T : Nat → Int → Int) : Prop := ∃ (sc : Nat) (sen ver : Value) (vl tg : Nat) (seed : Int), ObI x H T sc sen ver vl tg seed ∧ jm H (x + 1) = some (1010, 940, aI (T 1)) ∧ StG H (x + 16) ∧ PlG H (x + 30) ∧ FaceQ x H T sc sen ver vl tg
section
variable {F G : Nat → Option Cl} {H H2 : AH} {x a q vl tg : Nat} {P : Nat → Prop} {T T' : Nat → Int → Int} {S S' nm nm' : Int → Int} {E : Nat → Value} {V xs : List Vi} {sen ver : Value} {sc : Nat} {seed : Int} {B : Nat → Prop}
theorem VLF.sub (h : VLF F S q xs) (s : Sub F G) : VLF G S q xs := by
  obtain ⟨ns, vs, mc, h1, h2, h3, h4, h5, h6, h7, h8⟩ := h
  refine ⟨ns, vs, mc, s _ _ h1, h2, h3, h4, h5, fun i p hp => s _ _ (h6 i p hp), h7, fun i x hx => ?_⟩
  obtain ⟨b, b1, b2⟩ := h8 i x hx
  exact ⟨b, b1, s _ _ b2⟩
theorem VLF.ll (h : VLF F S q xs) (hF : Fzn F H) : ∃ ns vs, LLat H q ns vs ∧ vs.length = xs.length ∧ ∀ (i : Nat) (x : Vi), xs[i]? = some x → ∃ b : Nat, vs[i]? = some (.ref b) ∧ jm H b = some (24, 4, o24 x.1 (S (249 + x.2.2)) x.2.1 x.2.2) := by
  obtain ⟨ns, vs, mc, h1, h2, h3, h4, h5, h6, h7, h8⟩ := h
  refine ⟨ns, vs, ⟨⟨mc, hF.m h1⟩, h2, h3, h4, h5, fun i p hp => ⟨hF.m (h6 i p hp), hF.lt (h6 i p hp)⟩⟩, h7, fun i x hx => ?_⟩
  obtain ⟨b, b1, b2⟩ := h8 i x hx
  exact ⟨b, b1, hF.m b2⟩
theorem VLat.f {lo : Nat} (h : VLat S H lo q xs) (hB : ∀ u, B u → u < lo) : VLF (Fz B H) S q xs := by
  obtain ⟨ns, vs, ⟨⟨mc, l1⟩, l2, l3, l4, l5, l6⟩, ⟨k2, k3⟩, k4, k5, k6⟩ := h
  refine ⟨ns, vs, mc, Fz_in k3 (fun hb => by have := hB _ hb; omega) l1, l2, l3, l4, l5, fun i p hp => ?_, k5, fun i x hx => ?_⟩
  · have := k4 p (List.mem_of_getElem? hp)
    exact Fz_in (l6 i p hp).2 (fun hb => by have := hB _ hb; omega) (l6 i p hp).1
  · obtain ⟨b, b1, b2, b3, b4⟩ := k6 i x hx
    exact ⟨b, b1, Fz_in b2 (fun hb => by have := hB _ hb; omega) b4⟩
theorem IntF.sub (h : IntF F E) (s : Sub F G) : IntF G E := by
  obtain ⟨ic, fc, h1, h2, h3⟩ := h
  refine ⟨ic, fc, h1, s _ _ h2, fun k hk => ?_⟩
  obtain ⟨b, b1, b2⟩ := h3 k hk
  exact ⟨b, b1, s _ _ b2⟩
theorem StG.fr (h : StG H a) (fr : Fr H H2 P) (hp : ∀ z, StP a z → ¬ P z) : StG H2 a := by
  obtain ⟨v, ins, on, l1, l2, l3, wl, bs, h⟩ := h
  exact ⟨v, ins, on, l1, l2, l3, wl, bs, h.fr fr hp⟩
theorem StR.g (h : StR B H a q S) : StG H a := by
  obtain ⟨l1, l2, l3, wl, bs, ra, rb, h1, -⟩ := h
  exact ⟨_, _, _, l1, l2, l3, wl, bs, h1⟩
theorem SenI.sub (h : SenI F sen S nm) (s : Sub F G) : SenI G sen S nm := by
  rcases h with h | ⟨sb, cds, h1, h2, h3, h4, h5⟩
  · exact Or.inl h
  · exact Or.inr ⟨sb, cds, h1, h2, h3, h4, CondF.sub s _ h5⟩
theorem LfW.cg {c : Cd} (W : ScW S) (h : LfW S nm c) (e : ∀ i, 0 ≤ i → i < 8 → S' i = S i) : LfW S' nm c := by
  rcases h with h | ⟨h | ⟨w, h1, h2⟩, h3⟩
  · exact Or.inl h
  · exact Or.inr ⟨Or.inl h, h3⟩
  · exact Or.inr ⟨Or.inr ⟨w, by rw [pkZ_cg W e]; exact h1, by rw [pkZ_cg W e]; exact h2⟩, h3⟩
theorem WfC.cg (W : ScW S) (e : ∀ i, 0 ≤ i → i < 8 → S' i = S i) : ∀ (cs : List Cd) (n : Nat), WfC S nm cs n → WfC S' nm cs n := by
  intro cs
  induction cs with
  | nil => intro n h; exact h
  | cons c cs ih =>
    intro n h
    show if c.1 = 20 then 1 ≤ n ∧ WfC S' nm cs n else if c.1 = 21 ∨ c.1 = 22 then 2 ≤ n ∧ WfC S' nm cs (n - 1) else LfW S' nm c ∧ WfC S' nm cs (n + 1)
    have h : if c.1 = 20 then 1 ≤ n ∧ WfC S nm cs n else if c.1 = 21 ∨ c.1 = 22 then 2 ≤ n ∧ WfC S nm cs (n - 1) else LfW S nm c ∧ WfC S nm cs (n + 1) := h
    split
    · rename_i c1
      rw [if_pos c1] at h
      exact ⟨h.1, ih _ h.2⟩
    · rename_i c1
      rw [if_neg c1] at h
      split
      · rename_i c2
        rw [if_pos c2] at h
        exact ⟨h.1, ih _ h.2⟩
      · rename_i c2
        rw [if_neg c2] at h
        exact ⟨h.1.cg W e, ih _ h.2⟩
theorem SenI.cg (W : ScW S) (h : SenI F sen S nm) (e : ∀ i, 0 ≤ i → i < 8 → S' i = S i) (e2 : ∀ i, 1239 ≤ i → S' i = S i) : SenI F sen S' nm := by
  rcases h with h | ⟨sb, cds, h1, h2, ⟨k1, k2, k3⟩, h4, h5⟩
  · exact Or.inl ⟨by rw [e2 1239 (by omega)]; exact h.1, h.2⟩
  · refine Or.inr ⟨sb, cds, h1, by rw [e2 1239 (by omega)]; exact h2, ⟨by rw [e2 1239 (by omega)]; exact k1, fun i c hi => ?_, k3⟩, WfC.cg W e _ _ h4, CondF.cg W e _ h5⟩
    obtain ⟨a1, a2, a3⟩ := k2 i c hi
    exact ⟨by show S' _ = _; rw [e2 _ (by omega)]; exact a1, by show S' _ = _; rw [e2 _ (by omega)]; exact a2, by show S' _ = _; rw [e2 _ (by omega)]; exact a3⟩
theorem VdI.sub (h : VdI F T ver) (s : Sub F G) : VdI G T ver := by
  rcases h with h | ⟨h1, vb, ll, tou, h2, h3⟩
  · exact Or.inl h
  · exact Or.inr ⟨h1, vb, ll, tou, h2, s _ _ h3⟩
theorem VlI.sub (h : VlI F T vl) (s : Sub F G) : VlI G T vl := by
  obtain ⟨V, S2, h1, h2⟩ := h
  exact ⟨V, S2, h1.sub s, h2⟩
theorem TgI.sub (h : TgI F T tg) (s : Sub F G) : TgI G T tg := by
  obtain ⟨u, h1, h2⟩ := h
  exact ⟨u, h1.sub s, h2⟩
theorem OrI.fr (h : OrI F x H T) (s : Sub F G) (e : jm H2 (x + 37) = jm H (x + 37)) : OrI G x H2 T := by
  obtain ⟨h0, cap, mc, l, h1, h2, h3, h4⟩ := h
  refine ⟨h0, cap, mc, l, e.trans h1, h2, h3, fun k k0 k1 => ?_⟩
  obtain ⟨b, b1, b2⟩ := h4 k k0 k1
  exact ⟨b, b1, s _ _ b2⟩
theorem ToI.fr (h : ToI x H T) (e : jm H2 (x + 38) = jm H (x + 38)) : ToI x H2 T := by
  obtain ⟨h0, gt, h1, h2⟩ := h
  exact ⟨h0, gt, e.trans h1, h2⟩
theorem FcW.lt {u : Nat} (h : FcW x u) : x ≤ u ∧ u < x + 132 := by
  unfold FcW StP PlP at h
  rcases h with h | h | h | h | h | h | h | h | h | h | h | h | h | ⟨k, k1, h⟩ <;> omega
theorem FcW.no39 : ¬ FcW x (x + 39) := by
  intro h
  unfold FcW StP PlP at h
  rcases h with h | h | h | h | h | h | h | h | h | h | h | h | h | ⟨k, k1, h⟩ <;> omega
/-- what the face writes moves no fact that stands -/
theorem bf_sub (fr : Fr H H2 P) (hP : ∀ z, P z → FcW x z) : Sub (Fz (FcW x) H) (Fz (FcW x) H2) := Fz_sub fr fun z _ h => hP z h
theorem KpI.fr {k : Nat} (h : KpI x H T k) (fr : Fr H H2 P) (hP : ∀ z, P z → FcW x z) (h1 : ¬ P (x + 40 + 10 * k)) (h2 : ∀ z, StP (x + 41 + 10 * k) z → ¬ P z) (hx : x + 132 ≤ H.1) (hk : k < 2) : KpI x H2 T k := by
  obtain ⟨qv, sv, k1, k2, k3, k4⟩ := h
  have sb := bf_sub (x := x) fr hP
  refine ⟨qv, sv, (fr.2.2 _ (by omega) h1).trans k1, k2, k3.fr fr h2, ?_⟩
  rcases k4 with k4 | ⟨a1, q, a2, a3, a4, a5, a6⟩
  · exact Or.inl k4
  · exact Or.inr ⟨a1, q, a2, a3.sub sb, a4.fr fr h2 (fun z _ hz => hP z hz), a5, a6.sub sb⟩
theorem BeI.fr (h : BeI x H T sc) (fr : Fr H H2 P) (hP : ∀ z, P z → FcW x z) (h1 : ¬ P (x + 35)) (h2 : ∀ k z, k < 8 → StP (x + 60 + 9 * k) z → ¬ P z) (hx : x + 132 ≤ H.1) (h44 : T 0 44 ≤ 8) : BeI x H2 T sc := by
  obtain ⟨fb, bp, a1, a2, a3, a4, a5⟩ := h
  refine ⟨fb, bp, (fr.2.2 _ (by omega) h1).trans a1, a2, a3, fun k hk => (a4 k hk).fr fr (fun z => h2 k z hk), fun k hk => ?_⟩
  obtain ⟨b1, b2⟩ := a5 k hk
  exact ⟨b1.fr fr (fun z => h2 (bp k) z (a2 k (by omega)).1) (fun z _ hz => hP z hz), b2⟩
theorem PlI.fr (h : PlI x H T) (fr : Fr H H2 P) (hp : ∀ z, PlP (x + 25) z → ¬ P z) : PlI x H2 T := by
  obtain ⟨a, wl, g, w, D, h1, h2⟩ := h
  exact ⟨a, wl, g, w, D, h1.fr fr hp, h2⟩
theorem st_far {k : Nat} (h : StP (x + k) a) : x + k ≤ a ∧ a ≤ x + k + 7 := by unfold StP at h; omega
/-- what is tried moves nothing else -/
theorem FaceQ.fr (h : FaceQ x H T sc sen ver vl tg) (fr : Fr H H2 P) (hP : ∀ z, P z → z = x ∨ z = x + 1 ∨ StP (x + 16) z ∨ PlP (x + 30) z) (hx : x + 132 ≤ H.1) (h44 : T 0 44 ≤ 8) : FaceQ x H2 T sc sen ver vl tg := by
  obtain ⟨h1, h2, h3, h4, h5, h6, h7, h8, h9, h10, h11, h12, ⟨fk, h13, h14⟩, h15, h16⟩ := h
  have hB : ∀ z, P z → FcW x z := fun z hz => by
    unfold FcW
    rcases hP z hz with e | e | e | e
    · exact Or.inl e
    · exact Or.inr (Or.inl e)
    · exact Or.inr (Or.inr (Or.inr (Or.inl e)))
    · exact Or.inr (Or.inr (Or.inr (Or.inr (Or.inr (Or.inl e)))))
  have sb := bf_sub (x := x) fr hB
  have far : ∀ z, P z → z = x ∨ z = x + 1 ∨ (x + 16 ≤ z ∧ z ≤ x + 23) ∨ (x + 30 ≤ z ∧ z ≤ x + 34) := fun z hz => by
    have := hP z hz
    unfold StP PlP at this
    omega
  have no : ∀ z, (∀ w, P w → z ≠ w) → ¬ P z := fun z hz hp => hz z hp rfl
  refine ⟨by rw [fr.2.1]; exact h1.sub sb, by rw [fr.2.1]; exact h2.sub sb, h3.sub sb, h4.fr fr (fun z hz hp => by have := far z hp; unfold StP at hz; omega) (fun z _ hp => hB z hp), h5.fr fr (fun z hz hp => by have := far z hp; unfold PlP at hz; omega), h6.sub sb, h7.fr fr hB (fun hp => by have := far _ hp; omega) (fun k z hk hz hp => by have := far z hp; unfold StP at hz; omega) hx h44, h8.sub sb, h9.sub sb, h10.fr sb (fr.2.2 _ (by omega) fun hp => by have := far _ hp; omega), h11.sub sb, h12.fr (fr.2.2 _ (by omega) fun hp => by have := far _ hp; omega), ⟨fk, sb _ _ h13, h14⟩, h15.fr fr hB (fun hp => by have := far _ hp; omega) (fun z hz hp => by have := far z hp; unfold StP at hz; omega) hx (by omega), h16.fr fr hB (fun hp => by have := far _ hp; omega) (fun z hz hp => by have := far z hp; unfold StP at hz; omega) hx (by omega)⟩
/-- what is new moves nothing -/
theorem FaceI.no (h : FaceI x H T) (fr : Fr H H2 (fun _ => False)) (h44 : T 0 44 ≤ 8) : FaceI x H2 T := by
  obtain ⟨sc, sen, ver, vl, tg, seed, ⟨o1, o2, o3⟩, h1, h2, h3, h4⟩ := h
  refine ⟨sc, sen, ver, vl, tg, seed, ⟨Nat.le_trans o1 fr.1, (fr.2.2 _ (by omega) fun z => z).trans o2, o3⟩, (fr.2.2 _ (by omega) fun z => z).trans h1, h2.fr fr (fun _ _ z => z), h3.fr fr (fun _ _ z => z), h4.fr fr (fun z hz => hz.elim) o1 h44⟩
/-- ints of the twin's that tell the same -/
def TwE (T T' : Nat → Int → Int) : Prop := (∀ k, (k = 1 ∨ k = 2 ∨ (15 ≤ k ∧ k ≤ 20) ∨ k = 22 ∨ k = 24 ∨ k = 25 ∨ (29 ≤ k ∧ k ≤ 31)) → T' k = T k) ∧ (∀ i : Int, (i = 2 ∨ i = 16 ∨ i = 41 ∨ i = 42 ∨ i = 44 ∨ i = 48 ∨ i = 50 ∨ i = 55) → T' 0 i = T 0 i) ∧ ∀ i, 0 ≤ i → i < 20 → T' 6 i = T 6 i
theorem SchF.cgn (h : SchF F q S nm) (n0 : S 0 ≤ 4) (n4 : ∀ t, 0 ≤ t → t < 4 → S (4 + t) ≤ 4) (e : ∀ i, 0 ≤ i → i < 20 → nm' i = nm i) : SchF F q S nm' := by
  obtain ⟨ln, qt, qk, qr, qc, h1, h2, h3⟩ := h
  refine ⟨ln, qt, qk, qr, qc, h1, h2.cg fun t b t0 t1 hb => ?_, h3⟩
  obtain ⟨qn, qcs, qd, qb, b1, ⟨s, b2, b3, b4⟩, b5, b6⟩ := hb
  have := n4 t t0 (by omega)
  exact ⟨qn, qcs, qd, qb, b1, ⟨s, b2, b3, by rw [e t t0 (by omega)]; exact b4⟩, b5.cg fun c u c0 c1 ⟨s, k1, k2, k3⟩ => ⟨s, k1, k2, by rw [e _ (by omega) (by omega)]; exact k3⟩, b6⟩
theorem pkZ_cgn {w : Int} (W : ScW S) (e : ∀ i, 0 ≤ i → i < 20 → nm' i = nm i) : pkZ S nm' w = pkZ S nm w := by
  have key : ∀ (j : Nat) (t : Int), 0 ≤ t → t + j ≤ 4 → pkR S nm' w j t = pkR S nm w j t := by
    intro j
    induction j with
    | zero => intro t _ _; rfl
    | succ j ih =>
      intro t t0 t4
      show (skZ S nm' w t + 1) * p8 t + pkR S nm' w j (t + 1) = (skZ S nm w t + 1) * p8 t + pkR S nm w j (t + 1)
      rw [ih (t + 1) (by omega) (by omega)]
      have := W.2 t t0 (by omega)
      have : skZ S nm' w t = skZ S nm w t := by
        unfold skZ
        exact fnd_cg _ _ fun i i0 i1 => by rw [e (4 + 4 * t + i) (by omega) (by omega)]
      rw [this]
  have := W.1
  unfold pkZ
  exact key _ 0 (by omega) (by omega)
theorem LfO.cgn {b : Nat} {c : Cd} (W : ScW S) (h : LfO F S nm b c) (e : ∀ i, 0 ≤ i → i < 20 → nm' i = nm i) : LfO F S nm' b c := by
  rcases h with h | h | ⟨u, bs, h1, h2, h3, h4⟩
  · exact Or.inl h
  · exact Or.inr (Or.inl h)
  · exact Or.inr (Or.inr ⟨u, bs, h1, h2, h3, by rw [pkZ_cgn W e]; exact h4⟩)
theorem CondF.cgn (W : ScW S) (e : ∀ i, 0 ≤ i → i < 20 → nm' i = nm i) : ∀ (n : Nat) {b : Nat} {x : List Cd}, CondF F S nm n b x → CondF F S nm' n b x := by
  intro n
  induction n with
  | zero => intro b x h; exact h.elim
  | succ n ih =>
    intro b x h
    rcases h with ⟨c, h1, h2⟩ | ⟨b1, x1, h1, h2, h3⟩ | ⟨b1, b2, x1, x2, v, h1, h2, h3, h4, h5⟩
    · exact Or.inl ⟨c, h1, h2.cgn W e⟩
    · exact Or.inr (Or.inl ⟨b1, x1, h1, h2, ih h3⟩)
    · exact Or.inr (Or.inr ⟨b1, b2, x1, x2, v, h1, h2, h3, ih h4, ih h5⟩)
theorem WfC.cgn (W : ScW S) (e : ∀ i, 0 ≤ i → i < 20 → nm' i = nm i) : ∀ (cs : List Cd) (n : Nat), WfC S nm cs n → WfC S nm' cs n := by
  intro cs
  induction cs with
  | nil => intro n h; exact h
  | cons c cs ih =>
    intro n h
    have lf : LfW S nm c → LfW S nm' c := fun h => by
      rcases h with h | ⟨h | ⟨w, h1, h2⟩, h3⟩
      · exact Or.inl h
      · exact Or.inr ⟨Or.inl h, h3⟩
      · exact Or.inr ⟨Or.inr ⟨w, by rw [pkZ_cgn W e]; exact h1, by rw [pkZ_cgn W e]; exact h2⟩, h3⟩
    show if c.1 = 20 then 1 ≤ n ∧ WfC S nm' cs n else if c.1 = 21 ∨ c.1 = 22 then 2 ≤ n ∧ WfC S nm' cs (n - 1) else LfW S nm' c ∧ WfC S nm' cs (n + 1)
    have h : if c.1 = 20 then 1 ≤ n ∧ WfC S nm cs n else if c.1 = 21 ∨ c.1 = 22 then 2 ≤ n ∧ WfC S nm cs (n - 1) else LfW S nm c ∧ WfC S nm cs (n + 1) := h
    split
    · rename_i c1
      rw [if_pos c1] at h
      exact ⟨h.1, ih _ h.2⟩
    · rename_i c1
      rw [if_neg c1] at h
      split
      · rename_i c2
        rw [if_pos c2] at h
        exact ⟨h.1, ih _ h.2⟩
      · rename_i c2
        rw [if_neg c2] at h
        exact ⟨lf h.1, ih _ h.2⟩
theorem SenI.cgn (W : ScW S) (h : SenI F sen S nm) (e : ∀ i, 0 ≤ i → i < 20 → nm' i = nm i) : SenI F sen S nm' := by
  rcases h with h | ⟨sb, cds, h1, h2, h3, h4, h5⟩
  · exact Or.inl h
  · exact Or.inr ⟨sb, cds, h1, h2, h3, WfC.cgn W e _ _ h4, CondF.cgn W e _ h5⟩
theorem FaceQ.tw (h : FaceQ x H T sc sen ver vl tg) (W : StW (T 2)) (e : TwE T T') : FaceQ x H T' sc sen ver vl tg := by
  obtain ⟨h1, h2, h3, h4, h5, h6, h7, h8, h9, h10, h11, h12, h13, h15, h16⟩ := h
  obtain ⟨e1, e2, e3⟩ := e
  have N := W.n0
  have i20 : ∀ k, imS T' k = imS T k := fun k => by funext i; unfold imS; rw [e1 2 (by omega), e1 20 (by omega)]
  have k29 : ∀ k, kpS T' k = kpS T k := fun k => by funext i; unfold kpS; rw [e1 29 (by omega)]
  have k30 : ∀ k, kpN T' k = kpN T k := fun k => by funext i; unfold kpN; rw [e1 30 (by omega)]
  refine ⟨h1, h2, by rw [e1 2 (by omega)]; exact h3.cgn N.1.2 (fun t t0 t1 => (W.co t0 t1).2) e3, by rw [e1 2 (by omega)]; exact h4, ?_, by rw [e1 2 (by omega)]; exact h6.cgn W.sc e3, ?_, ?_, ?_, ?_, ?_, ?_, h13, ?_, ?_⟩
  · unfold PlI; rw [e2 42 (by omega), e1 16 (by omega)]; exact h5
  · unfold BeI
    rw [e2 44 (by omega)]
    simp only [i20]
    exact h7
  · unfold VdI; rw [e2 42 (by omega), e1 15 (by omega)]; exact h8
  · unfold VlI; rw [e2 41 (by omega), e1 17 (by omega), e1 18 (by omega), e1 19 (by omega)]; exact h9
  · unfold OrI; rw [e2 48 (by omega), e1 22 (by omega)]; exact h10
  · unfold TgI; rw [e2 50 (by omega), e1 24 (by omega)]; exact h11
  · unfold ToI; rw [e2 55 (by omega), e1 25 (by omega)]; exact h12
  · unfold KpI; rw [e1 31 (by omega), k29, k30]; exact h15
  · unfold KpI; rw [e1 31 (by omega), k29, k30]; exact h16
theorem FaceI.tw (h : FaceI x H T) (W : StW (T 2)) (e : TwE T T') : FaceI x H T' := by
  obtain ⟨sc, sen, ver, vl, tg, seed, ⟨o1, o2, o3⟩, h1, h2, h3, h4⟩ := h
  refine ⟨sc, sen, ver, vl, tg, seed, ⟨o1, ?_, o3⟩, by rw [e.1 1 (by omega)]; exact h1, h2, h3, h4.tw W e⟩
  rw [e.2.1 2 (by omega), e.2.1 16 (by omega), e.2.1 44 (by omega)]
  exact o2
theorem TwE.s0 {v : Int} : TwE T (ts T 0 0 v) := ⟨fun k hk => ts_ne (by omega), fun i hi => by rw [ts_eq, fset_ne (by omega)], fun i _ _ => by rw [ts_ne (by decide)]⟩
theorem TwI.s0 {v : Int} (h : TwI T) : TwI (ts T 0 0 v) := by
  obtain ⟨⟨c1, c2, c3, c4, c5⟩, ⟨b1, b2, b3⟩, h3, h4, h5, h6, h7⟩ := h
  have e : ∀ k : Nat, k ≠ 0 → ts T 0 0 v k = T k := fun k hk => ts_ne hk
  have z : ∀ i : Int, i ≠ 0 → ts T 0 0 v 0 i = T 0 i := fun i hi => by rw [ts_eq, fset_ne hi]
  refine ⟨⟨by rw [e 1 (by decide)]; exact c1, fun k hk => by rw [e 7 (by decide)]; exact c2 k hk, fun i => by rw [e 6 (by decide)]; exact c3 i, by rw [z 2 (by decide)]; exact c4, by rw [z 2 (by decide)]; exact c5⟩, ⟨by rw [e 2 (by decide)]; exact b1, by rw [e 12 (by decide)]; exact b2, by rw [z 35 (by decide)]; exact b3⟩, by rw [z 44 (by decide)]; exact h3, by rw [z 42 (by decide)]; exact h4, by rw [e 16 (by decide)]; exact h5, by rw [e 30 (by decide)]; exact h6, by rw [e 31 (by decide)]; exact h7⟩
end
