/-! a statement is done: the whole -/
-- jc_ref, rI_int, rR_ref, rR_null, rJ_long, ckR_ref, ckR_null, ckr_ref, ckr_null, ckW_int, ckW_ref, ckW_null, cI_ok, cR_ok, cR_null, cV_ok, cJ_ok, qH_eq, qD_in, aG_ref, aS_ref, aL_ref, pF_ref, cK_ref, cK_null, zI_lit, zJ_lit, zI_add, zI_sub, zI_mul, zI_neg, zI_eq, zI_lt, zI_le, Int.reduceLT, Int.reduceLE, Int.reduceAdd, Int.reduceSub, Int.reduceMul, Int.reduceNeg, Int.reduceEq, Int.reduceNe, reduceIte, jf_in, pFc_in, aGi, aGb, aSi, aLc_in, cKc_in, nA_in, jm_s1, jm_s2, jm_p1, jm_p2, jm_b, jn_b, jn_s, jn_p, jset_jset, jset_jpush2, ckR_is, ckr_is, rR_is, ckW_is, cR_is, obi2, ckW_int, eq_self, if_true, ref_null, if_false, ne_eq, not_true_eq_false, not_false_eq_true, decide_true, decide_false, decide_not, Bool.true_and, Bool.false_and, Bool.and_true, Bool.and_false, Bool.true_or, Bool.false_or, Bool.or_true, Bool.or_false, Bool.not_true, Bool.not_false, Bool.false_eq_true, bI_t, bI_f, Int.natCast_one, Int.cast_ofNat_Int, Int.natCast_zero, o23_0, o23_1, o23_2, n23, o23s_0, o23s_1, o23s_2, o12_0, o12_1, o13_0, o13_1, o13_2, o13_3, o13_4, o13_5, o13_6, o14_0, o14_1, o14_2, o14_3, o14_4, o14_5, o3_0, o3_1, o3_2, o3_3, o3_4, o11_0, o11_1, o11_2, o11_3, o4_0, o4_1, o4_2, o4_3, o4_4, o4_5, o4_6, n4, o4s_0, o4s_1, o4s_2, o4s_3, o4s_4, o4s_5, o4s_6, o5_0, o5_1, o5_2, o5_3, o5_4, o5_5, n5, o5s_0, o5s_1, o5s_2, o5s_3, o5s_4, o5s_5, o17_0, o17_1, o22_0, o22_1, o22_2, o22_3, o22_4, o22_5, n22, o22s_0, o22s_1, o22s_2, o22s_3, o22s_4, o22s_5, o47_0, o47_1, o47_2, o47_3, n47, o47s_0, o47s_1, o47s_2, o47s_3, o24_0, o24_1, o24_2, o24_3 = jc_ref, rI_int, rR_ref, rR_null, rJ_long, ckR_ref, ckR_null, ckr_ref, ckr_null, ckW_int, ckW_ref, ckW_null, cI_ok, cR_ok, cR_null, cV_ok, cJ_ok, qH_eq, qD_in, aG_ref, aS_ref, aL_ref, pF_ref, cK_ref, cK_null, zI_lit, zJ_lit, zI_add, zI_sub, zI_mul, zI_neg, zI_eq, zI_lt, zI_le, Int.reduceLT, Int.reduceLE, Int.reduceAdd, Int.reduceSub, Int.reduceMul, Int.reduceNeg, Int.reduceEq, Int.reduceNe, reduceIte, jf_in, pFc_in, aGi, aGb, aSi, aLc_in, cKc_in, nA_in, jm_s1, jm_s2, jm_p1, jm_p2, jm_b, jn_b, jn_s, jn_p, jset_jset, jset_jpush2, ckR_is, ckr_is, rR_is, ckW_is, cR_is, obi2, ckW_int, eq_self, if_true, ref_null, if_false, ne_eq, not_true_eq_false, not_false_eq_true, decide_true, decide_false, decide_not, Bool.true_and, Bool.false_and, Bool.and_true, Bool.and_false, Bool.true_or, Bool.false_or, Bool.or_true, Bool.or_false, Bool.not_true, Bool.not_false, Bool.false_eq_true, bI_t, bI_f, Int.natCast_one, Int.cast_ofNat_Int, Int.natCast_zero, o23_0, o23_1, o23_2, n23, o23s_0, o23s_1, o23s_2, o12_0, o12_1, o13_0, o13_1, o13_2, o13_3, o13_4, o13_5, o13_6, o14_0, o14_1, o14_2, o14_3, o14_4, o14_5, o3_0, o3_1, o3_2, o3_3, o3_4, o11_0, o11_1, o11_2, o11_3, o4_0, o4_1, o4_2, o4_3, o4_4, o4_5, o4_6, n4, o4s_0, o4s_1, o4s_2, o4s_3, o4s_4, o4s_5, o4s_6, o5_0, o5_1, o5_2, o5_3, o5_4, o5_5, n5, o5s_0, o5s_1, o5s_2, o5s_3, o5s_4, o5s_5, o17_0, o17_1, o22_0, o22_1, o22_2, o22_3, o22_4, o22_5, n22, o22s_0, o22s_1, o22s_2, o22s_3, o22s_4, o22s_5, o47_0, o47_1, o47_2, o47_3, n47, o47s_0, o47s_1, o47s_2, o47s_3, o24_0, o24_1, o24_2, o24_3
section
variable {B : Nat → Prop} {T : Nat → Int → Int} {d : Nat} {H H3 : AH} {a b p q vb wm ll : Nat} {to : Int} {nm : Int → Int} {ra rb : Int → Nat} {wl wl2 : Nat} {g bs : Nat → Bool} {w : WS} {D : Int → Int} {l1 l2 l3 lr : List Value} {mo cl : Int}
theorem judT_full (e : T 5 to = 0 ∧ (cntA (T 2) 150 99 0 = 40 ∨ T 2 148 = 99)) : judT T to = (6, jd3 T) := by unfold judT; rw [if_pos e]
theorem judT_cl (e : ¬ (T 5 to = 0 ∧ (cntA (T 2) 150 99 0 = 40 ∨ T 2 148 = 99))) (c : jdT T to 0 34 = 1) : judT T to = (5, jdT T to) := by unfold judT; rw [if_neg e, if_neg (by omega)]
theorem judT_ok (e : ¬ (T 5 to = 0 ∧ (cntA (T 2) 150 99 0 = 40 ∨ T 2 148 = 99))) (c : jdT T to 0 34 = 0) : judT T to = jdE (jdD (jdT T to) to) := by unfold judT; rw [if_neg e, if_pos c]
theorem GS.gog {Go : Int → Int} (h : GS g D) (e : ∀ r, 0 ≤ r → r < 99 → D r = Go r) : GoG Go g := fun r r0 r1 => by rw [(h.1 r r0 r1).1, e r r0 r1]
theorem goC_cg {D E : Int → Int} : ∀ (j : Nat) (k : Int), (∀ r, k ≤ r → r < k + j → D r = E r) → goC D j k = goC E j k
  | 0, _, _ => rfl
  | j + 1, k, h => by
    simp only [goC]
    rw [h k (Int.le_refl _) (by omega), goC_cg j (k + 1) fun r a b => h r (by omega) (by omega)]
/-- the twin's end tells what the component tells -/
theorem jdE_nil {Y : Nat → Int → Int} (h : jdV Y = []) : jdE Y = (0, layL (ts Y 0 26 0) (jdV Y)) := by unfold jdE; rw [if_pos (by rw [h]; rfl)]
theorem jdE_cons {Y : Nat → Int → Int} (h : jdV Y ≠ []) : jdE Y = (layL (ts Y 0 26 0) (jdV Y) 8 0, tg (layL (ts Y 0 26 0) (jdV Y)) 2 (bl 148 1239 (fun x => Y 14 (x - 148)) (Y 2))) := by unfold jdE; rw [if_neg (fun z => h (List.length_eq_zero_iff.mp z))]
theorem lay_0 {Y : Nat → Int → Int} {V : List Vi} {i : Int} (h : i ≠ 26) : layL (ts Y 0 26 0) V 0 i = Y 0 i := by rw [layL_0 h, ts_eq, fset_ne h]
theorem goC_no : ∀ (j : Nat) (k : Int), goC (fun _ => -1) j k = 0
  | 0, _ => rfl
  | j + 1, k => by
    simp only [goC]
    rw [goC_no j (k + 1), if_pos (by decide)]; rfl
theorem isOth_no {S : Int → Int} {w : WS} {q c : Int} (h : w.1 (4 * q + c) = -9) : isOth S w q c = false := by unfold isOth; rw [h]; rfl
theorem chgL_no {S : Int → Int} {w : WS} {g : Nat → Bool} (W : StW S) (h : ∀ i, 0 ≤ i → i < 396 → w.1 i = -9) : ∀ (s : List Int), (∀ x ∈ s, 0 ≤ x ∧ x < 99) → chgL S g w s = 0
  | [], _ => rfl
  | x :: s, hs => by
    have hx := hs x List.mem_cons_self
    have TA := W.ta hx.1 hx.2
    have CO := W.co TA.1 TA.2
    have key : ∀ (j : Nat) (k : Int), 0 ≤ k → k + j ≤ 4 → anyF (fun c => isOth S w x c) j k = false := by
      intro j
      induction j with
      | zero => intro k _ _; rfl
      | succ j ih => intro k k0 hk; simp only [anyF]; rw [isOth_no (h _ (by omega) (by omega)), ih (k + 1) (by omega) (by omega)]; rfl
    have hc : chB S w x = false := key _ 0 (Int.le_refl _) (by omega)
    simp only [chgL]
    rw [hc, if_neg (fun z => by cases z.2), chgL_no W h s fun y hy => hs y (List.mem_cons_of_mem _ hy)]
    rfl
/-- nothing is found: nothing goes, and nothing is wanted -/
theorem jdT_ins (W : StW (T 2)) (h35 : T 0 35 = 0 ∨ T 0 35 = 1) (hA : AhW (T 12)) (L : LnW (T 2) (T 5) to) (h0 : T 5 to = 0) : (∀ r, 0 ≤ r → r < 99 → jdT T to 13 r = -1) ∧ (∀ i, 0 ≤ i → i < 396 → (wsT (jdT T to)).1 i = -9) ∧ jdT T to 0 34 = 0 := by
  have fe : fndA T to = [] := by unfold fndA; rw [if_pos h0]
  have bf := jdT_bfs (to := to) W
  have sp : ∀ r, 0 ≤ r → r < 99 → jdT T to 13 r = -1 := fun r r0 r1 => by
    rcases Int.lt_or_le (jdT T to 13 r) 0 with h | h
    · have := (bf.1 r r0 r1).1; omega
    · have key : ∀ (n : Nat) (r : Int), 0 ≤ r → r < 99 → jdT T to 13 r = n → False := by
        intro n
        induction n with
        | zero =>
          intro r r0 r1 hr
          have al : AlS (T 2) r := ⟨r0, r1, Decidable.byContradiction fun z => by have := (bf.1 r r0 r1).2 z; omega⟩
          obtain ⟨q, -, q2, q3⟩ := bf.2.2.1 r al (by rw [fe]; exact fun z => by cases z.2) (by omega)
          omega
        | succ n ih =>
          intro r r0 r1 hr
          have al : AlS (T 2) r := ⟨r0, r1, Decidable.byContradiction fun z => by have := (bf.1 r r0 r1).2 z; omega⟩
          obtain ⟨q, q1, q2, q3⟩ := bf.2.2.1 r al (by rw [fe]; exact fun z => by cases z.2) (by omega)
          exact ih q q1.al.1 q1.al.2.1 (by omega)
      exact absurd (key (jdT T to 13 r).toNat r r0 r1 (by omega)) id
  have hG : GoG (jdT T to 13) (fun _ => false) := fun r r0 r1 => by rw [sp r r0 r1]; rfl
  obtain ⟨l0, -, -⟩ := jdT_lst W h35 hA L hG
  have c3 : (setL (T 5) to (fndA T to) (wsT (jd3 T))).2.1 = 0 := by
    rw [fe]
    show jd3 T 0 34 = 0
    rw [jd3_f, if_pos (by decide)]
  obtain ⟨-, l2, -⟩ := l0 c3
  have cl : ClsW (T 2) (fun _ => false) (fun _ => -9) := fun r f r0 r1 h1 _ f0 f1 q0 => by
    unfold Rul
    refine ⟨fun z => by simp at z, fun _ hm => ?_⟩
    unfold movW at hm
    rw [isOth_no rfl, isOth_no rfl] at hm
    simp at hm
  have su : SupW (setL (T 5) to (fndA T to) (wsT (jd3 T))) (fun _ => -9) := fun i i0 i1 _ => by
    rw [fe]
    exact jd3_11' i0 i1
  obtain ⟨m1, m2⟩ := l2 _ cl su
  refine ⟨sp, fun i i0 i1 => Decidable.byContradiction fun z => z (m2 i i0 i1 z), m1⟩
theorem doR_no (W : StW (T 2)) (h35 : T 0 35 = 0 ∨ T 0 35 = 1) (hA : AhW (T 12)) (L : LnW (T 2) (T 5) to) (h0 : T 5 to = 0) : doR (wsT (jdT T to)) (jdT T to 13) 99 0 (T 2, 0) = (T 2, 0) := by
  obtain ⟨s1, s2, -⟩ := jdT_ins W h35 hA L h0
  have hG : GoG (jdT T to 13) (fun _ => false) := fun r r0 r1 => by rw [s1 r r0 r1]; rfl
  obtain ⟨i1, i2, i3, i4⟩ := doR_at (w := wsT (jdT T to)) W hG 99 0 (T 2, 0) (Int.le_refl _) rfl (fun i _ => rfl)
  refine Prod.ext (funext fun i => ?_) ?_
  · rcases (by omega : (i < 150 + 0 ∨ (249 ≤ i ∧ i < 348 + 4 * 0) ∨ 744 ≤ i) ∨ (150 ≤ i ∧ i < 249) ∨ (348 ≤ i ∧ i < 744)) with hi | hi | hi
    · exact i1 i hi
    · have := i2 (i - 150) (by omega) (by omega)
      rw [if_neg (by decide), show 150 + (i - 150) = i by omega] at this
      exact this
    · have := i3 ((i - 348) / 4) ((i - 348) % 4) (by omega) (by omega) (by omega) (by omega)
      rw [isOth_no (s2 _ (by omega) (by omega)), if_neg (fun z => by cases z.2.2.2), show 348 + 4 * ((i - 348) / 4) + (i - 348) % 4 = i by omega] at this
      exact this
  · rw [i4, chgL_no W s2 _ fun x hx => by have := (alv_mem 99 0 x).mp hx; omega]
    rfl
/-- the end of both ways -/
theorem do_tail {Y : Nat → Int → Int} {tou : Int} (hBa : ∀ z, StP a z → B z) (hBp : ∀ z, PlP p z → B z) (hBl : ∀ z, B z → z < H.1) (hS : SchF (Fz B H) q (T 2) nm) (W : StW (T 2)) (W2 : StW (Y 2)) (eo : ∀ i, i < 148 ∨ i = 149 ∨ 1239 ≤ i → Y 2 i = T 2 i) (e14 : ∀ i, 0 ≤ i → i < 1091 → Y 14 i = T 2 (148 + i))
    (hSH : SH H3 a (.ref q) (Y 2 148) (Y 2 149) lr l2 l1 wm bs) (hRo2 : RowsF (Fz B H3) lr (Y 2) 150 348 rb) (hRo : RowsF (Fz B H) l1 (T 2) 150 348 ra) (hv : VdH H3 H.1 0 (Y 0 31) (Y 0 32) (Y 0 33) tou ll) (htou : tou = Y 0 32 + Y 0 33 + (if T 5 to = 0 then 1 else 0))
    (hp : PH H3 p a wl2 g w D) (hG : GS g D) (hD : ∀ r, 0 ≤ r → r < 99 → D r = Y 13 r) (fr : Fr H H3 (fun z => StP a z ∨ PlP p z)) (c1 : H3.1 + (2 - wl2) ≤ H.1 + 88 + (2 - wl)) (c2 : H3.2.1 + 2 * (2 - wl2) ≤ H.2.1 + 430 + 2 * (2 - wl)) (hap : a + 8 < p ∨ p + 4 < a) :
    ∃ H4, G2 (d + 14) 16000 59 [.ref b, .ref a, .ref p, .ref H.1, .int (zI (T 2 148))] [.int (zI (bZ (decide (Y 2 149 = 0)))), .ref a, .ref H.1] H3 = some (.inl (some (.ref H.1)), H4) ∧ DoO B T to H H4 a p q l2 wl wm bs (jdE Y).1 (jdE Y).2 := by
  have hle := alv_le W
  have hl1 : l1.length ≤ 40 := by rw [rows_len hRo]; exact hle
  have hva : ¬ StP a H.1 := fun z => by have := hBl _ (hBa _ z); omega
  have hvp : ¬ PlP p H.1 := fun z => by have := hBl _ (hBp _ z); omega
  have bb : ∀ z, StP a z ∨ PlP p z → B z := fun z hz => hz.elim (hBa z) (hBp z)
  have sub3 : Sub (Fz B H) (Fz B H3) := Fz_sub fr fun z _ hz => bb z hz
  have hF3 : Fzn (Fz B H) H3 := Fz_F.fr fr fun z hz => Fz_out (bb z hz)
  obtain ⟨H4, x1, x2, x3, x4, x5, x6, x7⟩ := do_59 (d := d) (B := B) (b := b) (x8 := T 2 148) (vp := .ref p) rfl W2 ((hS.sub sub3).cg W fun i i0 i1 => eo i (Or.inl i1)) hSH hRo2 (RwL.of hRo hF3 hl1) hv hva
  have fr4 : Fr H H4 (fun z => StP a z ∨ PlP p z) := fr.new (x3.mono fun z _ hz => by
    rcases hz with hz | hz | hz
    · exact Or.inr (by omega)
    · exact Or.inl (Or.inl (by unfold StP; omega))
    · exact Or.inl (Or.inl (by unfold StP; omega)))
  have hp4 := hp.fr x3 fun z hz h2 => by
    rcases h2 with h2 | h2 | h2
    · exact hvp (h2 ▸ hz)
    · unfold PlP at hz; omega
    · unfold PlP at hz; omega
  have l3 : H.1 ≤ H3.1 := fr.1
  have lo4 : VLat (Y 2) H4 H.1 H3.1 (violS (Y 2) (decide (Y 2 149 = 0))) := by
    obtain ⟨ns, vs, y1, ⟨y2, y3⟩, y4, y5, y6⟩ := x2
    refine ⟨ns, vs, y1, ⟨by omega, y3⟩, fun z hz => by have := y4 z hz; omega, y5, fun i x hx => ?_⟩
    obtain ⟨bv, z1, z2, z3, z4⟩ := y6 i x hx
    exact ⟨bv, z1, z2, by omega, z4⟩
  have sub4 : Sub (Fz B H) (Fz B H4) := Fz_sub fr4 fun z _ hz => bb z hz
  have cg : ∀ z c, Fz B H3 z = some c → c.1 ≠ 22 → Fz B H4 z = some c := fun z c hz hc => by
    obtain ⟨u1, u2⟩ := Fz_lt hz
    have m := Fz_F.m hz
    refine Fz_in (Nat.lt_of_lt_of_le u1 x3.1) u2 ((x3.2.2 z u1 fun h2 => ?_).trans m)
    rcases h2 with h2 | h2 | h2
    · subst h2; rw [hv.1] at m; cases m; exact hc rfl
    · exact u2 (hBa z (by unfold StP; omega))
    · exact u2 (hBa z (by unfold StP; omega))
  have hRo4 : RowsF (Fz B H4) lr (Y 2) 150 348 rb := ⟨hRo2.1, fun r r0 r1 h1 => by
    obtain ⟨e, gg, m1, m2, m3⟩ := hRo2.2 r r0 r1 h1
    exact ⟨e, gg, cg _ _ m1 (by show (23 : Nat) ≠ 22; decide), cg _ _ m2 (by show (1000 : Nat) ≠ 22; decide), m3⟩⟩
  have hV : jdV Y = violS (Y 2) (decide (Y 2 149 = 0)) := rfl
  refine ⟨H4, x1, ?_⟩
  rw [← hV] at x4 x5 x6 x7 lo4
  by_cases hn : jdV Y = []
  · obtain ⟨y1, y2⟩ := x6 hn
    rw [jdE_nil hn]
    show DoO B T to H H4 a p q l2 wl wm bs 0 (layL (ts Y 0 26 0) (jdV Y))
    have k2 : layL (ts Y 0 26 0) (jdV Y) 2 = Y 2 := by rw [layL_k (by decide), ts_ne (by decide)]
    have k13 : layL (ts Y 0 26 0) (jdV Y) 13 = Y 13 := by rw [layL_k (by decide), ts_ne (by decide)]
    refine ⟨H3.1, tou, Y 2, jdV Y, wl2, g, w, D, lr, l1, rb, fr4, ?_, fun _ => ?_, lo4, lay_vio, hp4, hG, fun r r0 r1 => by rw [k13]; exact hD r r0 r1, ?_, ?_, hl1, by omega, by omega⟩
    · rw [lay_0 (by decide), lay_0 (by decide), lay_0 (by decide), if_neg (by decide)]
      exact y1
    · rw [lay_0 (by decide), lay_0 (by decide)]; exact htou
    · rw [k2]; exact y2
    · rw [k2]; exact hRo4
  · rw [jdE_cons hn]
    obtain ⟨x, V', hV'⟩ : ∃ x V', jdV Y = x :: V' := by
      cases hc : jdV Y with
      | nil => exact absurd hc hn
      | cons x V' => exact ⟨x, V', rfl⟩
    obtain ⟨y1, y2⟩ := x7 x V' hV'
    have e8 : layL (ts Y 0 26 0) (jdV Y) 8 0 = x.1 := (lay_vio.2 0 x (by rw [hV']; rfl)).1
    have rgx := ((mem_viol W2).mp (show x ∈ violS (Y 2) (decide (Y 2 149 = 0)) from hV ▸ hV' ▸ List.mem_cons_self)).rg W2
    have k2 : tg (layL (ts Y 0 26 0) (jdV Y)) 2 (bl 148 1239 (fun x => Y 14 (x - 148)) (Y 2)) 2 = T 2 := by
      rw [tg_eq]
      funext i
      unfold bl
      by_cases hi : 148 ≤ i ∧ i < 1239
      · rw [if_pos hi]
        show Y 14 (i - 148) = T 2 i
        rw [e14 _ (by omega) (by omega), show 148 + (i - 148) = i by omega]
      · rw [if_neg hi]; exact eo i (by omega)
    have kk : ∀ j, j ≠ 2 → tg (layL (ts Y 0 26 0) (jdV Y)) 2 (bl 148 1239 (fun x => Y 14 (x - 148)) (Y 2)) j = layL (ts Y 0 26 0) (jdV Y) j := fun j hj => tg_ne hj
    have k13 : tg (layL (ts Y 0 26 0) (jdV Y)) 2 (bl 148 1239 (fun x => Y 14 (x - 148)) (Y 2)) 13 = Y 13 := by rw [kk 13 (by decide), layL_k (by decide), ts_ne (by decide)]
    rw [e8]
    show DoO B T to H H4 a p q l2 wl wm bs x.1 (tg (layL (ts Y 0 26 0) (jdV Y)) 2 (bl 148 1239 (fun x => Y 14 (x - 148)) (Y 2)))
    refine ⟨H3.1, tou, Y 2, jdV Y, wl2, g, w, D, l1, l1, ra, fr4, ?_, fun z => by omega, lo4, ?_, hp4, hG, fun r r0 r1 => by rw [k13]; exact hD r r0 r1, ?_, ?_, hl1, by omega, by omega⟩
    · rw [kk 0 (by decide), lay_0 (by decide), lay_0 (by decide), lay_0 (by decide), if_neg (by omega)]
      exact y1
    · obtain ⟨q1, q2⟩ := lay_vio (T := Y) (V := jdV Y)
      refine ⟨by rw [kk 0 (by decide)]; exact q1, fun i x hx => by rw [kk 8 (by decide), kk 9 (by decide), kk 10 (by decide)]; exact q2 i x hx⟩
    · rw [k2, ← eo 149 (by omega)]; exact y2
    · rw [k2]; exact hRo.sub sub4
theorem c_does {v0 : Value} {f0 gs : Int → Int} (hBa : ∀ z, StP a z → B z) (hBp : ∀ z, PlP p z → B z) (hBl : ∀ z, B z → z < H.1) (W : StW (T 2)) (hA : AhW (T 12)) (hL : LnW (T 2) (T 5) to) (h35 : T 0 35 = 0 ∨ T 0 35 = 1)
    (hS : SchF (Fz B H) q (T 2) nm) (hSt : StmF (Fz B H) b (T 2) (T 5) to) (hSH : SH H a (.ref q) (T 2 148) (T 2 149) l1 l2 l3 wm bs) (hRo : RowsF (Fz B H) l1 (T 2) 150 348 ra)
    (hp0 : jm H p = some (5, 6, o5 v0 (.ref (p + 1)) (.ref (p + 3)) (.ref (p + 4)) cl mo)) (hp1 : jm H (p + 1) = some (cBS wl g)) (hp2 : jm H (p + 3) = some (1000, 396, aI (cw f0))) (hp3 : jm H (p + 4) = some (1000, 99, aI gs)) (hwl : 1 ≤ wl ∧ wl ≤ 2) (hmo : mo = 0 ∨ mo = 1) (hap : a + 8 < p ∨ p + 4 < a) :
    ∃ H2, M2 (d + 15) 16000 [.ref b, .ref a, .ref p] H = some (.inl (some (.ref H.1)), H2) ∧ DoO B T to H H2 a p q l2 wl wm bs (judT T to).1 (judT T to).2 := by
  have hle := alv_le W
  have hl1 : l1.length ≤ 40 := by rw [rows_len hRo]; exact hle
  have w5 := W.2.2.2.2.1
  have w6 := W.2.2.2.2.2.1
  have s9 := hSH.2.2.2.2.2.1
  have p9 : p + 4 < H.1 := hBl _ (hBp _ (by unfold PlP; omega))
  -- the verdict
  obtain ⟨HV, a1, a2, a3, a4, a5, a6⟩ := c_vnew (d := d + 7) (H := H)
  have hFV : Fzn (Fz B H) HV := Fz_F.f0 a4
  have hSV := hSH.fr a4 fun _ _ z => z
  have rlV : RwL HV l1 := RwL.of hRo hFV hl1
  -- was
  obtain ⟨u0, ⟨n1, u1⟩, ⟨n2, u2⟩, ⟨n3, u3⟩, u4, u5, u6⟩ := id hSV
  obtain ⟨mc, cp⟩ := c_copy (d := d + 12) (f := a + 1) (t := a + 5) u1 (by omega) (by omega) rlV u3
  obtain ⟨HW, hHW⟩ : ∃ HW, HW = jset HV (a + 5) (cAL 40 mc l1) := ⟨_, rfl⟩
  rw [← hHW] at cp
  have fW : Fr HV HW (StP a) := by rw [hHW]; exact Fr.set (by unfold StP; omega)
  have hSW : SH HW a (.ref q) (T 2 148) (T 2 149) l1 l2 l1 wm bs := by
    rw [hHW]
    exact ⟨(jm_s2 (show a ≠ a + 5 by omega)).trans u0, ⟨n1, (jm_s2 (show a + 1 ≠ a + 5 by omega)).trans u1⟩, ⟨n2, (jm_s2 (show a + 3 ≠ a + 5 by omega)).trans u2⟩, ⟨mc, jm_s1⟩, (jm_s2 (show a + 7 ≠ a + 5 by omega)).trans u4, u5, u6⟩
  have HW1 : HW.1 = H.1 + 2 := by rw [hHW]; exact a5
  have HW2 : HW.2.1 = H.2.1 + 10 := by rw [hHW]; exact a6
  have fHW : Fr H HW (StP a) := (a4.mono fun _ _ z => z.elim).tr fW
  -- the plan begins
  have pk : ∀ z, PlP p z → jm HW z = jm H z := fun z hz => fHW.2.2 z (by unfold PlP at hz; omega) (by unfold PlP at hz; unfold StP; omega)
  obtain ⟨HB, b1, b2, b3, b4, b5⟩ := p_begin (d := d + 12) (a := a) ((pk p (by unfold PlP; omega)).trans hp0) ((pk _ (by unfold PlP; omega)).trans hp1) ((pk _ (by unfold PlP; omega)).trans hp2) ((pk _ (by unfold PlP; omega)).trans hp3) (by omega) hwl hmo
  have fHB : Fr H HB (fun z => StP a z ∨ PlP p z) := (fHW.mono fun _ _ z => Or.inl z).tr (b3.mono fun _ _ z => Or.inr z)
  have hSB := hSW.fr b3 fun z hz h2 => by unfold StP at hz; unfold PlP at h2; omega
  have oB : ∀ z, B z → Fz B H z = none := fun z hz => Fz_out hz
  have hFB : Fzn (Fz B H) HB := Fz_F.fr fHB fun z hz => oB z (hz.elim (hBa z) (hBp z))
  have hPB : PlW (Fz B H) HB q a p (T 2) nm ra wl (fun _ => false) (w0W f0 mo) (fillZ gs 99 (-1)) := ⟨hFB, hS, W, ⟨_, _, _, _, _, _, _, hSB, hRo⟩, b2, fun z hz => oB z (hBp z hz), hap⟩
  have hv1 : ¬ StP a H.1 := fun z => by have := hBl _ (hBa _ z); omega
  have hv2 : ¬ PlP p H.1 := fun z => by have := hBl _ (hBp _ z); omega
  have hvF : Fz B H H.1 = none := by
    cases hh : Fz B H H.1 with
    | none => rfl
    | some c => exact absurd (Fz_lt hh).1 (Nat.lt_irrefl _)
  have vB : VdH HB H.1 0 0 0 0 0 (H.1 + 1) := (a2.fr fW hv1).fr b3 hv2
  have LB : LLat HB (H.1 + 1) [] [] := (a3.fr fW (by omega) (fun z => by have := hBl _ (hBa _ z); omega) (fun _ z => by cases z)).fr b3 (by omega) (fun z => by have := hBl _ (hBp _ z); omega) (fun _ z => by cases z)
  have GB : GS (fun _ => false) (fillZ gs 99 (-1)) := ⟨fun r r0 r1 => by unfold fillZ; rw [if_pos ⟨r0, r1⟩]; exact ⟨rfl, Int.le_refl _⟩, fun _ _ => rfl⟩
  have sB : ∀ r, 0 ≤ r → r < 99 → fillZ gs 99 (-1) r = -1 := fun r r0 r1 => by unfold fillZ; rw [if_pos ⟨r0, r1⟩]
  have cB : ColW (T 2) (w0W f0 mo) := fun r c r0 r1 c0 c1 => by
    have TA := W.ta r0 r1
    have CO := W.co TA.1 TA.2
    show fillZ f0 396 (-9) (4 * r + c) = -9
    unfold fillZ
    rw [if_pos ⟨by omega, by omega⟩]
  have agB : AgR (w0W f0 mo) (wsT (jd3 T)) := fun i i0 i1 => by
    show fillZ f0 396 (-9) i = jd3 T 11 i
    unfold fillZ
    rw [if_pos ⟨i0, i1⟩, jd3_11' i0 i1]
  have clB : (w0W f0 mo).2.1 = (wsT (jd3 T)).2.1 := by
    show 0 = jd3 T 0 34
    rw [jd3_f, if_pos (by decide)]
  have hB1 : HB.1 = H.1 + 2 := by omega
  have hB2 : HB.2.1 = H.2.1 + 10 := by omega
  have v1' := (a2.fr fW hv1)
  have uW := hSW.1
  have vB' := vB.1
  have uB := hSB.1
  have dL : ∀ z, (StP a z ∨ PlP p z) → z < H.1 := fun z hz => hBl z (hz.elim (hBa z) (hBp z))
  have ez : HV.1 = H.1 + 2 := a5
  obtain ⟨⟨k0, k2⟩, ⟨t0, t1⟩, li, le⟩ := id hL
  by_cases h0 : T 5 to = 0
  · -- a row is put in
    obtain ⟨ce, gc, sb, sc, sg⟩ : ∃ (ce : Nat) (gc : Int → Int), Fz B H b = some (17, 2, o17 (T 5 (to + 1)) (.ref ce)) ∧ Fz B H ce = some (1000, 4, aI gc) ∧ ∀ c, 0 ≤ c → c < 4 → gc c = insV (T 2) (T 5) to c := by
      rcases hSt with ⟨-, ce, gc, x1, x2, x3⟩ | ⟨z, -⟩
      · exact ⟨ce, gc, x1, x2, x3⟩
      · omega
    have sbH := Fz_F.m sb
    have sbB := hFB.m sb
    have pin := p_insert (d := d + 11) (p := p) (gc := gc) hFB W hSB (rows_len hRo) sb vB hv1
    have mv : MvH (d + 14) 9130 [.ref b, .ref p, .ref H.1, .ref a] HB = M2 (d + 14) 17000 [.ref b, .ref p, .ref H.1, .ref a] HB := by simp only [MvH, sbB]; rfl
    by_cases hf : cntA (T 2) 150 99 0 = 40 ∨ T 2 148 = 99
    · rw [if_pos hf] at pin
      rw [judT_full ⟨h0, hf⟩]
      show ∃ H2, _ ∧ DoO B T to H H2 a p q l2 wl wm bs 6 (jd3 T)
      obtain ⟨H2, hH2⟩ : ∃ H2, H2 = jset HB H.1 (22, 6, o22 6 0 0 0 0 (.ref (H.1 + 1))) := ⟨_, rfl⟩
      rw [← hH2] at pin
      have f2 : Fr HB H2 (fun z => z = H.1) := by rw [hH2]; exact Fr.set rfl
      have v2 : jm H2 H.1 = some (22, 6, o22 6 0 0 0 0 (.ref (H.1 + 1))) := by rw [hH2]; exact jm_s1
      have H21 : H2.1 = HB.1 := by rw [hH2]; rfl
      have H22 : H2.2.1 = HB.2.1 := by rw [hH2]; rfl
      have frT : Fr H H2 (fun z => StP a z ∨ PlP p z) := fHB.new (f2.mono fun z _ hz => Or.inr (by omega))
      refine ⟨H2, ?_, H.1 + 1, 0, T 2, [], wl, fun _ => false, w0W f0 mo, fillZ gs 99 (-1), l1, l1, ra, frT, ⟨?_, by omega⟩, fun z => by omega, ⟨[], [], LB.fr f2 (by omega) (by omega) (fun _ z => by cases z), ⟨by omega, by omega⟩, fun _ z => (by cases z), rfl, fun i x hx => by simp at hx⟩, ⟨?_, fun i x hx => by simp at hx⟩, b2.fr f2 fun z hz h2 => hv2 (h2 ▸ hz), GB, fun r r0 r1 => by rw [sB r r0 r1, jd3_13' r0 r1], ?_, ?_, hl1, by rw [H21, hB1]; simp only [List.length_nil]; omega, by rw [H22, hB2]; simp only [List.length_nil]; omega⟩
      · rw [Y16000 H rfl rfl (jrecv_in sbH rfl), F16000_0]
        simp (disch := first | assumption | omega | decide | exact okF_i | exact okF_r | exact okF_n | exact okF_j | rfl) only [jc_ref, rI_int, rR_ref, rR_null, rJ_long, ckR_ref, ckR_null, ckr_ref, ckr_null, ckW_int, ckW_ref, ckW_null, cI_ok, cR_ok, cR_null, cV_ok, cJ_ok, qH_eq, qD_in, aG_ref, aS_ref, aL_ref, pF_ref, cK_ref, cK_null, zI_lit, zJ_lit, zI_add, zI_sub, zI_mul, zI_neg, zI_eq, zI_lt, zI_le, Int.reduceLT, Int.reduceLE, Int.reduceAdd, Int.reduceSub, Int.reduceMul, Int.reduceNeg, Int.reduceEq, Int.reduceNe, reduceIte, jf_in, pFc_in, aGi, aGb, aSi, aLc_in, cKc_in, nA_in, jm_s1, jm_s2, jm_p1, jm_p2, jm_b, jn_b, jn_s, jn_p, jset_jset, jset_jpush2, ckR_is, ckr_is, rR_is, ckW_is, cR_is, obi2, ckW_int, eq_self, if_true, ref_null, if_false, ne_eq, not_true_eq_false, not_false_eq_true, decide_true, decide_false, decide_not, Bool.true_and, Bool.false_and, Bool.and_true, Bool.and_false, Bool.true_or, Bool.false_or, Bool.or_true, Bool.or_false, Bool.not_true, Bool.not_false, Bool.false_eq_true, bI_t, bI_f, Int.natCast_one, Int.cast_ofNat_Int, Int.natCast_zero, o23_0, o23_1, o23_2, n23, o23s_0, o23s_1, o23s_2, o12_0, o12_1, o13_0, o13_1, o13_2, o13_3, o13_4, o13_5, o13_6, o14_0, o14_1, o14_2, o14_3, o14_4, o14_5, o3_0, o3_1, o3_2, o3_3, o3_4, o11_0, o11_1, o11_2, o11_3, o4_0, o4_1, o4_2, o4_3, o4_4, o4_5, o4_6, n4, o4s_0, o4s_1, o4s_2, o4s_3, o4s_4, o4s_5, o4s_6, o5_0, o5_1, o5_2, o5_3, o5_4, o5_5, n5, o5s_0, o5s_1, o5s_2, o5s_3, o5s_4, o5s_5, o17_0, o17_1, o22_0, o22_1, o22_2, o22_3, o22_4, o22_5, n22, o22s_0, o22s_1, o22s_2, o22s_3, o22s_4, o22s_5, o47_0, o47_1, o47_2, o47_3, n47, o47s_0, o47s_1, o47s_2, o47s_3, o24_0, o24_1, o24_2, o24_3, a1, u0, cp, uW, b1, mv, pin, v2]
      · have e31 : jd3 T 0 31 = 0 := by rw [jd3_f, if_pos (by decide)]
        have e32 : jd3 T 0 32 = 0 := by rw [jd3_f, if_pos (by decide)]
        have e33 : jd3 T 0 33 = 0 := by rw [jd3_f, if_pos (by decide)]
        rw [v2, e31, e32, e33]; rfl
      · rw [jd3_f, if_pos (by decide)]; rfl
      · rw [jd3_k (by decide) (by decide) (by decide) (by decide) (by decide)]
        exact hSB.fr f2 fun z hz h2 => hv1 (h2 ▸ hz)
      · rw [jd3_k (by decide) (by decide) (by decide) (by decide) (by decide)]
        exact hRo.sub (Fz_sub frT fun z _ hz => hz.elim (hBa z) (hBp z))
    · rw [if_neg hf] at pin
      have hnf : ¬ (T 5 to = 0 ∧ (cntA (T 2) 150 99 0 = 40 ∨ T 2 148 = 99)) := fun z => hf z.2
      obtain ⟨s1, s2, s3⟩ := jdT_ins W h35 hA hL h0
      have dn := doR_no W h35 hA hL h0
      rw [judT_ok hnf s3]
      have I := li h0
      have n9 : T 2 148 < 99 := by omega
      have n40 : cntA (T 2) 150 99 0 < 40 := by have := alv_len (S := T 2) (at_ := 150) 99 0 fun i a b => W.al a (by omega); omega
      have Y2 : jdD (jdT T to) to 2 = insS (T 2) (T 5) to := by
        unfold jdD
        rw [ts_ne (by decide), tg_eq, jdT_k (k := 5) (by decide) (by decide) (by decide) (by decide) (by decide), if_pos h0, jdT_k (k := 2) (by decide) (by decide) (by decide) (by decide) (by decide), dn]
      have Y033 : jdD (jdT T to) to 0 33 = 0 := by
        unfold jdD
        rw [ts_eq, fset_eq, jdT_k (k := 2) (by decide) (by decide) (by decide) (by decide) (by decide), dn]
      have Y0 : ∀ i, i ≠ 33 → jdD (jdT T to) to 0 i = jdT T to 0 i := fun i hi => by
        unfold jdD
        rw [ts_eq, fset_ne hi, tg_ne (by decide)]
      have Yk : ∀ k, k ≠ 0 → k ≠ 2 → jdD (jdT T to) to k = jdT T to k := fun k k0 k2 => by
        unfold jdD
        rw [ts_ne k0, tg_ne k2]
      have e31 : jdD (jdT T to) to 0 31 = 0 := by
        rw [Y0 31 (by decide), jdT_31]
        unfold fndA
        rw [if_pos h0]; rfl
      have e32 : jdD (jdT T to) to 0 32 = 0 := by
        rw [Y0 32 (by decide), jdT_32, goC_cg (E := fun _ => -1) 99 0 fun r r0 r1 => s1 r r0 (by omega), goC_no]
      obtain ⟨H2, p1, p2, p3, p4, p5, p6, p7⟩ := pin
      have W2 : StW (jdD (jdT T to) to 2) := by rw [Y2]; exact W.ins I n9 n40
      have eo : ∀ i, i < 148 ∨ i = 149 ∨ 1239 ≤ i → jdD (jdT T to) to 2 i = T 2 i := fun i hi => by
        rw [Y2]
        unfold insS insQ
        rw [fset_ne (by omega), if_neg (by omega), if_neg (by omega), if_neg (by omega)]
      have Y148 : jdD (jdT T to) to 2 148 = T 2 148 + 1 := by rw [Y2]; unfold insS; rw [fset_eq]
      have frT : Fr H H2 (fun z => StP a z ∨ PlP p z) := fHB.new (p5.mono fun z _ hz => by
        rcases hz with hz | hz | hz
        · exact Or.inl (Or.inl (by unfold StP; omega))
        · exact Or.inl (Or.inl (by unfold StP; omega))
        · exact Or.inr (by omega))
      have hF2 : Fzn (Fz B H) H2 := Fz_F.fr frT fun z hz => oB z (hz.elim (hBa z) (hBp z))
      have sub2 : Sub (Fz B H) (Fz B H2) := Fz_sub frT fun z _ hz => hz.elim (hBa z) (hBp z)
      have pB : ∀ z, B z → z < HB.1 := fun z hz => by have := hBl z hz; omega
      have ric := rows_ins W I n9 hRo sub2 (nb := HB.1) (ce := ce) (gc := gc) (Fz_in (by omega) (fun z => Nat.lt_irrefl _ (pB _ z)) p4) (sub2 _ _ sc) sg
      obtain ⟨H4, t1, t2⟩ := do_tail (d := d) (b := b) (Y := jdD (jdT T to) to) (tou := 1) hBa hBp hBl hS W W2 eo (fun i i0 i1 => by rw [Yk 14 (by decide) (by decide), jdT_14]; unfold bl; rw [if_pos ⟨i0, by omega⟩]) (H3 := H2) (lr := l1 ++ [.ref HB.1]) (l1 := l1)
        (by rw [Y148, eo 149 (by omega)]; exact p2) (by rw [Y2]; exact ric) hRo (by rw [e31, e32, Y033]; exact p3) (by rw [e32, Y033, if_pos h0]; rfl) (b2.fr p5 fun z hz h2 => by
          rcases h2 with h2 | h2 | h2
          · unfold PlP at hz; omega
          · unfold PlP at hz; omega
          · exact hv2 (h2 ▸ hz)) GB (fun r r0 r1 => by rw [Yk 13 (by decide) (by decide), s1 r r0 r1]; exact sB r r0 r1) frT (by omega) (by omega) hap
      refine ⟨H4, ?_, t2⟩
      rw [Y16000 H rfl rfl (jrecv_in sbH rfl), F16000_0]
      rw [eo 149 (by omega)] at t1
      have pv := p3.1
      obtain ⟨ps, -⟩ := id p2
      rcases w6 with h9 | h9
      · rw [h9, show zI (bZ (decide ((0 : Int) = 0))) = zI 1 from rfl] at t1
        rw [h9] at ps uW
        simp (disch := first | assumption | omega | decide | exact okF_i | exact okF_r | exact okF_n | exact okF_j | rfl) only [jc_ref, rI_int, rR_ref, rR_null, rJ_long, ckR_ref, ckR_null, ckr_ref, ckr_null, ckW_int, ckW_ref, ckW_null, cI_ok, cR_ok, cR_null, cV_ok, cJ_ok, qH_eq, qD_in, aG_ref, aS_ref, aL_ref, pF_ref, cK_ref, cK_null, zI_lit, zJ_lit, zI_add, zI_sub, zI_mul, zI_neg, zI_eq, zI_lt, zI_le, Int.reduceLT, Int.reduceLE, Int.reduceAdd, Int.reduceSub, Int.reduceMul, Int.reduceNeg, Int.reduceEq, Int.reduceNe, reduceIte, jf_in, pFc_in, aGi, aGb, aSi, aLc_in, cKc_in, nA_in, jm_s1, jm_s2, jm_p1, jm_p2, jm_b, jn_b, jn_s, jn_p, jset_jset, jset_jpush2, ckR_is, ckr_is, rR_is, ckW_is, cR_is, obi2, ckW_int, eq_self, if_true, ref_null, if_false, ne_eq, not_true_eq_false, not_false_eq_true, decide_true, decide_false, decide_not, Bool.true_and, Bool.false_and, Bool.and_true, Bool.and_false, Bool.true_or, Bool.false_or, Bool.or_true, Bool.or_false, Bool.not_true, Bool.not_false, Bool.false_eq_true, bI_t, bI_f, Int.natCast_one, Int.cast_ofNat_Int, Int.natCast_zero, o23_0, o23_1, o23_2, n23, o23s_0, o23s_1, o23s_2, o12_0, o12_1, o13_0, o13_1, o13_2, o13_3, o13_4, o13_5, o13_6, o14_0, o14_1, o14_2, o14_3, o14_4, o14_5, o3_0, o3_1, o3_2, o3_3, o3_4, o11_0, o11_1, o11_2, o11_3, o4_0, o4_1, o4_2, o4_3, o4_4, o4_5, o4_6, n4, o4s_0, o4s_1, o4s_2, o4s_3, o4s_4, o4s_5, o4s_6, o5_0, o5_1, o5_2, o5_3, o5_4, o5_5, n5, o5s_0, o5s_1, o5s_2, o5s_3, o5s_4, o5s_5, o17_0, o17_1, o22_0, o22_1, o22_2, o22_3, o22_4, o22_5, n22, o22s_0, o22s_1, o22s_2, o22s_3, o22s_4, o22s_5, o47_0, o47_1, o47_2, o47_3, n47, o47s_0, o47s_1, o47s_2, o47s_3, o24_0, o24_1, o24_2, o24_3, a1, u0, cp, uW, b1, mv, p1, pv, ps, h9, t1]
      · rw [h9, show zI (bZ (decide ((1 : Int) = 0))) = zI 0 from rfl] at t1
        rw [h9] at ps uW
        simp (disch := first | assumption | omega | decide | exact okF_i | exact okF_r | exact okF_n | exact okF_j | rfl) only [jc_ref, rI_int, rR_ref, rR_null, rJ_long, ckR_ref, ckR_null, ckr_ref, ckr_null, ckW_int, ckW_ref, ckW_null, cI_ok, cR_ok, cR_null, cV_ok, cJ_ok, qH_eq, qD_in, aG_ref, aS_ref, aL_ref, pF_ref, cK_ref, cK_null, zI_lit, zJ_lit, zI_add, zI_sub, zI_mul, zI_neg, zI_eq, zI_lt, zI_le, Int.reduceLT, Int.reduceLE, Int.reduceAdd, Int.reduceSub, Int.reduceMul, Int.reduceNeg, Int.reduceEq, Int.reduceNe, reduceIte, jf_in, pFc_in, aGi, aGb, aSi, aLc_in, cKc_in, nA_in, jm_s1, jm_s2, jm_p1, jm_p2, jm_b, jn_b, jn_s, jn_p, jset_jset, jset_jpush2, ckR_is, ckr_is, rR_is, ckW_is, cR_is, obi2, ckW_int, eq_self, if_true, ref_null, if_false, ne_eq, not_true_eq_false, not_false_eq_true, decide_true, decide_false, decide_not, Bool.true_and, Bool.false_and, Bool.and_true, Bool.and_false, Bool.true_or, Bool.false_or, Bool.or_true, Bool.or_false, Bool.not_true, Bool.not_false, Bool.false_eq_true, bI_t, bI_f, Int.natCast_one, Int.cast_ofNat_Int, Int.natCast_zero, o23_0, o23_1, o23_2, n23, o23s_0, o23s_1, o23s_2, o12_0, o12_1, o13_0, o13_1, o13_2, o13_3, o13_4, o13_5, o13_6, o14_0, o14_1, o14_2, o14_3, o14_4, o14_5, o3_0, o3_1, o3_2, o3_3, o3_4, o11_0, o11_1, o11_2, o11_3, o4_0, o4_1, o4_2, o4_3, o4_4, o4_5, o4_6, n4, o4s_0, o4s_1, o4s_2, o4s_3, o4s_4, o4s_5, o4s_6, o5_0, o5_1, o5_2, o5_3, o5_4, o5_5, n5, o5s_0, o5s_1, o5s_2, o5s_3, o5s_4, o5s_5, o17_0, o17_1, o22_0, o22_1, o22_2, o22_3, o22_4, o22_5, n22, o22s_0, o22s_1, o22s_2, o22s_3, o22s_4, o22s_5, o47_0, o47_1, o47_2, o47_3, n47, o47s_0, o47s_1, o47s_2, o47s_3, o24_0, o24_1, o24_2, o24_3, a1, u0, cp, uW, b1, mv, p1, pv, ps, h9, t1]
  · -- rows are found
    have h12 : T 5 to = 1 ∨ T 5 to = 2 := by omega
    have fe : fndA T to = fndL (T 2) (T 5) to (alv (T 2) 150 99 0) := by unfold fndA; rw [if_neg h0]
    have hnf : ¬ (T 5 to = 0 ∧ (cntA (T 2) 150 99 0 = 40 ∨ T 2 148 = 99)) := fun z => h0 z.1
    have CO := W.co t0 (by have := W.n0; omega)
    obtain ⟨cn, se⟩ := le h0
    have hFa : Fz B H (a + 1) = none := oB _ (hBa _ (by unfold StP; omega))
    obtain ⟨H3, g2, wl2, D, w', q1, q2, q3, q4, q5, q6, q7, q8, q9, q10, q11, q12⟩ := p_finds (d := d + 6) (ll := H.1 + 1) (b := b) (L := T 5) (to := to) hPB GB sB cB hSt hL h12 hSB hRo hFa vB ⟨hvF, hv1, hv2⟩
    have bf := jdT_bfs (to := to) W
    rw [fe] at bf
    have hD : ∀ r, 0 ≤ r → r < 99 → D r = jdT T to 13 r := fun r r0 r1 => bfs_un q5 bf r0 r1
    have hG := q4.gog hD
    obtain ⟨j0, j1, j2⟩ := jdT_lst W h35 hA hL hG
    rw [fe] at j0 j1
    have hrows : ∀ x ∈ fndL (T 2) (T 5) to (alv (T 2) 150 99 0), 0 ≤ x ∧ x < 99 := fun x hx => by
      have := (alv_mem 99 0 x).mp (List.mem_filter.mp hx).1; omega
    obtain ⟨ag1, ag2⟩ := setL_ag se (by omega) (fndL (T 2) (T 5) to (alv (T 2) 150 99 0)) _ _ hrows agB clB
    obtain ⟨bv, sbH⟩ : ∃ bv, Fz B H b = some bv ∧ (bv.1 = 19 ∨ bv.1 = 21) := by
      rcases hSt with ⟨z, -⟩ | ⟨-, we, -, ⟨-, -, x⟩ | ⟨-, ce, ve, n, gc, gv, x, -⟩⟩
      · omega
      · exact ⟨_, x, Or.inl rfl⟩
      · exact ⟨_, x, Or.inr rfl⟩
    have mv : MvH (d + 14) 9130 [.ref b, .ref p, .ref H.1, .ref a] HB = M2 (d + 14) 18002 [.ref b, .ref p, .ref H.1, .ref a] HB := by
      have m := hFB.m sbH.1
      obtain ⟨k, n, v⟩ := bv
      simp only [MvH, m]
      rcases sbH.2 with z | z
      · have z : k = 19 := z
        subst z; rfl
      · have z : k = 21 := z
        subst z; rfl
    have bH := Fz_F.m sbH.1
    have rcv : List.elem bv.1 (jtRecv 16000) = true := by rcases sbH.2 with z | z <;> rw [z] <;> rfl
    have frT : Fr H H3 (fun z => StP a z ∨ PlP p z) := fHB.new (q10.mono fun z _ hz => by
      rcases hz with hz | hz | hz
      · exact Or.inl (Or.inr hz)
      · exact Or.inl (Or.inl (by unfold StP; omega))
      · exact Or.inr (by omega))
    have sub3 : Sub (Fz B H) (Fz B H3) := Fz_sub frT fun z _ hz => hz.elim (hBa z) (hBp z)
    have pB : ∀ z, B z → z < HB.1 := fun z hz => by have := hBl z hz; omega
    have rng := w'.2.1
    by_cases hcl : w'.2.1 = 1
    · -- two wants clash
      have c34 : jdT T to 0 34 = 1 := by
        rcases q6 with ⟨c0, lw⟩ | ⟨c1, -⟩
        · have lw := lw.ag ag1
          have := (lw.un (j0 (by rw [← ag2]; exact c0))).1
          exact this.symm.trans hcl
        · exact j1 (by rw [← ag2]; exact c1)
      obtain ⟨v1, v2⟩ := q8 hcl
      rw [judT_cl hnf c34]
      show ∃ H2, _ ∧ DoO B T to H H2 a p q l2 wl wm bs 5 (jdT T to)
      refine ⟨H3, ?_, H.1 + 1, 0, T 2, [], wl2, g2, w', D, l1, l1, ra, frT, ?_, fun z => by omega, ⟨[], [], LB.fr q10 (by omega) (fun z => ?_) (fun _ z => by cases z), ⟨by omega, Nat.lt_of_lt_of_le (by omega) q10.1⟩, fun _ z => (by cases z), rfl, fun i x hx => by simp at hx⟩, ⟨?_, fun i x hx => by simp at hx⟩, q3, q4, hD, ?_, ?_, hl1, by simp only [List.length_nil]; omega, by simp only [List.length_nil]; omega⟩
      · rw [Y16000 H rfl rfl (jrecv_in bH rcv), F16000_0]
        have pv := v1.1
        simp (disch := first | assumption | omega | decide | exact okF_i | exact okF_r | exact okF_n | exact okF_j | rfl) only [jc_ref, rI_int, rR_ref, rR_null, rJ_long, ckR_ref, ckR_null, ckr_ref, ckr_null, ckW_int, ckW_ref, ckW_null, cI_ok, cR_ok, cR_null, cV_ok, cJ_ok, qH_eq, qD_in, aG_ref, aS_ref, aL_ref, pF_ref, cK_ref, cK_null, zI_lit, zJ_lit, zI_add, zI_sub, zI_mul, zI_neg, zI_eq, zI_lt, zI_le, Int.reduceLT, Int.reduceLE, Int.reduceAdd, Int.reduceSub, Int.reduceMul, Int.reduceNeg, Int.reduceEq, Int.reduceNe, reduceIte, jf_in, pFc_in, aGi, aGb, aSi, aLc_in, cKc_in, nA_in, jm_s1, jm_s2, jm_p1, jm_p2, jm_b, jn_b, jn_s, jn_p, jset_jset, jset_jpush2, ckR_is, ckr_is, rR_is, ckW_is, cR_is, obi2, ckW_int, eq_self, if_true, ref_null, if_false, ne_eq, not_true_eq_false, not_false_eq_true, decide_true, decide_false, decide_not, Bool.true_and, Bool.false_and, Bool.and_true, Bool.and_false, Bool.true_or, Bool.false_or, Bool.or_true, Bool.or_false, Bool.not_true, Bool.not_false, Bool.false_eq_true, bI_t, bI_f, Int.natCast_one, Int.cast_ofNat_Int, Int.natCast_zero, o23_0, o23_1, o23_2, n23, o23s_0, o23s_1, o23s_2, o12_0, o12_1, o13_0, o13_1, o13_2, o13_3, o13_4, o13_5, o13_6, o14_0, o14_1, o14_2, o14_3, o14_4, o14_5, o3_0, o3_1, o3_2, o3_3, o3_4, o11_0, o11_1, o11_2, o11_3, o4_0, o4_1, o4_2, o4_3, o4_4, o4_5, o4_6, n4, o4s_0, o4s_1, o4s_2, o4s_3, o4s_4, o4s_5, o4s_6, o5_0, o5_1, o5_2, o5_3, o5_4, o5_5, n5, o5s_0, o5s_1, o5s_2, o5s_3, o5s_4, o5s_5, o17_0, o17_1, o22_0, o22_1, o22_2, o22_3, o22_4, o22_5, n22, o22s_0, o22s_1, o22s_2, o22s_3, o22s_4, o22s_5, o47_0, o47_1, o47_2, o47_3, n47, o47s_0, o47s_1, o47s_2, o47s_3, o24_0, o24_1, o24_2, o24_3, a1, u0, cp, uW, b1, mv, q1, pv]
      · rw [jdT_31, jdT_32, fe, if_pos rfl, ← goC_cg 99 0 fun r r0 r1 => hD r r0 (by omega)]
        exact v1
      · rcases z with z | z | z
        · have := dL _ (Or.inr z); omega
        · omega
        · omega
      · rw [jdT_0 (by decide) (by decide) (by decide) (by decide), jd3_f, if_pos (by decide)]; rfl
      · rw [jdT_k (by decide) (by decide) (by decide) (by decide) (by decide)]; exact v2
      · rw [jdT_k (by decide) (by decide) (by decide) (by decide) (by decide)]; exact hRo.sub sub3
    · -- rows go, rows change
      rcases q6 with ⟨c0, lw⟩ | ⟨-, c1⟩
      · have lw := lw.ag ag1
        have wW := lw.1
        have c0' : w'.2.1 = 0 := by have := wW.2.1; omega
        obtain ⟨un1, un2⟩ := lw.un (j0 (by rw [← ag2]; exact c0))
        have un2 := un2 c0'
        have c34 : jdT T to 0 34 = 0 := un1.symm.trans c0'
        obtain ⟨v1, rb, v2, v3⟩ := q9 c0'
        obtain ⟨i1, i2, i3, i4⟩ := doR_at (w := wsT (jdT T to)) W hG 99 0 (T 2, 0) (Int.le_refl _) rfl (fun i _ => rfl)
        obtain ⟨k1, k2, -⟩ := doR_W (Go := jdT T to 13) j2 99 0 (T 2, 0) W (Int.le_refl _) rfl
        rw [judT_ok hnf c34]
        have Y2 : jdD (jdT T to) to 2 = (doR (wsT (jdT T to)) (jdT T to 13) 99 0 (T 2, 0)).1 := by
          unfold jdD
          rw [ts_ne (by decide), tg_eq, jdT_k (k := 5) (by decide) (by decide) (by decide) (by decide) (by decide), if_neg h0, jdT_k (k := 2) (by decide) (by decide) (by decide) (by decide) (by decide)]
        have alr : ∀ x ∈ alv (T 2) 150 99 0, 0 ≤ x ∧ x < 99 := fun x hx => by have := (alv_mem 99 0 x).mp hx; omega
        have Y033 : jdD (jdT T to) to 0 33 = chgL (T 2) g2 w' (alv (T 2) 150 99 0) := by
          unfold jdD
          rw [ts_eq, fset_eq, jdT_k (k := 2) (by decide) (by decide) (by decide) (by decide) (by decide), i4, chgL_ag W un2 _ alr]
          show (0 : Int) + _ = _
          omega
        have Y0 : ∀ i, i ≠ 33 → jdD (jdT T to) to 0 i = jdT T to 0 i := fun i hi => by
          unfold jdD
          rw [ts_eq, fset_ne hi, tg_ne (by decide)]
        have Yk : ∀ k, k ≠ 0 → k ≠ 2 → jdD (jdT T to) to k = jdT T to k := fun k k0 k2 => by
          unfold jdD
          rw [ts_ne k0, tg_ne k2]
        have e31 : jdD (jdT T to) to 0 31 = (fndL (T 2) (T 5) to (alv (T 2) 150 99 0)).length := by rw [Y0 31 (by decide), jdT_31, fe]
        have e32 : jdD (jdT T to) to 0 32 = goC D 99 0 := by rw [Y0 32 (by decide), jdT_32, ← goC_cg 99 0 fun r r0 r1 => hD r r0 (by omega)]
        have W2 : StW (jdD (jdT T to) to 2) := by rw [Y2]; exact k1
        have eo : ∀ i, i < 148 ∨ i = 149 ∨ 1239 ≤ i → jdD (jdT T to) to 2 i = T 2 i := fun i hi => by
          rw [Y2]; exact k2 i (by omega)
        have Y148 : jdD (jdT T to) to 2 148 = T 2 148 := by rw [Y2]; exact k2 148 (by omega)
        have ric := rows_done (B := B) (H := H3) (lo := HB.1) (rb := rb) (S2 := (doR (wsT (jdT T to)) (jdT T to 13) 99 0 (T 2, 0)).1) W wW un2 q7 (fun k k0 k1 => i2 k k0 k1) (fun k k0 k1 => i1 _ (by omega)) (fun k c k0 k1 c0 c1 => i3 k c k0 k1 c0 c1) hRo sub3 pB v3
        obtain ⟨H4, t1, t2⟩ := do_tail (d := d) (b := b) (wl2 := wl2) (wl := wl) (Y := jdD (jdT T to) to) (tou := goC D 99 0 + chgL (T 2) g2 w' (alv (T 2) 150 99 0)) hBa hBp hBl hS W W2 eo (fun i i0 i1 => by rw [Yk 14 (by decide) (by decide), jdT_14]; unfold bl; rw [if_pos ⟨i0, by omega⟩]) (H3 := H3) (l1 := l1)
          (by rw [Y148, eo 149 (by omega)]; exact v2) (by rw [Y2]; exact ric) hRo (by rw [e31, e32, Y033]; exact v1) (by rw [e32, Y033, if_neg h0]; omega) q3 q4 (fun r r0 r1 => by rw [Yk 13 (by decide) (by decide)]; exact hD r r0 r1) frT (by omega) (by omega) hap
        refine ⟨H4, ?_, t2⟩
        rw [Y16000 H rfl rfl (jrecv_in bH rcv), F16000_0]
        rw [eo 149 (by omega)] at t1
        have pv := v1.1
        obtain ⟨ps, -⟩ := id v2
        rcases w6 with h9 | h9
        · rw [h9, show zI (bZ (decide ((0 : Int) = 0))) = zI 1 from rfl] at t1
          rw [h9] at ps uW
          simp (disch := first | assumption | omega | decide | exact okF_i | exact okF_r | exact okF_n | exact okF_j | rfl) only [jc_ref, rI_int, rR_ref, rR_null, rJ_long, ckR_ref, ckR_null, ckr_ref, ckr_null, ckW_int, ckW_ref, ckW_null, cI_ok, cR_ok, cR_null, cV_ok, cJ_ok, qH_eq, qD_in, aG_ref, aS_ref, aL_ref, pF_ref, cK_ref, cK_null, zI_lit, zJ_lit, zI_add, zI_sub, zI_mul, zI_neg, zI_eq, zI_lt, zI_le, Int.reduceLT, Int.reduceLE, Int.reduceAdd, Int.reduceSub, Int.reduceMul, Int.reduceNeg, Int.reduceEq, Int.reduceNe, reduceIte, jf_in, pFc_in, aGi, aGb, aSi, aLc_in, cKc_in, nA_in, jm_s1, jm_s2, jm_p1, jm_p2, jm_b, jn_b, jn_s, jn_p, jset_jset, jset_jpush2, ckR_is, ckr_is, rR_is, ckW_is, cR_is, obi2, ckW_int, eq_self, if_true, ref_null, if_false, ne_eq, not_true_eq_false, not_false_eq_true, decide_true, decide_false, decide_not, Bool.true_and, Bool.false_and, Bool.and_true, Bool.and_false, Bool.true_or, Bool.false_or, Bool.or_true, Bool.or_false, Bool.not_true, Bool.not_false, Bool.false_eq_true, bI_t, bI_f, Int.natCast_one, Int.cast_ofNat_Int, Int.natCast_zero, o23_0, o23_1, o23_2, n23, o23s_0, o23s_1, o23s_2, o12_0, o12_1, o13_0, o13_1, o13_2, o13_3, o13_4, o13_5, o13_6, o14_0, o14_1, o14_2, o14_3, o14_4, o14_5, o3_0, o3_1, o3_2, o3_3, o3_4, o11_0, o11_1, o11_2, o11_3, o4_0, o4_1, o4_2, o4_3, o4_4, o4_5, o4_6, n4, o4s_0, o4s_1, o4s_2, o4s_3, o4s_4, o4s_5, o4s_6, o5_0, o5_1, o5_2, o5_3, o5_4, o5_5, n5, o5s_0, o5s_1, o5s_2, o5s_3, o5s_4, o5s_5, o17_0, o17_1, o22_0, o22_1, o22_2, o22_3, o22_4, o22_5, n22, o22s_0, o22s_1, o22s_2, o22s_3, o22s_4, o22s_5, o47_0, o47_1, o47_2, o47_3, n47, o47s_0, o47s_1, o47s_2, o47s_3, o24_0, o24_1, o24_2, o24_3, a1, u0, cp, uW, b1, mv, q1, pv, ps, h9, t1]
        · rw [h9, show zI (bZ (decide ((1 : Int) = 0))) = zI 0 from rfl] at t1
          rw [h9] at ps uW
          simp (disch := first | assumption | omega | decide | exact okF_i | exact okF_r | exact okF_n | exact okF_j | rfl) only [jc_ref, rI_int, rR_ref, rR_null, rJ_long, ckR_ref, ckR_null, ckr_ref, ckr_null, ckW_int, ckW_ref, ckW_null, cI_ok, cR_ok, cR_null, cV_ok, cJ_ok, qH_eq, qD_in, aG_ref, aS_ref, aL_ref, pF_ref, cK_ref, cK_null, zI_lit, zJ_lit, zI_add, zI_sub, zI_mul, zI_neg, zI_eq, zI_lt, zI_le, Int.reduceLT, Int.reduceLE, Int.reduceAdd, Int.reduceSub, Int.reduceMul, Int.reduceNeg, Int.reduceEq, Int.reduceNe, reduceIte, jf_in, pFc_in, aGi, aGb, aSi, aLc_in, cKc_in, nA_in, jm_s1, jm_s2, jm_p1, jm_p2, jm_b, jn_b, jn_s, jn_p, jset_jset, jset_jpush2, ckR_is, ckr_is, rR_is, ckW_is, cR_is, obi2, ckW_int, eq_self, if_true, ref_null, if_false, ne_eq, not_true_eq_false, not_false_eq_true, decide_true, decide_false, decide_not, Bool.true_and, Bool.false_and, Bool.and_true, Bool.and_false, Bool.true_or, Bool.false_or, Bool.or_true, Bool.or_false, Bool.not_true, Bool.not_false, Bool.false_eq_true, bI_t, bI_f, Int.natCast_one, Int.cast_ofNat_Int, Int.natCast_zero, o23_0, o23_1, o23_2, n23, o23s_0, o23s_1, o23s_2, o12_0, o12_1, o13_0, o13_1, o13_2, o13_3, o13_4, o13_5, o13_6, o14_0, o14_1, o14_2, o14_3, o14_4, o14_5, o3_0, o3_1, o3_2, o3_3, o3_4, o11_0, o11_1, o11_2, o11_3, o4_0, o4_1, o4_2, o4_3, o4_4, o4_5, o4_6, n4, o4s_0, o4s_1, o4s_2, o4s_3, o4s_4, o4s_5, o4s_6, o5_0, o5_1, o5_2, o5_3, o5_4, o5_5, n5, o5s_0, o5s_1, o5s_2, o5s_3, o5s_4, o5s_5, o17_0, o17_1, o22_0, o22_1, o22_2, o22_3, o22_4, o22_5, n22, o22s_0, o22s_1, o22s_2, o22s_3, o22s_4, o22s_5, o47_0, o47_1, o47_2, o47_3, n47, o47s_0, o47s_1, o47s_2, o47s_3, o24_0, o24_1, o24_2, o24_3, a1, u0, cp, uW, b1, mv, q1, pv, ps, h9, t1]
      · exact absurd c1 hcl
end
