/-! StringBuilder's methods, and all that is owed of the library -/
-- jc_ref, rI_int, rR_ref, rR_null, rJ_long, ckR_ref, ckR_null, ckr_ref, ckr_null, ckW_int, ckW_ref, ckW_null, cI_ok, cR_ok, cR_null, cV_ok, cJ_ok, qH_eq, qD_in, aG_ref, aS_ref, aL_ref, pF_ref, cK_ref, cK_null, zI_lit, zJ_lit, zI_add, zI_sub, zI_mul, zI_neg, zI_eq, zI_lt, zI_le, Int.reduceLT, Int.reduceLE, Int.reduceAdd, Int.reduceSub, Int.reduceMul, Int.reduceNeg, Int.reduceEq, Int.reduceNe, reduceIte, jf_in, pFc_in, aGc_V, aLc_in, cKc_in, nA_in, jm_s1, jm_s2, jm_p1, jm_p2, ckR_is, ckr_is, rR_is, ckW_is, cR_is, obi, okFb0, oSB_0, oSB_1, oSB_3, oSBs_0, oSBs_1, oSBs_3, nSBs_0, nSBs_1, sar0, shl0 = jc_ref, rI_int, rR_ref, rR_null, rJ_long, ckR_ref, ckR_null, ckr_ref, ckr_null, ckW_int, ckW_ref, ckW_null, cI_ok, cR_ok, cR_null, cV_ok, cJ_ok, qH_eq, qD_in, aG_ref, aS_ref, aL_ref, pF_ref, cK_ref, cK_null, zI_lit, zJ_lit, zI_add, zI_sub, zI_mul, zI_neg, zI_eq, zI_lt, zI_le, Int.reduceLT, Int.reduceLE, Int.reduceAdd, Int.reduceSub, Int.reduceMul, Int.reduceNeg, Int.reduceEq, Int.reduceNe, reduceIte, jf_in, pFc_in, aGc_V, aLc_in, cKc_in, nA_in, jm_s1, jm_s2, jm_p1, jm_p2, ckR_is, ckr_is, rR_is, ckW_is, cR_is, obi, okFb0, oSB_0, oSB_1, oSB_3, oSBs_0, oSBs_1, oSBs_3, nSBs_0, nSBs_1, sar0, shl0
section
variable {Fo : Nat → Option Cl} {h H : AH} {d : Nat} {as : List Value}
/-- a string stands whatever is done to an object that is none and to arrays that are not its bytes -/
theorem StrAt.to {h h2 : AH} {q : Nat} {c : List Int} (s : StrAt h q c) (hk : ∀ p cl, jm h p = some cl → (cl.1 = 50 ∨ cl.1 = 150 ∨ cl.1 = 1010 ∨ cl.1 = 1011) → p ∉ ([] : List Nat) → (∃ t e te f g, jm h q = some (t, 4, f) ∧ f 0 = .ref e ∧ jm h e = some (te, c.length, g) ∧ (p = q ∨ p = e)) → jm h2 p = some cl) : StrAt h2 q c := by
  obtain ⟨t, e, te, f, g, ⟨x1, x2, x3, x4⟩, y1, y2, y3⟩ := s
  refine ⟨t, e, te, f, g, ⟨hk _ _ x1 ?_ (by simp) ⟨t, e, te, f, g, x1, x3, y1, Or.inl rfl⟩, x2, x3, x4⟩, hk _ _ y1 ?_ (by simp) ⟨t, e, te, f, g, x1, x3, y1, Or.inr rfl⟩, y2, y3⟩
  · rcases x2 with rfl | rfl
    · exact Or.inl rfl
    · exact Or.inr (Or.inl rfl)
  · rcases y2 with rfl | rfl
    · exact Or.inr (Or.inr (Or.inl rfl))
    · exact Or.inr (Or.inr (Or.inr rfl))
/-- both cells of a string are seen -/
theorem StrAt.vis {H : AH} {q : Nat} {c : List Int} (s : StrAt H q c) : ∃ t e te f g, jm H q = some (t, 4, f) ∧ f 0 = .ref e ∧ jm H e = some (te, c.length, g) ∧ (t = 50 ∨ t = 150) ∧ (te = 1010 ∨ te = 1011) := by
  obtain ⟨t, e, te, f, g, ⟨x1, x2, x3, x4⟩, y1, y2, y3⟩ := s
  exact ⟨t, e, te, f, g, x1, x3, y1, x2, y2⟩
/-- it stands where all cells that are seen, but for one that is no string, stand -/
theorem StrAt.keep {W : Nat → Nat} {h2 : AH} {a q : Nat} {c : List Int} {ca : Cl} (R : Rep Fo W h H) (s : StrAt H q c) (ea : jm H a = some ca) (ta : ca.1 ≠ 50 ∧ ca.1 ≠ 150 ∧ ca.1 ≠ 1010 ∧ ca.1 ≠ 1011) (hk : ∀ p, p < h.1 → p ≠ a → W p = 0 → jm h2 p = jm h p) : StrAt h2 q c := by
  have hn := R.1.1
  obtain ⟨t, e, te, f, g, ⟨x1, x2, x3, x4⟩, y1, y2, y3⟩ := s
  have nq : q ≠ a := by
    rintro rfl
    rw [ea] at x1; cases x1
    rcases x2 with x2 | x2
    · exact ta.1 x2
    · exact ta.2.1 x2
  have ne : e ≠ a := by
    rintro rfl
    rw [ea] at y1; cases y1
    rcases y2 with y2 | y2
    · exact ta.2.2.1 y2
    · exact ta.2.2.2 y2
  have vq := R.2.1 _ _ x1
  have ve := R.2.1 _ _ y1
  refine ⟨t, e, te, f, g, ⟨?_, x2, x3, x4⟩, ?_, y2, y3⟩
  · rw [hk q (Nat.lt_of_lt_of_eq vq.1 hn.symm) nq vq.2.1]
    exact R.2.2.1 _ _ x1 (psT_200 (by show t < 200; omega))
  · rw [hk e (Nat.lt_of_lt_of_eq ve.1 hn.symm) ne ve.2.1]
    exact R.2.2.1 _ _ y1 (psT_1000 (by show 1000 ≤ te; omega))
theorem pm_sbnew (R : RX Fo h H) : SimR Fo (pSBnew as H) (M (d + 12) 49900 as h) := by
  intro o H2 e
  unfold pSBnew at e
  split at e
  · rename_i a
    obtain ⟨m, e⟩ := wIf_inv e
    have m2 := R.get m rfl
    obtain ⟨W, R⟩ := R
    have hn := R.1.1
    have ha := Nat.lt_of_lt_of_eq (R.2.1 _ _ m).1 hn.symm
    cases e
    refine ⟨_, sb_new (d := d + 9) m2 ha, R.up m (show 49 < 1000 by decide) rfl rfl rfl rfl (fun q hq hqa hw => (jm_s2 hqa).trans (jm_p2 (Nat.ne_of_lt hq))) (Or.inr (Or.inr (Or.inr ⟨16, [], rfl, by decide, fun z hz => (by cases hz), h.1, fun _ => .int (zI 0), zI 0, jm_s1, if_pos ⟨by omega, by omega⟩, (jm_s2 (Ne.symm (Nat.ne_of_lt ha))).trans jm_p1, fun k hk => absurd hk (Nat.not_lt_zero _)⟩)))⟩
  · cases e
theorem sb_len_le {cap n : Nat} : n ≤ sbCap cap n := by unfold sbCap; split <;> omega
theorem sb_cap_lt {cap n : Nat} (h1 : cap < 100000) (h2 : n < 300000) : sbCap cap n < 1000000 := by unfold sbCap; split <;> omega
/-- what is kept when a builder gets longer, and what is added -/
theorem sb_cont {g : Nat → Value} {b c : List Int} (hg : ∀ k, k < b.length → g k = .int (zI (b.getD k 0))) : ∀ k, k < (b ++ c).length → putB g b.length c k = .int (zI ((b ++ c).getD k 0)) := by
  intro k hk
  rw [List.length_append] at hk
  unfold putB
  rw [List.getD_eq_getElem?_getD (l := b ++ c)]
  by_cases h1 : k < b.length
  · rw [if_neg (by omega), hg k h1, List.getElem?_append_left h1, List.getD_eq_getElem?_getD]
  · rw [if_pos (by omega), List.getElem?_append_right (by omega), List.getD_eq_getElem?_getD]
theorem SbW.app {b c : List Int} (h1 : SbW b) (h2 : SbW c) : SbW (b ++ c) := fun z hz => (List.mem_append.mp hz).elim (h1 z) (h2 z)
theorem dgs_W {n : Int} (h0 : 0 ≤ n) (h1 : n < 100) : SbW (dgs n) ∧ (dgs n).length ≤ 2 := by
  unfold dgs
  by_cases c : n < 10
  · rw [if_pos c]
    exact ⟨fun z hz => by simp at hz; omega, by simp⟩
  · rw [if_neg c]
    exact ⟨fun z hz => by simp at hz; omega, by simp⟩
/-- a builder made longer by c: the two ways, with room and without -/
theorem sb_step {W : Nat → Nat} {a cap : Nat} {b c : List Int} {as : List Value} {y : Nat} {r : Value} (R : Rep Fo W h H) (m : jm H a = some (cSB cap b)) (hb : SbW b) (hc : cap < 100000) (hcW : SbW c) (hcl : c.length < 100000)
    (run : ∀ (h9 : AH) (e9 cap9 : Nat) (g9 : Nat → Value) (ml : Int32) (e : Nat), jm h a = some (49, 4, oSB e ml b.length) → M (d + 10) 48005 [.ref a, .int (zI ((b.length : Int) + c.length))] h = some (.inl none, h9) → jm h9 a = some (49, 4, oSB e9 ml b.length) → jm h9 e9 = some (1010, cap9, g9) → b.length + c.length ≤ cap9 → cap9 < 1000000 → (∀ p, p < h.1 → p ≠ a → W p = 0 → jm h9 p = jm h p) → je h9 = je h →
      ∃ h10, M (d + 12) y as h = some (.inl (some r), h10) ∧ Only h9 h10 (fun q => q = a ∨ q = e9) ∧ jm h10 a = some (49, 4, oSB e9 ml ((b.length : Int) + c.length)) ∧ jm h10 e9 = some (1010, cap9, putB g9 b.length c)) :
    ∃ h2, M (d + 12) y as h = some (.inl (some r), h2) ∧ RX Fo h2 (jset (sbGrow H cap (b.length + c.length)) a (cSB (sbCap cap (b.length + c.length)) (b ++ c))) := by
  have hn := R.1.1
  have ha := Nat.lt_of_lt_of_eq (R.2.1 _ _ m).1 hn.symm
  have wa := (R.2.1 _ _ m).2.1
  obtain ⟨hl, hbw, e0, g, ml, h1, we, h2, hg⟩ := R.sb hb m
  have h1 : jm h a = some (49, 4, oSB e0 ml b.length) := h1
  have le0 : e0 < h.1 := Nat.lt_of_lt_of_eq (R.2.2.2.2.2.1 _ _ we) hn.symm
  have hll : (((b ++ c).length : Nat) : Int) = (b.length : Int) + c.length := by simp
  by_cases hfit : b.length + c.length ≤ cap
  · have x := sb_ens0 (d := d + 9) (i := (b.length : Int) + c.length) h1 h2 (by omega) (by omega) (by omega)
    obtain ⟨h10, y1, ⟨o1, o2, o3, o4⟩, y3, y4⟩ := run h e0 cap g ml e0 h1 x h1 h2 hfit (by omega) (fun _ _ _ _ => rfl) rfl
    refine ⟨h10, y1, ?_⟩
    unfold sbGrow sbCap
    rw [if_pos hfit, if_pos hfit]
    exact R.up0 m (show 249 < 1000 by decide) rfl o1 o2 o3 (fun q _ hq hw => o4 q (by rintro (z | z); exact hq z; exact hw (z ▸ we))) (Or.inr (Or.inr (Or.inr ⟨cap, b ++ c, rfl, by simp; omega, hb.app hcW, e0, _, ml, by rw [hll]; exact y3, we, y4, sb_cont hg⟩)))
  · have x := sb_ens1 (d := d + 6) (i := (b.length : Int) + c.length) h1 h2 ha le0 hc (by omega) (by omega)
    rw [show ((b.length : Int) + c.length).toNat = b.length + c.length by omega] at x
    have nh : a ≠ h.1 := Nat.ne_of_lt ha
    obtain ⟨h9, e9⟩ : ∃ h9, h9 = jset (jset (jpush h (1010, sbCap cap (b.length + c.length), fun _ => .int (zI 0))) h.1 (1010, sbCap cap (b.length + c.length), jcpy g (fun _ => .int (zI 0)) 0 0 cap)) a (49, 4, oSB h.1 ml b.length) := ⟨_, rfl⟩
    rw [← e9] at x
    have g1 : jm h9 a = some (49, 4, oSB h.1 ml b.length) := by rw [e9]; exact jm_s1
    have g2 : jm h9 h.1 = some (1010, sbCap cap (b.length + c.length), jcpy g (fun _ => .int (zI 0)) 0 0 cap) := by rw [e9, jm_s2 (Ne.symm nh)]; exact jm_s1
    have g3 : ∀ p, p < h.1 → p ≠ a → jm h9 p = jm h p := fun p hp hpa => by
      have qh : p ≠ h.1 := Nat.ne_of_lt hp
      rw [e9]
      exact (jm_s2 hpa).trans ((jm_s2 qh).trans (jm_p2 qh))
    obtain ⟨h10, y1, ⟨o1, o2, o3, o4⟩, y3, y4⟩ := run h9 h.1 _ _ ml e0 h1 x g1 g2 sb_len_le (sb_cap_lt hc (by omega)) (fun p hp hpa _ => g3 p hp hpa) (by rw [e9]; rfl)
    refine ⟨h10, y1, ?_⟩
    unfold sbGrow
    rw [if_neg hfit]
    refine R.up m (show 249 < 1000 by decide) rfl (o1.trans (by rw [e9]; rfl)) (o2.trans (by rw [e9]; rfl)) (o3.trans (by rw [e9]; rfl)) (fun q hq hqa hw => ?_) (Or.inr (Or.inr (Or.inr ⟨_, b ++ c, rfl, by rw [List.length_append]; exact sb_len_le, hb.app hcW, h.1, _, ml, by rw [hll]; exact y3, if_pos ⟨by omega, by omega⟩, y4, sb_cont fun k hk => ?_⟩)))
    · rw [o4 q (by rintro (z | z); exact hqa z; exact absurd z (Nat.ne_of_lt hq)), g3 q hq hqa]
    · unfold jcpy
      rw [if_pos (by omega), show 0 + (k - 0) = k by omega, hg k hk]
theorem pm_sbappC (R : RX Fo h H) : SimR Fo (pSBappC as H) (M (d + 12) 49000 as h) := by
  intro o H2 e
  unfold pSBappC at e
  split at e
  · rename_i a ii
    replace e := wSB_inv e
    obtain ⟨cap, b, m, hb, e⟩ := e
    replace e := wIf_inv e
    obtain ⟨⟨hc, i0, i1⟩, e⟩ := e
    obtain ⟨W, R⟩ := R
    cases e
    refine sb_step (c := [ii.toInt]) R m hb hc (fun z hz => by simp at hz; omega) (by simp) fun h9 e9 cap9 g9 ml e0 h1 hx g1 g2 hl hc9 _ _ => ?_
    have nea : e9 ≠ a := by
      rintro rfl
      rw [g1] at g2; cases g2
    have x := sb_appC (d := d + 6) (z := ii.toInt) h1 (by omega) hx g1 g2 (by simp at hl; omega) hc9 i0 i1
    rw [zI_self] at x
    refine ⟨_, x, ⟨rfl, rfl, rfl, fun q hq => ?_⟩, (jm_s2 (Ne.symm nea)).trans jm_s1, ?_⟩
    · rw [jm_s2 (fun z => hq (Or.inr z)), jm_s2 (fun z => hq (Or.inl z))]
    · rw [jm_s1, Int.toNat_natCast, ← putB1, zI_self]
  · cases e
theorem pm_sbappS (R : RX Fo h H) : SimR Fo (pSBappS as H) (M (d + 12) 49001 as h) := by
  intro o H2 e
  unfold pSBappS at e
  split at e
  · rename_i a q
    replace e := wSB_inv e
    obtain ⟨cap, b, m, hb, e⟩ := e
    replace e := wIf_inv e
    obtain ⟨hc, e⟩ := e
    replace e := wSt_inv e
    obtain ⟨c, s, e⟩ := e
    have s2 := s.lo R
    obtain ⟨W, R⟩ := R
    cases e
    have hcW : SbW c := s.choose_spec.choose_spec.choose_spec.choose_spec.choose_spec.2.2.2.2.1
    have hcl : c.length < 100000 := s.choose_spec.choose_spec.choose_spec.choose_spec.choose_spec.2.2.2.2.2
    refine sb_step (c := c) R m hb hc hcW hcl fun h9 e9 cap9 g9 ml e0 h1 hx g1 g2 hl hc9 hk _ => ?_
    have nae : a ≠ e9 := by
      rintro rfl
      rw [g1] at g2; cases g2
    have s9 : StrAt h9 q c := s.keep R m (show (249 : Nat) ≠ 50 ∧ (249 : Nat) ≠ 150 ∧ (249 : Nat) ≠ 1010 ∧ (249 : Nat) ≠ 1011 by decide) hk
    have x := sb_appS (d := d + 6) s2 h1 (by omega) hx s9 g1 g2 (by omega) hc9
    refine ⟨_, x, ⟨rfl, rfl, rfl, fun p hp => ?_⟩, jm_s1, ?_⟩
    · rw [jm_s2 (fun z => hp (Or.inl z)), jm_s2 (fun z => hp (Or.inr z))]
    · rw [jm_s2 (Ne.symm nae), jm_s1, Int.toNat_natCast]
  · cases e
theorem pm_sbappI (R : RX Fo h H) : SimR Fo (pSBappI as H) (M (d + 12) 49003 as h) := by
  intro o H2 e
  unfold pSBappI at e
  split at e
  · rename_i a ii
    replace e := wSB_inv e
    obtain ⟨cap, b, m, hb, e⟩ := e
    replace e := wIf_inv e
    obtain ⟨⟨hc, i0, i1⟩, e⟩ := e
    have he := R.e
    obtain ⟨W, R⟩ := R
    have hn := R.1.1
    cases e
    obtain ⟨-, -, ⟨e7, f7, b1, b2, b3⟩, e8, f8, c1, c2, c3⟩ := R.2.2.2.2.2.2
    obtain ⟨dw, dl⟩ := dgs_W i0 i1
    refine sb_step (c := dgs ii.toInt) R m hb hc dw (by omega) fun h9 e9 cap9 g9 ml e0 h1 hx g1 g2 hl hc9 hk hje => ?_
    have nae : a ≠ e9 := by
      rintro rfl
      rw [g1] at g2; cases g2
    have k7 : jm h9 e7 = some (1011, 100, f7) := by
      have v := R.2.1 _ _ b2
      rw [hk e7 (Nat.lt_of_lt_of_eq v.1 hn.symm) (by rintro rfl; rw [m] at b2; cases b2) v.2.1]
      exact R.2.2.1 _ _ b2 rfl
    have k8 : jm h9 e8 = some (1011, 100, f8) := by
      have v := R.2.1 _ _ c2
      rw [hk e8 (Nat.lt_of_lt_of_eq v.1 hn.symm) (by rintro rfl; rw [m] at c2; cases c2) v.2.1]
      exact R.2.2.1 _ _ c2 rfl
    have x := sb_appI (d := d + 6) (i := ii.toInt) h1 (by omega) i0 i1 hx g1 g2 (by omega) hc9 (by rw [hje, he]; exact b1) k7 b3 (by rw [hje, he]; exact c1) k8 c3
    rw [zI_self] at x
    refine ⟨_, x, ⟨rfl, rfl, rfl, fun p hp => ?_⟩, jm_s1, ?_⟩
    · rw [jm_s2 (fun z => hp (Or.inl z)), jm_s2 (fun z => hp (Or.inr z))]
    · rw [jm_s2 (Ne.symm nae), jm_s1, Int.toNat_natCast]
  · cases e
theorem pm_sbstr (R : RX Fo h H) : SimR Fo (pSBstr as H) (M (d + 12) 49007 as h) := by
  intro o H2 e
  unfold pSBstr at e
  split at e
  · rename_i a
    replace e := wSB_inv e
    obtain ⟨cap, b, m, hb, e⟩ := e
    replace e := wIf_inv e
    obtain ⟨⟨hc, hlc⟩, e⟩ := e
    have R0 := R
    obtain ⟨W, R⟩ := R
    have hn := R.1.1
    have ha := Nat.lt_of_lt_of_eq (R.2.1 _ _ m).1 hn.symm
    obtain ⟨hl, hbw, e0, g, ml, h1, we, h2, hg⟩ := R.sb hb m
    have le0 : e0 < h.1 := Nat.lt_of_lt_of_eq (R.2.2.2.2.2.1 _ _ we) hn.symm
    cases e
    have x := sb_str (d := d + 6) h1 h2 ha le0 hlc hc hg
    rw [hn] at x
    exact ⟨_, x, (R0.push rfl).push rfl⟩
  · cases e
theorem pm_sbnewS (R : RX Fo h H) : SimR Fo (pSBnewS as H) (M (d + 12) 49901 as h) := by
  intro o H2 e
  unfold pSBnewS at e
  split at e
  · rename_i a q
    replace e := wIf_inv e
    obtain ⟨m, e⟩ := e
    replace e := wSt_inv e
    obtain ⟨c, s, e⟩ := e
    have m2 := R.get m rfl
    have s2 := s.lo R
    obtain ⟨W, R⟩ := R
    have hn := R.1.1
    have ha := Nat.lt_of_lt_of_eq (R.2.1 _ _ m).1 hn.symm
    have nh : a ≠ h.1 := Nat.ne_of_lt ha
    cases e
    have hcW : SbW c := s.choose_spec.choose_spec.choose_spec.choose_spec.choose_spec.2.2.2.2.1
    have hcl : c.length < 100000 := s.choose_spec.choose_spec.choose_spec.choose_spec.choose_spec.2.2.2.2.2
    have ta : (49 : Nat) ≠ 50 ∧ (49 : Nat) ≠ 150 ∧ (49 : Nat) ≠ 1010 ∧ (49 : Nat) ≠ 1011 := by decide
    have x := sb_newS (d := d + 3) (h := h) s2 m2 ha (fun c2 => s.keep R m ta fun p hp hpa _ => (jm_s2 hpa).trans ((jm_p2 (h := jset _ _ _) (Nat.ne_of_lt hp)).trans (jm_s2 hpa))) (s.keep R m ta fun p hp hpa _ => jm_s2 hpa) hcl
    refine ⟨_, x, R.up m (show 49 < 1000 by decide) rfl rfl rfl rfl (fun p hp hpa hw => ?_) (Or.inr (Or.inr (Or.inr ⟨_, c, rfl, by omega, hcW, h.1, _, zI 0, jm_s1, if_pos ⟨by omega, by omega⟩, (jm_s2 (Ne.symm nh)).trans jm_s1, fun k hk => ?_⟩)))⟩
    · have qh : p ≠ h.1 := Nat.ne_of_lt hp
      exact (jm_s2 hpa).trans ((jm_s2 qh).trans ((jm_s2 hpa).trans ((jm_p2 (h := jset _ _ _) qh).trans (jm_s2 hpa))))
    · unfold putB
      rw [if_pos (by omega), Nat.sub_zero]
  · cases e
theorem pse_inv {y : Nat} (h : pse y = true) : y ∈ [43000, 43002, 43005, 43008, 43010, 43011, 43016, 43017, 43900, 43901, 67001, 67002, 67003, 44000, 44002, 44005, 44007, 44008, 44900, 63000, 63006, 63007, 63010, 63011, 63900, 64000, 64001, 49000, 49001, 49003, 49007, 49900, 49901, 50008] := List.elem_iff.mp h
/-- the library's methods do with collections what is said -/
theorem prim_ok : PrimOK := by
  intro Fo d y as h H hy R
  have := pse_inv hy
  simp only [List.mem_cons, List.not_mem_nil, or_false] at this
  rcases this with rfl | rfl | rfl | rfl | rfl | rfl | rfl | rfl | rfl | rfl | rfl | rfl | rfl | rfl | rfl | rfl | rfl | rfl | rfl | rfl | rfl | rfl | rfl | rfl | rfl | rfl | rfl | rfl | rfl | rfl | rfl | rfl | rfl | rfl
  · exact pm_add R
  · exact pm_clear R
  · exact pm_get R
  · exact pm_index R
  · exact pm_empty R
  · exact pm_iter R
  · exact pm_set R
  · exact pm_size R
  · exact pm_new R
  · exact pm_newC R
  · exact pm_ithas R
  · exact pm_itnext R
  · exact pm_itrem R
  · exact pm_bscard R
  · exact pm_bsclear R
  · exact pm_bsget R
  · exact pm_bsnext R
  · exact pm_bsset R
  · exact pm_bsnew R
  · exact pm_dqadd R
  · exact pm_dqempty R
  · exact pm_dqiter R
  · exact pm_dqpoll R
  · exact pm_dqsize R
  · exact pm_dqnew R
  · exact pm_dihas R
  · exact pm_dinext R
  · exact pm_sbappC R
  · exact pm_sbappS R
  · exact pm_sbappI R
  · exact pm_sbstr R
  · exact pm_sbnew R
  · exact pm_sbnewS R
  · exact pm_streq R
/-- what the interpreter does with pseudo-cells it does with what they stand for -/
theorem sim_H {y : Nat} {as : List Value} {o : Out} {H2 : AH} (R : RX Fo h H) (e : M2 d y as H = some (o, H2)) : ∃ h2, M (d + 12) y as h = some (o, h2) ∧ RX Fo h2 H2 := sim2 prim_ok d y as h H R o H2 e
end
