/-! ArrayList: what a list's methods do to the cell that stands for it -/
-- jc_ref, rI_int, rR_ref, rR_null, rJ_long, ckR_ref, ckR_null, ckr_ref, ckr_null, ckW_int, ckW_ref, ckW_null, cI_ok, cR_ok, cR_null, cV_ok, cJ_ok, qH_eq, qD_in, aG_ref, aS_ref, aL_ref, pF_ref, cK_ref, cK_null, zI_lit, zJ_lit, zI_add, zI_sub, zI_mul, zI_neg, zI_eq, zI_lt, zI_le, Int.reduceLT, Int.reduceLE, Int.reduceAdd, Int.reduceSub, Int.reduceMul, Int.reduceNeg, Int.reduceEq, Int.reduceNe, reduceIte, jf_in, pFc_in, aGc_V, aLc_in, cKc_in, nA_in, jm_s1, jm_s2, jm_p1, jm_p2, ckR_is, ckr_is, rR_is, ckW_is, cR_is, obi, oAL_0, oAL_1, oAL_2, oALs_0, oALs_1, oALs_2 = jc_ref, rI_int, rR_ref, rR_null, rJ_long, ckR_ref, ckR_null, ckr_ref, ckr_null, ckW_int, ckW_ref, ckW_null, cI_ok, cR_ok, cR_null, cV_ok, cJ_ok, qH_eq, qD_in, aG_ref, aS_ref, aL_ref, pF_ref, cK_ref, cK_null, zI_lit, zJ_lit, zI_add, zI_sub, zI_mul, zI_neg, zI_eq, zI_lt, zI_le, Int.reduceLT, Int.reduceLE, Int.reduceAdd, Int.reduceSub, Int.reduceMul, Int.reduceNeg, Int.reduceEq, Int.reduceNe, reduceIte, jf_in, pFc_in, aGc_V, aLc_in, cKc_in, nA_in, jm_s1, jm_s2, jm_p1, jm_p2, ckR_is, ckr_is, rR_is, ckW_is, cR_is, obi, oAL_0, oAL_1, oAL_2, oALs_0, oALs_1, oALs_2
theorem zI_self {x : Int32} : zI x.toInt = x := Int32.ofInt_toInt x
section
variable {d : Nat} {h h3 : AH} {a e e2 cap cap2 t : Nat} {g g2 : Nat → Value} {mc : Int32} {n : Int} {v : Value}
theorem l_add3 (h2 : jm h e = some (t, n.toNat, g)) (ht : t = 1040 ∨ t = 1041) (hg : M d 43006 [.ref a] h = some (.inl (some (.ref e2)), h3)) (h1 : jm h a = some (43, 3, oAL mc e n)) (g1 : jm h3 a = some (43, 3, oAL mc e2 n)) (g3 : jm h3 e2 = some (1040, cap2, g2)) (hne : a ≠ e2) (n0 : 0 ≤ n) (n1 : n < cap2) (hc : cap2 < 200000) (ok : okH h3 v) :
    M (d + 1) 43001 [.ref a, v, .ref e, .int (zI n)] h = some (.inl none, jset (jset h3 e2 (1040, cap2, ju g2 n.toNat v)) a (43, 3, oAL mc e2 (n + 1))) := by
  have hv := okH_r ok
  have e3 := fun (κ : AH → Rz) (u : Ph κ) => aSr_in (κ := κ) (u := u) g3 ok n0 (by omega) (by omega)
  rw [X43001 h hv rfl (jrecv_in h1 rfl), E43001_0]
  have hl : ((n.toNat : Nat) : Int) = n := by omega
  rcases ht with rfl | rfl
  · simp (disch := first | assumption | omega | decide | exact okF_i | exact okF_r | exact okF_n | exact okF_j | rfl) only [jc_ref, rI_int, rR_ref, rR_null, rJ_long, ckR_ref, ckR_null, ckr_ref, ckr_null, ckW_int, ckW_ref, ckW_null, cI_ok, cR_ok, cR_null, cV_ok, cJ_ok, qH_eq, qD_in, aG_ref, aS_ref, aL_ref, pF_ref, cK_ref, cK_null, zI_lit, zJ_lit, zI_add, zI_sub, zI_mul, zI_neg, zI_eq, zI_lt, zI_le, Int.reduceLT, Int.reduceLE, Int.reduceAdd, Int.reduceSub, Int.reduceMul, Int.reduceNeg, Int.reduceEq, Int.reduceNe, reduceIte, aLc_in, h2, hl]
    rw [hg]
    simp (disch := first | assumption | omega | decide | exact okF_i | exact okF_r | exact okF_n | exact okF_j | rfl) only [jc_ref, rI_int, rR_ref, rR_null, rJ_long, ckR_ref, ckR_null, ckr_ref, ckr_null, ckW_int, ckW_ref, ckW_null, cI_ok, cR_ok, cR_null, cV_ok, cJ_ok, qH_eq, qD_in, aG_ref, aS_ref, aL_ref, pF_ref, cK_ref, cK_null, zI_lit, zJ_lit, zI_add, zI_sub, zI_mul, zI_neg, zI_eq, zI_lt, zI_le, Int.reduceLT, Int.reduceLE, Int.reduceAdd, Int.reduceSub, Int.reduceMul, Int.reduceNeg, Int.reduceEq, Int.reduceNe, reduceIte, jf_in, pFc_in, aGc_V, aLc_in, cKc_in, nA_in, jm_s1, jm_s2, jm_p1, jm_p2, ckR_is, ckr_is, rR_is, ckW_is, cR_is, obi, oAL_0, oAL_1, oAL_2, oALs_0, oALs_1, oALs_2, e3, jm_s2, g1]
  · simp (disch := first | assumption | omega | decide | exact okF_i | exact okF_r | exact okF_n | exact okF_j | rfl) only [jc_ref, rI_int, rR_ref, rR_null, rJ_long, ckR_ref, ckR_null, ckr_ref, ckr_null, ckW_int, ckW_ref, ckW_null, cI_ok, cR_ok, cR_null, cV_ok, cJ_ok, qH_eq, qD_in, aG_ref, aS_ref, aL_ref, pF_ref, cK_ref, cK_null, zI_lit, zJ_lit, zI_add, zI_sub, zI_mul, zI_neg, zI_eq, zI_lt, zI_le, Int.reduceLT, Int.reduceLE, Int.reduceAdd, Int.reduceSub, Int.reduceMul, Int.reduceNeg, Int.reduceEq, Int.reduceNe, reduceIte, aLc_in, h2, hl]
    rw [hg]
    simp (disch := first | assumption | omega | decide | exact okF_i | exact okF_r | exact okF_n | exact okF_j | rfl) only [jc_ref, rI_int, rR_ref, rR_null, rJ_long, ckR_ref, ckR_null, ckr_ref, ckr_null, ckW_int, ckW_ref, ckW_null, cI_ok, cR_ok, cR_null, cV_ok, cJ_ok, qH_eq, qD_in, aG_ref, aS_ref, aL_ref, pF_ref, cK_ref, cK_null, zI_lit, zJ_lit, zI_add, zI_sub, zI_mul, zI_neg, zI_eq, zI_lt, zI_le, Int.reduceLT, Int.reduceLE, Int.reduceAdd, Int.reduceSub, Int.reduceMul, Int.reduceNeg, Int.reduceEq, Int.reduceNe, reduceIte, jf_in, pFc_in, aGc_V, aLc_in, cKc_in, nA_in, jm_s1, jm_s2, jm_p1, jm_p2, ckR_is, ckr_is, rR_is, ckW_is, cR_is, obi, oAL_0, oAL_1, oAL_2, oALs_0, oALs_1, oALs_2, e3, jm_s2, g1]
theorem l_add (h1 : jm h a = some (43, 3, oAL mc e n)) (hv : isR v = true) (hx : M d 43001 [.ref a, v, .ref e, .int (zI n)] (jset h a (43, 3, oAL (mc + zI 1) e n)) = some (.inl none, h3)) : M (d + 1) 43000 [.ref a, v] h = some (.inl (some (.int 1)), h3) := by
  rw [X43000 h hv (jrecv_in h1 rfl), E43000_0]
  simp (disch := first | assumption | omega | decide | exact okF_i | exact okF_r | exact okF_n | exact okF_j | rfl) only [jc_ref, rI_int, rR_ref, rR_null, rJ_long, ckR_ref, ckR_null, ckr_ref, ckr_null, ckW_int, ckW_ref, ckW_null, cI_ok, cR_ok, cR_null, cV_ok, cJ_ok, qH_eq, qD_in, aG_ref, aS_ref, aL_ref, pF_ref, cK_ref, cK_null, zI_lit, jf_in, pFc_in, h1, jm_s1, oAL_0, oAL_1, oAL_2, oALs_0, ckR_is, hx]
end
section
variable {Fo : Nat → Option Cl} {h H : AH} {d : Nat} {as : List Value}
theorem pm_size (R : RX Fo h H) : SimR Fo (pALsize as H) (M (d + 12) 43017 as h) := by
  intro o H2 e
  unfold pALsize at e
  split at e
  · obtain ⟨cap, mc, l, m, e⟩ := wAL_inv e
    obtain ⟨W, R⟩ := R
    obtain ⟨-, -, e0, g, h1, -⟩ := R.al m
    cases e
    exact ⟨h, l_size (d := d + 11) h1, W, R⟩
  · cases e
theorem pm_empty (R : RX Fo h H) : SimR Fo (pALempty as H) (M (d + 12) 43010 as h) := by
  intro o H2 e
  unfold pALempty at e
  split at e
  · obtain ⟨cap, mc, l, m, e⟩ := wAL_inv e
    obtain ⟨hc, e⟩ := wIf_inv e
    obtain ⟨W, R⟩ := R
    obtain ⟨hl, -, e0, g, h1, -⟩ := R.al m
    cases e
    refine ⟨h, (l_empty (d := d + 11) h1 (by omega) (by omega)).trans ?_, W, R⟩
    cases l with
    | nil => rfl
    | cons x r =>
      rw [if_neg (by simp only [List.length_cons]; omega)]
      rfl
  · cases e
theorem pm_get (R : RX Fo h H) : SimR Fo (pALget as H) (M (d + 12) 43005 as h) := by
  intro o H2 e
  unfold pALget at e
  split at e
  · rename_i a i
    obtain ⟨cap, mc, l, m, e⟩ := wAL_inv e
    obtain ⟨⟨hc, i0, i1⟩, e⟩ := wIf_inv e
    obtain ⟨W, R⟩ := R
    obtain ⟨hl, hr, e0, g, h1, h2⟩ := R.al m
    cases e
    rcases h2 with ⟨c0, -⟩ | ⟨c0, w, m2, hg⟩
    · omega
    · have g0 := hg i.toInt.toNat (by omega)
      have hi : isR (g i.toInt.toNat) = true := by
        rw [g0, List.getD_eq_getElem?_getD, List.getElem?_eq_getElem (by omega)]
        exact hr _ (List.getElem_mem _)
      have := l_get (d := d + 9) (i := i.toInt) h1 m2 i0 i1 (by omega) hc hi
      rw [zI_self, g0] at this
      exact ⟨h, this, W, R⟩
  · cases e
theorem pm_set (R : RX Fo h H) : SimR Fo (pALset as H) (M (d + 12) 43016 as h) := by
  intro o H2 e
  unfold pALset at e
  split at e
  · rename_i a i v
    obtain ⟨cap, mc, l, m, e⟩ := wAL_inv e
    obtain ⟨⟨hc, ok, i0, i1⟩, e⟩ := wIf_inv e
    have ok2 := okE_H R ok
    obtain ⟨W, R⟩ := R
    obtain ⟨hl, hr, e0, g, h1, h2⟩ := R.al m
    cases e
    rcases h2 with ⟨c0, -⟩ | ⟨c0, w, m2, hg⟩
    · omega
    · have g0 := hg i.toInt.toNat (by omega)
      have hi : isR (g i.toInt.toNat) = true := by
        rw [g0, List.getD_eq_getElem?_getD, List.getElem?_eq_getElem (by omega)]
        exact hr _ (List.getElem_mem _)
      have := l_set (d := d + 9) (i := i.toInt) h1 m2 i0 i1 (by omega) hc hi ok2
      rw [zI_self, g0] at this
      have nea : a ≠ e0 := by
        rintro rfl
        rw [h1] at m2; cases m2
      refine ⟨_, this, R.up0 m (show 243 < 1000 by decide) rfl rfl rfl rfl (fun q _ hq hw => jm_s2 (fun x => hw (x ▸ w))) (Or.inl ⟨_, _, _, rfl, by rw [List.length_set]; exact hl, fun x hx => ?_, e0, _, (jm_s2 nea).trans (by rw [List.length_set]; exact h1), Or.inr ⟨c0, w, jm_s1, fun k hk => ?_⟩⟩)⟩
      · rcases List.mem_or_eq_of_mem_set hx with hx | rfl
        · exact hr _ hx
        · exact okH_r ok2
      · by_cases hki : k = i.toInt.toNat
        · subst hki
          rw [ju_self, List.getD_eq_getElem?_getD, List.getElem?_set_self (by omega)]
          rfl
        · rw [ju_ne hki, hg k hk, List.getD_eq_getElem?_getD, List.getD_eq_getElem?_getD, List.getElem?_set_ne (Ne.symm hki)]
  · cases e
theorem pm_new (R : RX Fo h H) : SimR Fo (pALnew as H) (M (d + 12) 43900 as h) := by
  intro o H2 e
  unfold pALnew at e
  split at e
  · rename_i a
    obtain ⟨m, e⟩ := wIf_inv e
    have m2 := R.get m rfl
    have he := R.e
    obtain ⟨W, R⟩ := R
    obtain ⟨rm, ⟨e0, f0, r7, r8⟩, -⟩ := R.2.2.2.2.2.2
    cases e
    have hm8 := R.2.2.1 _ _ r8 rfl
    have na : e0 ≠ a := by
      rintro rfl
      rw [m] at r8; cases r8
    refine ⟨_, l_new (d := d + 8) m2 (by rw [he]; exact r7), R.up0 m (show 43 < 1000 by decide) rfl rfl rfl rfl (fun q _ hq hw => jm_s2 hq) (Or.inl ⟨0, 0, [], rfl, Nat.le_refl _, fun v hv => (by cases hv), e0, fun _ => .null, jm_s1, Or.inl ⟨rfl, ?_, f0, ?_⟩⟩)⟩
    · show je h 0 = _
      rw [he]; exact r7
    · rw [jm_s2 na]; exact hm8
  · cases e
theorem pm_newC (R : RX Fo h H) : SimR Fo (pALnewC as H) (M (d + 12) 43901 as h) := by
  intro o H2 e
  unfold pALnewC at e
  split at e
  · rename_i a i
    obtain ⟨⟨m, i0, i1⟩, e⟩ := wIf_inv e
    have m2 := R.get m rfl
    obtain ⟨W, R⟩ := R
    have hn := R.1.1
    have ha := (R.2.1 _ _ m).1
    cases e
    have := l_newC (d := d + 8) (i := i.toInt) m2 (by omega) i0 i1
    rw [zI_self] at this
    refine ⟨_, this, R.up m (show 43 < 1000 by decide) rfl rfl rfl rfl (fun q hq hqa hw => ?_) (Or.inl ⟨_, 0, [], rfl, Nat.zero_le _, fun v hv => (by cases hv), h.1, fun _ => .null, jm_s1, Or.inr ⟨by omega, if_pos ⟨by omega, by omega⟩, ?_, fun k _ => by simp⟩⟩)⟩
    · rw [jm_s2 hqa, jm_p2 (h := jset _ _ _) (show q ≠ h.1 by omega), jm_s2 hqa]
    · rw [jm_s2 (by omega)]; exact jm_p1
  · cases e
theorem pm_clear (R : RX Fo h H) : SimR Fo (pALclear as H) (M (d + 12) 43002 as h) := by
  intro o H2 e
  unfold pALclear at e
  split at e
  · rename_i a
    obtain ⟨cap, mc, l, m, e⟩ := wAL_inv e
    obtain ⟨hc, e⟩ := wIf_inv e
    obtain ⟨W, R⟩ := R
    obtain ⟨hl, hr, e0, g, h1, h2⟩ := R.al m
    cases e
    have nea : e0 ≠ a := by
      rintro rfl
      rcases h2 with ⟨-, -, f, m2⟩ | ⟨-, -, m2, -⟩ <;> rw [h1] at m2 <;> cases m2
    have hx : (l.length : Int) = 0 ∨ (jm h e0 = some (1040, cap, g) ∧ (l.length : Int) ≤ cap) := by
      rcases h2 with ⟨c0, -⟩ | ⟨-, -, m2, -⟩
      · exact Or.inl (by omega)
      · exact Or.inr ⟨m2, by omega⟩
    obtain ⟨h3, g2, e1, ⟨o1, o2, o3, o4⟩, m3, m4, hg⟩ := l_clear (d := d + 11) h1 hx nea hc (by omega)
    have hw0 : (l.length : Int) ≠ 0 → W e0 = a + 1 := fun q => by
      rcases h2 with ⟨c0, -⟩ | ⟨-, w, -, -⟩
      · exact absurd (show (l.length : Int) = 0 by omega) q
      · exact w
    refine ⟨h3, e1, R.up0 m (show 243 < 1000 by decide) rfl o1 o2 o3 (fun q _ hq hw => o4 q ?_) (Or.inl ⟨cap, mc + 1, [], rfl, Nat.zero_le _, fun v hv => (by cases hv), e0, g2, m3, ?_⟩)⟩
    · rintro (x | ⟨x, y⟩)
      · exact hq x
      · exact hw (x ▸ hw0 y)
    · rcases h2 with ⟨c0, je0, f, m2⟩ | ⟨c0, w, m2, hgl⟩
      · refine Or.inl ⟨c0, ?_, f, ?_⟩
        · show h3.2.2.1 0 = _
          rw [o3]; exact je0
        · rw [o4 e0]
          · exact m2
          · rintro (x | ⟨-, y⟩)
            · exact nea x
            · omega
      · by_cases n0 : (l.length : Int) = 0
        · refine Or.inr ⟨c0, w, ?_, fun k hk => ?_⟩
          · rw [o4 e0, m2]
            · have : g2 = g := funext fun k => (hg k).1 (by omega)
              rw [this]
            · rintro (x | ⟨-, y⟩)
              · exact nea x
              · exact y n0
          · rw [(hg k).1 (by omega), hgl k hk]
            have : l = [] := List.eq_nil_of_length_eq_zero (by omega)
            rw [this]
        · refine Or.inr ⟨c0, w, m4 n0, fun k hk => ?_⟩
          show g2 k = .null
          by_cases hk2 : k < (l.length : Int).toNat
          · exact (hg k).2 hk2
          · rw [(hg k).1 (by omega), hgl k hk, List.getD_eq_getElem?_getD, List.getElem?_eq_none (by omega)]
            rfl
  · cases e
end
