/-! ArrayList: add, indexOf, iterators -/
-- jc_ref, rI_int, rR_ref, rR_null, rJ_long, ckR_ref, ckR_null, ckr_ref, ckr_null, ckW_int, ckW_ref, ckW_null, cI_ok, cR_ok, cR_null, cV_ok, cJ_ok, qH_eq, qD_in, aG_ref, aS_ref, aL_ref, pF_ref, cK_ref, cK_null, zI_lit, zJ_lit, zI_add, zI_sub, zI_mul, zI_neg, zI_eq, zI_lt, zI_le, Int.reduceLT, Int.reduceLE, Int.reduceAdd, Int.reduceSub, Int.reduceMul, Int.reduceNeg, Int.reduceEq, Int.reduceNe, reduceIte, jf_in, pFc_in, aGc_V, aLc_in, cKc_in, nA_in, jm_s1, jm_s2, jm_p1, jm_p2, ckR_is, ckr_is, rR_is, ckW_is, cR_is, obi, oAL_0, oAL_1, oAL_2, oALs_0, oALs_1, oALs_2 = jc_ref, rI_int, rR_ref, rR_null, rJ_long, ckR_ref, ckR_null, ckr_ref, ckr_null, ckW_int, ckW_ref, ckW_null, cI_ok, cR_ok, cR_null, cV_ok, cJ_ok, qH_eq, qD_in, aG_ref, aS_ref, aL_ref, pF_ref, cK_ref, cK_null, zI_lit, zJ_lit, zI_add, zI_sub, zI_mul, zI_neg, zI_eq, zI_lt, zI_le, Int.reduceLT, Int.reduceLE, Int.reduceAdd, Int.reduceSub, Int.reduceMul, Int.reduceNeg, Int.reduceEq, Int.reduceNe, reduceIte, jf_in, pFc_in, aGc_V, aLc_in, cKc_in, nA_in, jm_s1, jm_s2, jm_p1, jm_p2, ckR_is, ckr_is, rR_is, ckW_is, cR_is, obi, oAL_0, oAL_1, oAL_2, oALs_0, oALs_1, oALs_2
theorem getD_app {l : List Value} {v : Value} {k : Nat} : (l ++ [v]).getD k .null = if k = l.length then v else l.getD k .null := by
  rw [List.getD_eq_getElem?_getD, List.getD_eq_getElem?_getD]
  by_cases h1 : k < l.length
  · rw [List.getElem?_append_left h1, if_neg (by omega)]
  · by_cases h2 : k = l.length
    · subst h2; rw [if_pos rfl, List.getElem?_append_right (Nat.le_refl _), Nat.sub_self]; rfl
    · rw [if_neg h2, List.getElem?_eq_none (by simp; omega), List.getElem?_eq_none (by omega)]
theorem getD_in {l : List Value} {k : Nat} (h : k < l.length) : l.getD k .null ∈ l := by
  rw [List.getD_eq_getElem?_getD, List.getElem?_eq_getElem h]
  exact List.getElem_mem h
theorem getD_out {l : List Value} {k : Nat} (h : l.length ≤ k) : l.getD k .null = .null := by
  rw [List.getD_eq_getElem?_getD, List.getElem?_eq_none h]; rfl
section
variable {Fo : Nat → Option Cl} {h H : AH} {d : Nat} {as : List Value}
theorem pm_add (R : RX Fo h H) : SimR Fo (pALadd as H) (M (d + 12) 43000 as h) := by
  intro o H2 e
  unfold pALadd at e
  split at e
  · rename_i a v
    obtain ⟨cap, mc, l, m, e⟩ := wAL_inv e
    obtain ⟨⟨ok, hc⟩, e⟩ := wIf_inv e
    have ok2 := okE_H R ok
    have hv := okH_r ok2
    have he := R.e
    obtain ⟨W, R⟩ := R
    have hn := R.1.1
    have ha := (R.2.1 _ _ m)
    have ha1 : a < h.1 := Nat.lt_of_lt_of_eq ha.1 hn.symm
    have nh : a ≠ h.1 := Nat.ne_of_lt ha1
    obtain ⟨hl, hr, e0, g, h1, h2⟩ := R.al m
    have nea : a ≠ e0 := by
      rintro rfl
      rcases h2 with ⟨-, -, f, m2⟩ | ⟨-, -, m2, -⟩ <;> rw [h1] at m2 <;> cases m2
    have hm1 : ∀ v2 ∈ l ++ [v], isR v2 = true := fun v2 hv2 => by
      rcases List.mem_append.mp hv2 with hv2 | hv2
      · exact hr _ hv2
      · rw [List.mem_singleton.mp hv2]; exact hv
    have hll : (((l ++ [v]).length : Nat) : Int) = (l.length : Int) + 1 := by simp
    have ok3 : okH (jset h a (43, 3, oAL (mc + zI 1) e0 l.length)) v := okH_lo ok2 (show 43 < 1000 by decide)
    have h1' : jm (jset h a (43, 3, oAL (mc + zI 1) e0 l.length)) a = some (43, 3, oAL (mc + zI 1) e0 l.length) := jm_s1
    split at e
    · rename_i hlt
      rcases h2 with ⟨c0, -⟩ | ⟨c0, w, m2, hg⟩
      · omega
      · cases e
        have m2' : jm (jset h a (43, 3, oAL (mc + zI 1) e0 l.length)) e0 = some (1040, cap, g) := by rw [jm_s2 (Ne.symm nea)]; exact m2
        have hx := l_add2 (d := d + 10) (n := l.length) h1' m2' nea (by omega) (by omega) hc ok3
        refine ⟨_, l_add (d := d + 11) h1 hv hx, R.up0 m (show 243 < 1000 by decide) rfl rfl rfl rfl (fun q _ hq hw => ?_) (Or.inl ⟨_, _, _, rfl, by simp; omega, hm1, e0, ju g l.length v, ?_, Or.inr ⟨c0, w, ?_, fun k hk => ?_⟩⟩)⟩
        · rw [jm_s2 hq, jm_s2 (fun x => hw (by rw [x]; exact w)), jm_s2 hq]
        · rw [jm_s1, hll]; rfl
        · rw [jm_s2 (Ne.symm nea), jm_s1]; rfl
        · rw [getD_app]
          by_cases hk2 : k = l.length
          · subst hk2; rw [if_pos rfl, ju_self]
          · rw [if_neg hk2, ju_ne hk2, hg k hk]
    · rename_i hlt
      have hlc : l.length = cap := by omega
      rcases h2 with ⟨c0, je0, f, m2⟩ | ⟨c0, w, m2, hg⟩
      · cases e
        subst c0
        have hl0 : l = [] := List.eq_nil_of_length_eq_zero hlc
        subst hl0
        have m2' : jm (jset h a (43, 3, oAL (mc + zI 1) e0 0)) e0 = some (1041, 0, f) := by rw [jm_s2 (Ne.symm nea)]; exact m2
        have hgr := l_grow0 (d := d + 7) (mc := mc + zI 1) (e := e0) (h := jset h a (43, 3, oAL (mc + zI 1) e0 0)) jm_s1 m2' je0 ha1
        have ok4 : okH (jset (jpush (jset h a (43, 3, oAL (mc + zI 1) e0 0)) (1040, 10, fun _ => .null)) a (43, 3, oAL (mc + zI 1) h.1 0)) v := okH_lo (okH_push ok3) (show 43 < 1000 by decide)
        have hx := l_add3 (d := d + 10) (n := 0) (cap2 := 10) (g2 := fun _ => .null) m2' (Or.inr rfl) hgr jm_s1 jm_s1 ((jm_s2 (q := h.1) (Ne.symm nh)).trans jm_p1) nh (by omega) (by omega) (by omega) ok4
        refine ⟨_, l_add (d := d + 11) h1 hv hx, R.up m (show 243 < 1000 by decide) rfl rfl rfl rfl (fun q hq hqa hw => ?_) (Or.inl ⟨_, _, _, rfl, by simp [alCap], hm1, h.1, ju (fun _ => .null) 0 v, ?_, Or.inr ⟨by decide, if_pos ⟨by omega, by omega⟩, ?_, fun k hk => ?_⟩⟩)⟩
        · have qh : q ≠ h.1 := Nat.ne_of_lt hq
          exact (jm_s2 hqa).trans ((jm_s2 qh).trans ((jm_s2 hqa).trans ((jm_p2 (h := jset _ _ _) qh).trans (jm_s2 hqa))))
        · rw [jm_s1]; rfl
        · exact (jm_s2 (Ne.symm nh)).trans jm_s1
        · rw [getD_app]
          by_cases hk2 : k = 0
          · subst hk2; rw [ju_self]; rfl
          · rw [ju_ne hk2, if_neg (by simpa using hk2)]; rfl
      · cases e
        have hlc2 : (l.length : Int) = cap := by omega
        obtain ⟨rm0, hrm⟩ := R.2.2.2.2.2.2.1
        have m2' : jm (jset h a (43, 3, oAL (mc + zI 1) e0 l.length)) e0 = some (1040, cap, g) := by rw [jm_s2 (Ne.symm nea)]; exact m2
        have le0 : e0 < h.1 := Nat.lt_of_lt_of_eq (R.2.2.2.2.2.1 _ _ w) hn.symm
        have hgr := l_grow (d := d + 5) (q0 := rm0) (mc := mc + zI 1) (e := e0) (cap := cap) (h := jset h a (43, 3, oAL (mc + zI 1) e0 l.length)) (by rw [← hlc2]; exact jm_s1) m2' (by show je h 47 = _; rw [he]; exact hrm) ha1 le0 c0 hc
        have ok4 : okH (jset (jset (jpush (jset h a (43, 3, oAL (mc + zI 1) e0 l.length)) (1040, alCap cap, fun _ => .null)) h.1 (1040, alCap cap, jcpy g (fun _ => .null) 0 0 cap)) a (43, 3, oAL (mc + zI 1) h.1 cap)) v := okH_lo (okH_hi (okH_push ok3) jm_p1 (show 1000 ≤ 1040 by decide)) (show 43 < 1000 by decide)
        have hcap : cap < alCap cap := by unfold alCap; rw [if_neg (by omega)]; omega
        have hcap2 : alCap cap < 200000 := by unfold alCap; rw [if_neg (by omega)]; omega
        have hx := l_add3 (d := d + 10) (n := cap) (cap2 := alCap cap) (g2 := jcpy g (fun _ => .null) 0 0 cap) (e := e0) (t := 1040) (g := g) (by simpa using m2') (Or.inl rfl) hgr (by rw [← hlc2]; exact jm_s1) jm_s1 ((jm_s2 (q := h.1) (Ne.symm nh)).trans jm_s1) nh (by omega) (by omega) hcap2 ok4
        rw [← hlc2] at hx
        refine ⟨_, l_add (d := d + 11) h1 hv hx, R.up m (show 243 < 1000 by decide) rfl rfl rfl rfl (fun q hq hqa hw => ?_) (Or.inl ⟨_, _, _, rfl, by simp; omega, hm1, h.1, ju (jcpy g (fun _ => .null) 0 0 cap) cap v, ?_, Or.inr ⟨by omega, if_pos ⟨by omega, by omega⟩, ?_, fun k hk => ?_⟩⟩)⟩
        · have qh : q ≠ h.1 := Nat.ne_of_lt hq
          exact (jm_s2 hqa).trans ((jm_s2 qh).trans ((jm_s2 hqa).trans ((jm_s2 qh).trans ((jm_p2 (h := jset _ _ _) qh).trans (jm_s2 hqa)))))
        · rw [jm_s1, hll]; rfl
        · refine (jm_s2 (Ne.symm nh)).trans ?_
          rw [hlc2]
          exact jm_s1
        · rw [getD_app]
          by_cases hk2 : k = l.length
          · rw [if_pos hk2, hk2, hlc, ju_self]
          · rw [if_neg hk2, ju_ne (by omega)]
            unfold jcpy
            by_cases hk3 : k < cap
            · rw [if_pos (by omega)]
              show g (0 + (k - 0)) = _
              rw [show 0 + (k - 0) = k by omega, hg k hk3]
            · rw [if_neg (by omega), getD_out (by omega)]
  · cases e
end
