/-! a statement that finds rows is laid out: the walk -/
-- jc_ref, rI_int, rR_ref, rR_null, rJ_long, ckR_ref, ckR_null, ckr_ref, ckr_null, ckW_int, ckW_ref, ckW_null, cI_ok, cR_ok, cR_null, cV_ok, cJ_ok, qH_eq, qD_in, aG_ref, aS_ref, aL_ref, pF_ref, cK_ref, cK_null, zI_lit, zJ_lit, zI_add, zI_sub, zI_mul, zI_neg, zI_eq, zI_lt, zI_le, Int.reduceLT, Int.reduceLE, Int.reduceAdd, Int.reduceSub, Int.reduceMul, Int.reduceNeg, Int.reduceEq, Int.reduceNe, reduceIte, jf_in, pFc_in, aGi, aGb, aSi, aLc_in, cKc_in, nA_in, jm_s1, jm_s2, jm_p1, jm_p2, jm_b, jn_b, jn_s, jn_p, jset_jset, jset_jpush2, ckR_is, ckr_is, rR_is, ckW_is, cR_is, obi2, ckW_int, eq_self, if_true, ref_null, if_false, ne_eq, not_true_eq_false, not_false_eq_true, decide_true, decide_false, decide_not, Bool.true_and, Bool.false_and, Bool.and_true, Bool.and_false, Bool.true_or, Bool.false_or, Bool.or_true, Bool.or_false, Bool.not_true, Bool.not_false, Bool.false_eq_true, bI_t, bI_f, Int.natCast_one, Int.cast_ofNat_Int, Int.natCast_zero, o23_0, o23_1, o23_2, n23, o23s_0, o23s_1, o23s_2, o12_0, o12_1, o13_0, o13_1, o13_2, o13_3, o13_4, o13_5, o13_6, o14_0, o14_1, o14_2, o14_3, o14_4, o14_5, o3_0, o3_1, o3_2, o3_3, o3_4, o11_0, o11_1, o11_2, o11_3, o4_0, o4_1, o4_2, o4_3, o4_4, o4_5, o4_6, o5_0, o5_1, o5_2, o5_3, o5_4, o5_5, n5, o5s_0, o5s_1, o5s_2, o5s_3, o5s_4, o5s_5, o17_0, o17_1, o19_0, o19_1, o21_0, o21_1, o21_2, o21_3, o22_0, o22_1, o22_2, o22_3, o22_4, o22_5, n22, o22s_0, o22s_1, o22s_2, o22s_3, o22s_4, o22s_5 = jc_ref, rI_int, rR_ref, rR_null, rJ_long, ckR_ref, ckR_null, ckr_ref, ckr_null, ckW_int, ckW_ref, ckW_null, cI_ok, cR_ok, cR_null, cV_ok, cJ_ok, qH_eq, qD_in, aG_ref, aS_ref, aL_ref, pF_ref, cK_ref, cK_null, zI_lit, zJ_lit, zI_add, zI_sub, zI_mul, zI_neg, zI_eq, zI_lt, zI_le, Int.reduceLT, Int.reduceLE, Int.reduceAdd, Int.reduceSub, Int.reduceMul, Int.reduceNeg, Int.reduceEq, Int.reduceNe, reduceIte, jf_in, pFc_in, aGi, aGb, aSi, aLc_in, cKc_in, nA_in, jm_s1, jm_s2, jm_p1, jm_p2, jm_b, jn_b, jn_s, jn_p, jset_jset, jset_jpush2, ckR_is, ckr_is, rR_is, ckW_is, cR_is, obi2, ckW_int, eq_self, if_true, ref_null, if_false, ne_eq, not_true_eq_false, not_false_eq_true, decide_true, decide_false, decide_not, Bool.true_and, Bool.false_and, Bool.and_true, Bool.and_false, Bool.true_or, Bool.false_or, Bool.or_true, Bool.or_false, Bool.not_true, Bool.not_false, Bool.false_eq_true, bI_t, bI_f, Int.natCast_one, Int.cast_ofNat_Int, Int.natCast_zero, o23_0, o23_1, o23_2, n23, o23s_0, o23s_1, o23s_2, o12_0, o12_1, o13_0, o13_1, o13_2, o13_3, o13_4, o13_5, o13_6, o14_0, o14_1, o14_2, o14_3, o14_4, o14_5, o3_0, o3_1, o3_2, o3_3, o3_4, o11_0, o11_1, o11_2, o11_3, o4_0, o4_1, o4_2, o4_3, o4_4, o4_5, o4_6, o5_0, o5_1, o5_2, o5_3, o5_4, o5_5, n5, o5s_0, o5s_1, o5s_2, o5s_3, o5s_4, o5s_5, o17_0, o17_1, o19_0, o19_1, o21_0, o21_1, o21_2, o21_3, o22_0, o22_1, o22_2, o22_3, o22_4, o22_5, n22, o22s_0, o22s_1, o22s_2, o22s_3, o22s_4, o22s_5
section
variable {F : Nat → Option Cl} {d : Nat} {H H2 : AH} {a b e p q qd vb wm we : Nat} {r t c k n f v x to : Int} {cs S L nm : Int → Int} {ra : Int → Nat} {wl : Nat} {g bs : Nat → Bool} {w : WS} {sp : Int → Int} {P : Nat → Prop} {ins on : Int} {l1 l2 l3 : List Value}
theorem cnt_go {D : Int → Int} (hG : GS g D) (hw : 1 ≤ wl ∧ wl ≤ 2 ∧ ∀ k, 64 * wl ≤ k → g k = false) : (cntB g (64 * wl) 0 : Int) = goC D 99 0 := by
  have hi : ∀ (n k : Nat), (∀ j, k ≤ j → g j = false) → cntB g n k = 0 := by
    intro n
    induction n with
    | zero => intro k _; rfl
    | succ n ih => intro k hk; simp only [cntB]; rw [hk k (Nat.le_refl _), ih (k + 1) fun j hj => hk j (by omega)]; rfl
  have key : ∀ (m n k : Nat), k + m = 99 → 99 ≤ k + n ∨ (∀ j, k + n ≤ j → g j = false) → (cntB g n k : Int) = goC D m k := by
    intro m
    induction m with
    | zero =>
      intro n k hk _
      rw [hi n k fun j hj => hG.2 j (by omega)]; rfl
    | succ m ih =>
      intro n k hk hn
      have gk := (hG.1 k (by omega) (by omega)).1
      rw [Int.toNat_natCast] at gk
      cases n with
      | zero =>
        have hf : ∀ j, k ≤ j → g j = false := fun j hj => by
          rcases hn with hn | hn
          · exact hG.2 j (by omega)
          · exact hn j (by omega)
        have all : ∀ (m : Nat) (i : Nat), k ≤ i → i + m = 99 → goC D m i = 0 := by
          intro m
          induction m with
          | zero => intro i _ _; rfl
          | succ m ih2 =>
            intro i hi1 hi2
            have gi := (hG.1 i (by omega) (by omega)).1
            rw [Int.toNat_natCast, hf i hi1] at gi
            have : D i < 0 := by have := of_decide_eq_false gi.symm; omega
            have nx := ih2 (i + 1) (by omega) (by omega)
            simp only [goC]
            rw [if_pos this, show (i : Int) + 1 = ((i + 1 : Nat) : Int) by omega, nx]
            rfl
        rw [all (m + 1) k (Nat.le_refl _) hk]; rfl
      | succ n =>
        have nx := ih n (k + 1) (by omega) (by rcases hn with h | h; exact Or.inl (by omega); exact Or.inr fun j hj => h j (by omega))
        simp only [cntB, goC]
        rw [show (k : Int) + 1 = ((k + 1 : Nat) : Int) by omega, ← nx, gk]
        by_cases c : 0 ≤ D k
        · rw [decide_eq_true c, if_pos rfl, if_neg (by omega)]; omega
        · rw [decide_eq_false c, if_neg (by decide), if_pos (by omega)]; omega
  have := key 99 (64 * wl) 0 (by omega) (by
    rcases Nat.lt_or_ge 1 wl with h | h
    · exact Or.inl (by omega)
    · exact Or.inr fun j hj => hw.2.2 j (by omega))
  exact this
/-- what is meant: rows go, or cells are wanted -/
theorem p_meant (h : PlW F H q a p S nm ra wl (fun _ => false) w sp) (hG : GS (fun _ => false) sp) (hs : ∀ r, 0 ≤ r → r < 99 → sp r = -1) (hB : StmF F b S L to) (hL : LnW S L to) (h12 : L to = 1 ∨ L to = 2) {A : List Int} (hA : ∀ x ∈ A, AlS S x) (hn : A.Nodup) {cap : Nat} (hD : DqH H qd cap ra A) (lq : qd < H.1) (hqd : F qd = none ∧ ¬ StP a qd ∧ ¬ PlP p qd) :
    ∃ (H2 : AH) (g2 : Nat → Bool) (wl2 : Nat) (D : Int → Int), MvH (d + 7) 9111 [.ref b, .ref p, .ref qd] H = some (.inl none, H2) ∧ PlW F H2 q a p S nm ra wl2 g2 (setL L to A w) D ∧ GS g2 D ∧ BfsW S (fun r => L to = 1 ∧ r ∈ A) D ∧ Fr H H2 (fun z => PlP p z ∨ z = qd) ∧ H2.1 + (2 - wl2) ≤ H.1 + 1 + (2 - wl) + dqP cap ∧ H2.2.1 + 2 * (2 - wl2) ≤ H.2.1 + 4 + 2 * (2 - wl) + dqS cap := by
  have W := h.2.2.1
  obtain ⟨-, ⟨t0, t1⟩, -, le⟩ := hL
  obtain ⟨C, E⟩ := le (by omega)
  have n0 := W.n0.1
  have co := W.co t0 (by omega)
  rcases hB with ⟨e0, -⟩ | ⟨-, we, hW, hB⟩
  · omega
  · rcases hB with ⟨e1, e2, hb⟩ | ⟨e1, ce, ve, m, gc, gv, hb, hc, hv, hm, hg⟩
    · have hb' := h.1.m hb
      have p0 := h.2.2.2.2.1.1
      have sl : ∀ (A : List Int) (w : WS), setL L to A w = w := by
        intro A
        induction A with
        | nil => intro w; rfl
        | cons x s ih =>
          intro w
          show setL L to s (setW L to x (L (to + 2)).toNat 0 w) = w
          rw [e2]
          exact ih w
      rw [sl]
      obtain ⟨H2, g2, wl2, D, x1, x2, x3, x4, x5, x6, x7⟩ := p_lets (d := d) h hG hs hA hn hD lq hqd
      have mv : MvH (d + 7) 9111 [.ref b, .ref p, .ref qd] H = M2 (d + 7) 19000 [.ref b, .ref p, .ref qd] H := by simp only [MvH, hb']; rfl
      refine ⟨H2, g2, wl2, D, ?_, x2, x3, ?_, x5, x6, x7⟩
      · rw [mv, Y19000 H rfl rfl (jrecv_in hb' rfl), F19000_0]
        simp (disch := first | assumption | omega | decide | exact okF_i | exact okF_r | exact okF_n | exact okF_j | rfl) only [jc_ref, rI_int, rR_ref, rR_null, rJ_long, ckR_ref, ckR_null, ckr_ref, ckr_null, ckW_int, ckW_ref, ckW_null, cI_ok, cR_ok, cR_null, cV_ok, cJ_ok, qH_eq, qD_in, aG_ref, aS_ref, aL_ref, pF_ref, cK_ref, cK_null, zI_lit, zJ_lit, zI_add, zI_sub, zI_mul, zI_neg, zI_eq, zI_lt, zI_le, Int.reduceLT, Int.reduceLE, Int.reduceAdd, Int.reduceSub, Int.reduceMul, Int.reduceNeg, Int.reduceEq, Int.reduceNe, reduceIte, jf_in, pFc_in, aGi, aGb, aSi, aLc_in, cKc_in, nA_in, jm_s1, jm_s2, jm_p1, jm_p2, jm_b, jn_b, jn_s, jn_p, jset_jset, jset_jpush2, ckR_is, ckr_is, rR_is, ckW_is, cR_is, obi2, ckW_int, eq_self, if_true, ref_null, if_false, ne_eq, not_true_eq_false, not_false_eq_true, decide_true, decide_false, decide_not, Bool.true_and, Bool.false_and, Bool.and_true, Bool.and_false, Bool.true_or, Bool.false_or, Bool.or_true, Bool.or_false, Bool.not_true, Bool.not_false, Bool.false_eq_true, bI_t, bI_f, Int.natCast_one, Int.cast_ofNat_Int, Int.natCast_zero, o23_0, o23_1, o23_2, n23, o23s_0, o23s_1, o23s_2, o12_0, o12_1, o13_0, o13_1, o13_2, o13_3, o13_4, o13_5, o13_6, o14_0, o14_1, o14_2, o14_3, o14_4, o14_5, o3_0, o3_1, o3_2, o3_3, o3_4, o11_0, o11_1, o11_2, o11_3, o4_0, o4_1, o4_2, o4_3, o4_4, o4_5, o4_6, o5_0, o5_1, o5_2, o5_3, o5_4, o5_5, n5, o5s_0, o5s_1, o5s_2, o5s_3, o5s_4, o5s_5, o17_0, o17_1, o19_0, o19_1, o21_0, o21_1, o21_2, o21_3, o22_0, o22_1, o22_2, o22_3, o22_4, o22_5, n22, o22s_0, o22s_1, o22s_2, o22s_3, o22s_4, o22s_5, x1]
      · have : (fun r => L to = 1 ∧ r ∈ A) = fun r => r ∈ A := funext fun r => propext ⟨fun z => z.2, fun z => ⟨e1, z⟩⟩
        rw [this]; exact x4
    · have hb' := h.1.m hb
      obtain ⟨H2, x1, x2, x3, x4, x5⟩ := p_sets (d := d + 3) hb hc hv hm hg E (by omega) hA h hD lq hqd.2.2
      have mv : MvH (d + 7) 9111 [.ref b, .ref p, .ref qd] H = M2 (d + 7) 21000 [.ref b, .ref p, .ref qd] H := by simp only [MvH, hb']; rfl
      refine ⟨H2, _, wl, sp, mv.trans x1, x2, hG, ⟨fun r r0 r1 => ⟨by rw [hs r r0 r1]; exact Int.le_refl _, fun _ => hs r r0 r1⟩, fun r _ z => by omega, fun r ha _ z => ?_, fun r q ha he hq => ?_⟩, x3.mono fun _ _ z => Or.inl z, by omega, by omega⟩
      · rw [hs r ha.1 ha.2.1] at z; omega
      · rw [hs q he.al.1 he.al.2.1] at hq; omega
theorem StmF.fnd (hB : StmF F b S L to) (hL : LnW S L to) (W : StW S) (h12 : L to = 1 ∨ L to = 2) : ∃ we, FndF F b we S L to := by
  obtain ⟨-, ⟨t0, t1⟩, -, le⟩ := hL
  have n0 := W.n0.1
  rcases hB with ⟨e0, -⟩ | ⟨-, we, hW, hB⟩
  · omega
  · refine ⟨we, ?_, hW, ⟨t0, by omega⟩, (le (by omega)).1⟩
    rcases hB with ⟨e1, e2, hb⟩ | ⟨e1, ce, ve, m, gc, gv, hb, -⟩
    · exact ⟨19, 2, _, Or.inl rfl, hb, rfl, rfl⟩
    · exact ⟨21, 4, _, Or.inr rfl, hb, rfl, rfl⟩
/-- Finds.lays -/
theorem p_finds {ll : Nat} (h : PlW F H q a p S nm ra wl (fun _ => false) w sp) (hG : GS (fun _ => false) sp) (hs : ∀ r, 0 ≤ r → r < 99 → sp r = -1) (hcw : ColW S w) (hB : StmF F b S L to) (hL : LnW S L to) (h12 : L to = 1 ∨ L to = 2) (hSH : SH H a (.ref q) ins on l1 l2 l3 wm bs) (hRo : RowsF F l1 S 150 348 ra) (hFa : F (a + 1) = none) (hv : VdH H vb 0 0 0 0 0 ll) (hvb : F vb = none ∧ ¬ StP a vb ∧ ¬ PlP p vb) :
    ∃ (H2 : AH) (g2 : Nat → Bool) (wl2 : Nat) (D : Int → Int) (w' : WS), M2 (d + 8) 18002 [.ref b, .ref p, .ref vb, .ref a] H = some (.inl none, H2) ∧ Fzn F H2 ∧ PH H2 p a wl2 g2 w' D ∧ GS g2 D ∧ BfsW S (fun r => L to = 1 ∧ r ∈ fndL S L to (alv S 150 99 0)) D ∧
      (((setL L to (fndL S L to (alv S 150 99 0)) w).2.1 = 0 ∧ LstW S g2 (setL L to (fndL S L to (alv S 150 99 0)) w) w') ∨ ((setL L to (fndL S L to (alv S 150 99 0)) w).2.1 = 1 ∧ w'.2.1 = 1)) ∧ ColW S w' ∧
      (w'.2.1 = 1 → VdH H2 vb 5 (fndL S L to (alv S 150 99 0)).length (goC D 99 0) 0 0 ll ∧ SH H2 a (.ref q) ins on l1 l2 l3 wm bs) ∧
      (w'.2.1 = 0 → VdH H2 vb 0 (fndL S L to (alv S 150 99 0)).length (goC D 99 0) (chgL S g2 w' (alv S 150 99 0)) (goC D 99 0 + chgL S g2 w' (alv S 150 99 0)) ll ∧ ∃ rb : Int → Nat, SH H2 a (.ref q) ins on (((alv S 150 99 0).filter fun x => !g2 x.toNat).map fun r => .ref (rb r)) l2 l3 wm bs ∧ ∀ x ∈ alv S 150 99 0, g2 x.toNat = false → (chB S w' x = false ∧ rb x = ra x) ∨ (chB S w' x = true ∧ RowH H2 (rb x) H.1 x (S (249 + x)) (celW (cellS S x) w' x))) ∧
      Fr H H2 (fun z => PlP p z ∨ z = a + 1 ∨ z = vb) ∧ H2.1 + (2 - wl2) ≤ H.1 + 86 + (2 - wl) ∧ H2.2.1 + 2 * (2 - wl2) ≤ H.2.1 + 418 + 2 * (2 - wl) := by
  have W := h.2.2.1
  have hle := alv_le W
  obtain ⟨we, hFn⟩ := hB.fnd hL W h12
  have hAl : ∀ x ∈ alv S 150 99 0, AlS S x := fun x hx => by have := (alv_mem 99 0 x).mp hx; unfold AlS; omega
  have hA : ∀ x ∈ fndL S L to (alv S 150 99 0), AlS S x := fnd_al hAl
  have hnd : (fndL S L to (alv S 150 99 0)).Nodup := (alv_nd 99 0).filter _
  have hlen : (fndL S L to (alv S 150 99 0)).length ≤ 40 := Nat.le_trans (List.length_filter_le _ _) hle
  have hft : ∀ x ∈ fndL S L to (alv S 150 99 0), 0 ≤ x ∧ x < 99 ∧ S (249 + x) = L (to + 1) := fun x hx => by
    have a1 := hA x hx
    have a2 := (List.mem_filter.mp hx).2
    unfold fndS at a2
    rw [Bool.and_eq_true, rowOf_t] at a2
    exact ⟨a1.1, a1.2.1, a2.1.2⟩
  have hE := (hL.2.2.2 (by omega)).2
  have hb0 : ∃ (tg sz : Nat) (fc : Nat → Value), (tg = 19 ∨ tg = 21) ∧ F b = some (tg, sz, fc) := by
    obtain ⟨⟨tg, sz, fc, x1, x2, -⟩, -⟩ := hFn
    exact ⟨tg, sz, fc, x1, x2⟩
  obtain ⟨tg, sz, fc, htg, hb⟩ := hb0
  have hb' := h.1.m hb
  obtain ⟨H1, cap, f1, f2, f3, f4, f5, f6, f7⟩ := c_found (d := d + 2) hFn h
  generalize fndL S L to (alv S 150 99 0) = A at *
  obtain ⟨⟨hd, hhd, mq⟩, hcp, hql⟩ := id f3
  have qz := h_qsize (d := d + 6) mq (by omega)
  have ml : (A.map fun r => (Value.ref (ra r) : Value)).length = A.length := List.length_map _
  rw [ml] at qz
  have hqd : F H.1 = none ∧ ¬ StP a H.1 ∧ ¬ PlP p H.1 := by
    have p9 := h.2.2.2.2.1.2.2.2.2.1
    have s9 := hSH.2.2.2.2.2.1
    refine ⟨?_, by unfold StP; omega, by unfold PlP; omega⟩
    cases hh : F H.1 with
    | none => rfl
    | some c => exact absurd (h.1.lt hh) (Nat.lt_irrefl _)
  -- found is told
  have v1 := hv.fr f4 id
  obtain ⟨HA, hHA⟩ : ∃ HA, HA = jset H1 vb (22, 6, o22 0 A.length 0 0 0 (.ref ll)) := ⟨_, rfl⟩
  have fA : Fr H1 HA (fun z => z = vb) := by rw [hHA]; exact Fr.set rfl
  have hAP : PlW F HA q a p S nm ra wl (fun _ => false) w sp := f2.ot fA fun z hz => by rw [hz]; exact hvb
  have hqv : H.1 ≠ vb := Nat.ne_of_gt hv.2
  have hAD : DqH HA H.1 cap ra A := f3.fr fA f5 hqv
  have HA1 : HA.1 = H1.1 := by rw [hHA]; rfl
  have HA2 : HA.2.1 = H1.2.1 := by rw [hHA]; rfl
  have vA : VdH HA vb 0 A.length 0 0 0 ll := ⟨by rw [hHA]; exact jm_s1, by rw [HA1]; exact v1.2⟩
  obtain ⟨H3, g2, wl2, D, m1, m2, m3, m4, m5, m6, m7⟩ := p_meant (d := d) hAP hG hs hB hL h12 hA hnd hAD (by omega) hqd
  obtain ⟨H4, w', s1, s2, s3, s4, s5, s6⟩ := p_spreads (d := d + 2) m2
  have hcol : ColW S w' := by
    have c0 : ColW S (setL L to A w) := ColW_setL W hE A w hft hcw
    rcases s3 with ⟨-, e, -⟩ | ⟨-, e, -⟩
    · rw [e]; exact ColW_itr W 397 _ c0
    · rw [e]; exact ColW_comL W _ _ (fun x hx => ⟨(hAl x hx).1, (hAl x hx).2.1⟩) c0
  have ph4 := s2.2.2.2.2.1
  obtain ⟨q0, q1, q2, q3, q4, q5, q6⟩ := id ph4
  have card := h_bcard (d := d + 6) q1 (by have := q5.2.1; omega)
  rw [cnt_go m3 q5] at card
  have gcr := goC_rg (Go := D) 99 0
  have nv : ∀ z, (PlP p z ∨ z = H.1) → z ≠ vb := fun z hz e => by
    subst e
    rcases hz with hz | hz
    · exact hvb.2.2 hz
    · exact hqv hz.symm
  have v3 := vA.fr m5 fun z => nv vb z rfl
  have v4 := v3.fr s4 fun z => hvb.2.2 z
  obtain ⟨HB, hHB⟩ : ∃ HB, HB = jset H4 vb (22, 6, o22 0 A.length (goC D 99 0) 0 0 (.ref ll)) := ⟨_, rfl⟩
  have fB : Fr H4 HB (fun z => z = vb) := by rw [hHB]; exact Fr.set rfl
  have hBP : PlW F HB q a p S nm ra wl2 g2 w' D := s2.ot fB fun z hz => by rw [hz]; exact hvb
  have HB1 : HB.1 = H4.1 := by rw [hHB]; rfl
  have HB2 : HB.2.1 = H4.2.1 := by rw [hHB]; rfl
  have vB : jm HB vb = some (22, 6, o22 0 A.length (goC D 99 0) 0 0 (.ref ll)) := by rw [hHB]; exact jm_s1
  have qB := hBP.2.2.2.2.1.1
  have frB : Fr H HB (fun z => PlP p z ∨ z = vb) := Fr.new (f4.mono fun _ _ z => z.elim) ((fA.mono fun _ _ z => Or.inl (Or.inr z)).tr ((m5.mono fun z _ hz => hz.elim (fun hz => Or.inl (Or.inl hz)) (fun hz => Or.inr (by omega))).tr ((s4.mono fun _ _ z => Or.inl (Or.inl z)).tr (fB.mono fun _ _ z => Or.inl (Or.inr z)))))
  have dis : ∀ z, StP a z → ¬ (PlP p z ∨ z = vb) := fun z hz h2 => by
    rcases h2 with h2 | h2
    · have := h.2.2.2.2.2.2; unfold StP at hz; unfold PlP at h2; omega
    · exact hvb.2.1 (h2 ▸ hz)
  have hSB := hSH.fr frB dis
  have vlB : vb < HB.1 := Nat.lt_of_lt_of_le v4.2 fB.1
  have v1' := v1.1
  have v4' := v4.1
  have rcv := jrecv_in (y := 18002) (as := [.ref p, .ref vb, .ref a]) hb' (by rcases htg with rfl | rfl <;> rfl)
  rcases q6.2.1 with hc | hc
  · have chd := p_changed (d := d + 3) hBP
    obtain ⟨HD, hHD⟩ : ∃ HD, HD = jset HB vb (22, 6, o22 0 A.length (goC D 99 0) (chgL S g2 w' (alv S 150 99 0)) (goC D 99 0 + chgL S g2 w' (alv S 150 99 0)) (.ref ll)) := ⟨_, rfl⟩
    have fD : Fr HB HD (fun z => z = vb) := by rw [hHD]; exact Fr.set rfl
    have hDP : PlW F HD q a p S nm ra wl2 g2 w' D := hBP.ot fD fun z hz => by rw [hz]; exact hvb
    have hSD := hSB.fr fD fun z hz h2 => dis z hz (Or.inr h2)
    have HD1 : HD.1 = HB.1 := by rw [hHD]; rfl
    have HD2 : HD.2.1 = HB.2.1 := by rw [hHD]; rfl
    obtain ⟨H5, rb, i1, i2, i3, i4, i5, i6, i7, i8⟩ := p_isDone (d := d + 2) hDP hSD hRo hFa
    have va1 : vb ≠ a + 1 := by rintro rfl; exact hvb.2.1 (by unfold StP; omega)
    have v5 : VdH H5 vb 0 A.length (goC D 99 0) (chgL S g2 w' (alv S 150 99 0)) (goC D 99 0 + chgL S g2 w' (alv S 150 99 0)) ll := VdH.fr (H := HD) ⟨by rw [hHD]; exact jm_s1, by omega⟩ i6 va1
    refine ⟨H5, g2, wl2, D, w', ?_, i2, i4, m3, m4, ?_, hcol, fun z => by omega, fun _ => ⟨v5, rb, i3, fun x hx hg => ?_⟩, (frB.mono fun z _ hz => hz.elim Or.inl fun hz => Or.inr (Or.inr hz)).tr ((fD.mono fun _ _ z => Or.inr (Or.inr z)).tr (i6.mono fun _ _ z => Or.inr (Or.inl z))), by omega, by omega⟩
    · rw [Y18002 H rfl rfl rfl rcv, F18002_0]
      simp (disch := first | assumption | omega | decide | exact okF_i | exact okF_r | exact okF_n | exact okF_j | rfl) only [jc_ref, rI_int, rR_ref, rR_null, rJ_long, ckR_ref, ckR_null, ckr_ref, ckr_null, ckW_int, ckW_ref, ckW_null, cI_ok, cR_ok, cR_null, cV_ok, cJ_ok, qH_eq, qD_in, aG_ref, aS_ref, aL_ref, pF_ref, cK_ref, cK_null, zI_lit, zJ_lit, zI_add, zI_sub, zI_mul, zI_neg, zI_eq, zI_lt, zI_le, Int.reduceLT, Int.reduceLE, Int.reduceAdd, Int.reduceSub, Int.reduceMul, Int.reduceNeg, Int.reduceEq, Int.reduceNe, reduceIte, jf_in, pFc_in, aGi, aGb, aSi, aLc_in, cKc_in, nA_in, jm_s1, jm_s2, jm_p1, jm_p2, jm_b, jn_b, jn_s, jn_p, jset_jset, jset_jpush2, ckR_is, ckr_is, rR_is, ckW_is, cR_is, obi2, ckW_int, eq_self, if_true, ref_null, if_false, ne_eq, not_true_eq_false, not_false_eq_true, decide_true, decide_false, decide_not, Bool.true_and, Bool.false_and, Bool.and_true, Bool.and_false, Bool.true_or, Bool.false_or, Bool.or_true, Bool.or_false, Bool.not_true, Bool.not_false, Bool.false_eq_true, bI_t, bI_f, Int.natCast_one, Int.cast_ofNat_Int, Int.natCast_zero, o23_0, o23_1, o23_2, n23, o23s_0, o23s_1, o23s_2, o12_0, o12_1, o13_0, o13_1, o13_2, o13_3, o13_4, o13_5, o13_6, o14_0, o14_1, o14_2, o14_3, o14_4, o14_5, o3_0, o3_1, o3_2, o3_3, o3_4, o11_0, o11_1, o11_2, o11_3, o4_0, o4_1, o4_2, o4_3, o4_4, o4_5, o4_6, o5_0, o5_1, o5_2, o5_3, o5_4, o5_5, n5, o5s_0, o5s_1, o5s_2, o5s_3, o5s_4, o5s_5, o17_0, o17_1, o19_0, o19_1, o21_0, o21_1, o21_2, o21_3, o22_0, o22_1, o22_2, o22_3, o22_4, o22_5, n22, o22s_0, o22s_1, o22s_2, o22s_3, o22s_4, o22s_5, f1, qz, v1', ← hHA, m1, s1, q0, card, v4', ← hHB, qB, hc, chd, vB, ← hHD, i1]
    · rcases s3 with ⟨e1, -, e3⟩ | ⟨e1, -, e3⟩
      · exact Or.inl ⟨e1, e3⟩
      · exact Or.inr ⟨e1, e3⟩
    · rcases i5 x hx hg with hh | ⟨h1, e, gg, a1, a2, a3, a4, a5, a6, a7⟩
      · exact Or.inl hh
      · have := frB.1
        exact Or.inr ⟨h1, e, gg, a1, a2, a3, by omega, a5, by omega, a7⟩
  · refine ⟨jset HB vb (22, 6, o22 5 A.length (goC D 99 0) 0 0 (.ref ll)), g2, wl2, D, w', ?_, ?_, ?_, m3, m4, ?_, hcol, fun _ => ⟨⟨jm_s1, vlB⟩, ?_⟩, fun z => by omega, ?_, ?_, ?_⟩
    · rw [Y18002 H rfl rfl rfl rcv, F18002_0]
      simp (disch := first | assumption | omega | decide | exact okF_i | exact okF_r | exact okF_n | exact okF_j | rfl) only [jc_ref, rI_int, rR_ref, rR_null, rJ_long, ckR_ref, ckR_null, ckr_ref, ckr_null, ckW_int, ckW_ref, ckW_null, cI_ok, cR_ok, cR_null, cV_ok, cJ_ok, qH_eq, qD_in, aG_ref, aS_ref, aL_ref, pF_ref, cK_ref, cK_null, zI_lit, zJ_lit, zI_add, zI_sub, zI_mul, zI_neg, zI_eq, zI_lt, zI_le, Int.reduceLT, Int.reduceLE, Int.reduceAdd, Int.reduceSub, Int.reduceMul, Int.reduceNeg, Int.reduceEq, Int.reduceNe, reduceIte, jf_in, pFc_in, aGi, aGb, aSi, aLc_in, cKc_in, nA_in, jm_s1, jm_s2, jm_p1, jm_p2, jm_b, jn_b, jn_s, jn_p, jset_jset, jset_jpush2, ckR_is, ckr_is, rR_is, ckW_is, cR_is, obi2, ckW_int, eq_self, if_true, ref_null, if_false, ne_eq, not_true_eq_false, not_false_eq_true, decide_true, decide_false, decide_not, Bool.true_and, Bool.false_and, Bool.and_true, Bool.and_false, Bool.true_or, Bool.false_or, Bool.or_true, Bool.or_false, Bool.not_true, Bool.not_false, Bool.false_eq_true, bI_t, bI_f, Int.natCast_one, Int.cast_ofNat_Int, Int.natCast_zero, o23_0, o23_1, o23_2, n23, o23s_0, o23s_1, o23s_2, o12_0, o12_1, o13_0, o13_1, o13_2, o13_3, o13_4, o13_5, o13_6, o14_0, o14_1, o14_2, o14_3, o14_4, o14_5, o3_0, o3_1, o3_2, o3_3, o3_4, o11_0, o11_1, o11_2, o11_3, o4_0, o4_1, o4_2, o4_3, o4_4, o4_5, o4_6, o5_0, o5_1, o5_2, o5_3, o5_4, o5_5, n5, o5s_0, o5s_1, o5s_2, o5s_3, o5s_4, o5s_5, o17_0, o17_1, o19_0, o19_1, o21_0, o21_1, o21_2, o21_3, o22_0, o22_1, o22_2, o22_3, o22_4, o22_5, n22, o22s_0, o22s_1, o22s_2, o22s_3, o22s_4, o22s_5, f1, qz, v1', ← hHA, m1, s1, q0, card, v4', ← hHB, qB, hc, vB]
    · exact hBP.1.fr (P := fun z => z = vb) (Fr.set rfl) fun z hz => by rw [hz]; exact hvb.1
    · exact hBP.2.2.2.2.1.fr (P := fun z => z = vb) (Fr.set rfl) fun z hz h2 => hvb.2.2 (h2 ▸ hz)
    · rcases s3 with ⟨e1, -, e3⟩ | ⟨e1, -, e3⟩
      · exact Or.inl ⟨e1, e3⟩
      · exact Or.inr ⟨e1, e3⟩
    · exact hSB.fr (P := fun z => z = vb) (Fr.set rfl) fun z hz h2 => dis z hz (Or.inr h2)
    · exact (frB.mono fun z _ hz => hz.elim Or.inl fun hz => Or.inr (Or.inr hz)).tr (Fr.set (Or.inr (Or.inr rfl)))
    · show HB.1 + (2 - wl2) ≤ _
      omega
    · show HB.2.1 + 2 * (2 - wl2) ≤ _
      omega
end
