/-! what the twin judges, told without its loops -/
section
variable {S S2 L A Go Go2 : Int → Int} {w w2 : WS} {to : Int} {g : Nat → Bool}
theorem fndS_al {r : Int} (h : fndS S L to r = true) : S (150 + r) = 1 := by
  unfold fndS at h
  rw [Bool.and_eq_true, rowOf_t] at h
  exact h.1.1
theorem fdL_eq : ∀ (j : Nat) (r : Int) (x : FS), (fdL S L to j r x).1 = x.1 + (fndL S L to (alv S 150 j r)).length ∧ (∀ k, (fdL S L to j r x).2.1 k = if L to = 1 ∧ k ∈ fndL S L to (alv S 150 j r) then 0 else x.2.1 k) ∧ (fdL S L to j r x).2.2 = setL L to (fndL S L to (alv S 150 j r)) x.2.2
  | 0, r, x => ⟨by simp [fdL, alv, fndL], fun k => by simp [fdL, alv, fndL], rfl⟩
  | j + 1, r, x => by
    have e : fdL S L to (j + 1) r x = fdL S L to j (r + 1) (if fndS S L to r = true then (x.1 + 1, if L to = 1 then fset x.2.1 r 0 else x.2.1, setW L to r (L (to + 2)).toNat 0 x.2.2) else x) := rfl
    by_cases c : fndS S L to r = true
    · have ea : fndL S L to (alv S 150 (j + 1) r) = r :: fndL S L to (alv S 150 j (r + 1)) := by
        simp only [alv]
        rw [if_pos (fndS_al c)]
        unfold fndL
        rw [List.filter_cons, if_pos c]
      rw [e, if_pos c, ea]
      obtain ⟨i1, i2, i3⟩ := fdL_eq j (r + 1) (x.1 + 1, if L to = 1 then fset x.2.1 r 0 else x.2.1, setW L to r (L (to + 2)).toNat 0 x.2.2)
      refine ⟨?_, fun k => ?_, i3⟩
      · rw [i1, List.length_cons]
        show x.1 + 1 + _ = _
        omega
      · rw [i2 k]
        by_cases h1 : L to = 1
        · simp only [h1, true_and, if_true, List.mem_cons]
          by_cases hk : k ∈ fndL S L to (alv S 150 j (r + 1))
          · rw [if_pos hk, if_pos (Or.inr hk)]
          · rw [if_neg hk]
            by_cases hr : k = r
            · rw [if_pos (Or.inl hr), hr, fset_eq]
            · rw [fset_ne hr, if_neg (by rintro (z | z); exact hr z; exact hk z)]
        · simp only [h1, false_and, if_false]
    · have ea : fndL S L to (alv S 150 (j + 1) r) = fndL S L to (alv S 150 j (r + 1)) := by
        simp only [alv]
        by_cases h : S (150 + r) = 1
        · rw [if_pos h]
          unfold fndL
          rw [List.filter_cons, if_neg c]
        · rw [if_neg h]
      rw [e, if_neg c, ea]
      exact fdL_eq j (r + 1) x
/-- one row's cells -/
theorem doC_at {r : Int} : ∀ (j : Nat) (c : Int) (x : SB), (∀ i, (doC w r j c x).1 i = if 348 + 4 * r + c ≤ i ∧ i < 348 + 4 * r + c + j ∧ isOth x.1 w r (i - (348 + 4 * r)) = true then w.1 (4 * r + (i - (348 + 4 * r))) else x.1 i) ∧ (doC w r j c x).2 = (x.2 || anyF (fun c => isOth x.1 w r c) j c)
  | 0, c, x => ⟨fun i => by rw [if_neg (by omega)]; rfl, by simp [doC, anyF]⟩
  | j + 1, c, x => by
    have e : doC w r (j + 1) c x = doC w r j (c + 1) (if isOth x.1 w r c = true then (fset x.1 (348 + 4 * r + c) (w.1 (4 * r + c)), true) else x) := rfl
    by_cases h : isOth x.1 w r c = true
    · rw [e, if_pos h]
      obtain ⟨i1, i2⟩ := doC_at j (c + 1) (fset x.1 (348 + 4 * r + c) (w.1 (4 * r + c)), true)
      have same : ∀ c', c' ≠ c → isOth (fset x.1 (348 + 4 * r + c) (w.1 (4 * r + c))) w r c' = isOth x.1 w r c' := fun c' hc => by
        unfold isOth cellS
        rw [fset_ne (by omega)]
      have anys : ∀ (j : Nat) (k : Int), c < k → anyF (fun c' => isOth (fset x.1 (348 + 4 * r + c) (w.1 (4 * r + c))) w r c') j k = anyF (fun c => isOth x.1 w r c) j k := by
        intro j
        induction j with
        | zero => intro k _; rfl
        | succ j ih =>
          intro k hk
          simp only [anyF]
          rw [same k (by omega), ih (k + 1) (by omega)]
      refine ⟨fun i => ?_, ?_⟩
      · rw [i1 i]
        show (if 348 + 4 * r + (c + 1) ≤ i ∧ i < 348 + 4 * r + (c + 1) + j ∧ isOth (fset x.1 (348 + 4 * r + c) (w.1 (4 * r + c))) w r (i - (348 + 4 * r)) = true then _ else fset x.1 (348 + 4 * r + c) (w.1 (4 * r + c)) i) = _
        by_cases hi : i = 348 + 4 * r + c
        · subst hi
          rw [if_neg (by omega), fset_eq, if_pos ⟨by omega, by omega, by rw [show 348 + 4 * r + c - (348 + 4 * r) = c by omega]; exact h⟩, show 348 + 4 * r + c - (348 + 4 * r) = c by omega]
        · rw [same _ (by omega), fset_ne hi]
          by_cases hc : 348 + 4 * r + (c + 1) ≤ i ∧ i < 348 + 4 * r + (c + 1) + j ∧ isOth x.1 w r (i - (348 + 4 * r)) = true
          · rw [if_pos hc, if_pos ⟨by omega, by omega, hc.2.2⟩]
          · rw [if_neg hc, if_neg (fun z => hc ⟨by omega, by omega, z.2.2⟩)]
      · rw [i2]
        show (true || _) = _
        simp only [anyF, h, Bool.true_or, Bool.or_true]
    · rw [e, if_neg h]
      obtain ⟨i1, i2⟩ := doC_at j (c + 1) x
      refine ⟨fun i => ?_, ?_⟩
      · rw [i1 i]
        by_cases hi : i = 348 + 4 * r + c
        · subst hi
          rw [if_neg (by omega), if_neg (by rintro ⟨-, -, z⟩; rw [show 348 + 4 * r + c - (348 + 4 * r) = c by omega] at z; exact h z)]
        · by_cases hc : 348 + 4 * r + (c + 1) ≤ i ∧ i < 348 + 4 * r + (c + 1) + j ∧ isOth x.1 w r (i - (348 + 4 * r)) = true
          · rw [if_pos hc, if_pos ⟨by omega, by omega, hc.2.2⟩]
          · rw [if_neg hc, if_neg (fun z => hc ⟨by omega, by omega, z.2.2⟩)]
      · rw [i2]
        simp only [anyF, Bool.eq_false_iff.mpr h, Bool.false_or]
/-- all is done: alive and cells of the rows -/
theorem doR_at (W : StW S) (hG : GoG Go g) : ∀ (j : Nat) (r : Int) (x : LQ), 0 ≤ r → r + j = 99 → (∀ i, i < 148 ∨ (249 ≤ i ∧ i < 348) ∨ (150 + r ≤ i ∧ i < 249) ∨ (348 + 4 * r ≤ i ∧ i < 744) → x.1 i = S i) →
    (∀ i, i < 150 + r ∨ (249 ≤ i ∧ i < 348 + 4 * r) ∨ 744 ≤ i → (doR w Go j r x).1 i = x.1 i) ∧ (∀ k, r ≤ k → k < 99 → (doR w Go j r x).1 (150 + k) = if g k.toNat = true then 0 else S (150 + k)) ∧ (∀ k c, r ≤ k → k < 99 → 0 ≤ c → c < 4 → (doR w Go j r x).1 (348 + 4 * k + c) = if S (150 + k) = 1 ∧ g k.toNat = false ∧ c < S (4 + S (249 + k)) ∧ isOth S w k c = true then w.1 (4 * k + c) else S (348 + 4 * k + c)) ∧ (doR w Go j r x).2 = x.2 + chgL S g w (alv S 150 j r)
  | 0, r, x, r0, hr, hx => ⟨fun _ _ => rfl, fun k a b => by omega, fun k c a b => by omega, by simp [doR, alv, chgL]⟩
  | j + 1, r, x, r0, hr, hx => by
    have e : doR w Go (j + 1) r x = doR w Go j (r + 1) (if x.1 (150 + r) = 0 then x else if 0 ≤ Go r then (fset x.1 (150 + r) 0, x.2) else ((doC w r (x.1 (4 + x.1 (249 + r))).toNat 0 (x.1, false)).1, x.2 + bZ (doC w r (x.1 (4 + x.1 (249 + r))).toNat 0 (x.1, false)).2)) := rfl
    have al := W.al r0 (show r < 99 by omega)
    have TA := W.ta r0 (show r < 99 by omega)
    have CO := W.co TA.1 TA.2
    have g0 := hG r r0 (by omega)
    have xa : x.1 (150 + r) = S (150 + r) := hx _ (by omega)
    have xt : x.1 (249 + r) = S (249 + r) := hx _ (by omega)
    have xc : x.1 (4 + S (249 + r)) = S (4 + S (249 + r)) := hx _ (by omega)
    have xo : ∀ c, 0 ≤ c → c < 4 → isOth x.1 w r c = isOth S w r c := fun c c0 c1 => by
      unfold isOth cellS
      rw [hx _ (by omega)]
    have av : alv S 150 (j + 1) r = if S (150 + r) = 1 then r :: alv S 150 j (r + 1) else alv S 150 j (r + 1) := rfl
    rw [e, av]
    by_cases h0 : S (150 + r) = 0
    · rw [if_pos (by rw [xa]; exact h0), if_neg (by omega)]
      obtain ⟨i1, i2, i3, i4⟩ := doR_at W hG j (r + 1) x (by omega) (by omega) (fun i hi => hx i (by omega))
      refine ⟨fun i hi => i1 i (by omega), fun k k0 k1 => ?_, fun k c k0 k1 c0 c1 => ?_, i4⟩
      · by_cases hk : k = r
        · subst hk
          rw [i1 _ (by omega), xa, h0]
          split <;> rfl
        · exact i2 k (by omega) k1
      · by_cases hk : k = r
        · subst hk
          rw [i1 _ (by omega), hx _ (by omega), if_neg (by omega)]
        · exact i3 k c (by omega) k1 c0 c1
    · have h1 : S (150 + r) = 1 := by omega
      rw [if_neg (by rw [xa]; exact h0), if_pos h1]
      by_cases hg : 0 ≤ Go r
      · rw [if_pos hg]
        rw [decide_eq_true hg] at g0
        obtain ⟨i1, i2, i3, i4⟩ := doR_at W hG j (r + 1) (fset x.1 (150 + r) 0, x.2) (by omega) (by omega) (fun i hi => by
          show fset x.1 (150 + r) 0 i = _
          rw [fset_ne (by omega)]; exact hx i (by omega))
        refine ⟨fun i hi => ?_, fun k k0 k1 => ?_, fun k c k0 k1 c0 c1 => ?_, ?_⟩
        · rw [i1 i (by omega)]; exact fset_ne (by omega)
        · by_cases hk : k = r
          · subst hk
            rw [i1 _ (by omega), g0, if_pos rfl]; exact fset_eq
          · exact i2 k (by omega) k1
        · by_cases hk : k = r
          · subst hk
            rw [i1 _ (by omega), g0, if_neg (by simp)]
            show fset x.1 (150 + k) 0 _ = _
            rw [fset_ne (by omega), hx _ (by omega)]
          · exact i3 k c (by omega) k1 c0 c1
        · rw [i4]
          show x.2 + _ = x.2 + ((if g r.toNat = false ∧ chB S w r = true then 1 else 0) + chgL S g w (alv S 150 j (r + 1)))
          rw [g0, if_neg (by simp)]
          omega
      · rw [if_neg hg]
        rw [decide_eq_false hg] at g0
        obtain ⟨d1, d2⟩ := doC_at (w := w) (r := r) (x.1 (4 + x.1 (249 + r))).toNat 0 (x.1, false)
        rw [xt, xc] at d1 d2 ⊢
        have d2' : (doC w r (S (4 + S (249 + r))).toNat 0 (x.1, false)).2 = chB S w r := by
          rw [d2, Bool.false_or]
          unfold chB
          have : ∀ (j : Nat) (k : Int), 0 ≤ k → k + j ≤ 4 → anyF (fun c => isOth x.1 w r c) j k = anyF (fun c => isOth S w r c) j k := by
            intro j
            induction j with
            | zero => intro k _ _; rfl
            | succ j ih => intro k k0 hk; simp only [anyF]; rw [xo k k0 (by omega), ih (k + 1) (by omega) (by omega)]
          exact this _ 0 (Int.le_refl _) (by omega)
        obtain ⟨i1, i2, i3, i4⟩ := doR_at W hG j (r + 1) ((doC w r (S (4 + S (249 + r))).toNat 0 (x.1, false)).1, x.2 + bZ (doC w r (S (4 + S (249 + r))).toNat 0 (x.1, false)).2) (by omega) (by omega) (fun i hi => by
          show (doC w r (S (4 + S (249 + r))).toNat 0 (x.1, false)).1 i = _
          rw [d1 i, if_neg (by omega)]
          exact hx i (by omega))
        refine ⟨fun i hi => ?_, fun k k0 k1 => ?_, fun k c k0 k1 c0 c1 => ?_, ?_⟩
        · rw [i1 i (by omega)]
          show (doC w r (S (4 + S (249 + r))).toNat 0 (x.1, false)).1 i = _
          rw [d1 i, if_neg (by omega)]
        · by_cases hk : k = r
          · subst hk
            rw [i1 _ (by omega), g0, if_neg (by decide)]
            show (doC w k (S (4 + S (249 + k))).toNat 0 (x.1, false)).1 _ = _
            rw [d1, if_neg (by omega)]
            exact xa
          · exact i2 k (by omega) k1
        · by_cases hk : k = r
          · subst hk
            rw [i1 _ (by omega)]
            show (doC w k (S (4 + S (249 + k))).toNat 0 (x.1, false)).1 _ = _
            rw [d1, show 348 + 4 * k + c - (348 + 4 * k) = c by omega]
            by_cases hc : c < S (4 + S (249 + k)) ∧ isOth S w k c = true
            · rw [if_pos ⟨by omega, by omega, by rw [xo c c0 c1]; exact hc.2⟩, if_pos ⟨h1, g0, hc⟩]
            · rw [if_neg (fun z => hc ⟨by omega, by rw [← xo c c0 c1]; exact z.2.2⟩), if_neg (fun z => hc z.2.2)]
              exact hx _ (by omega)
          · exact i3 k c (by omega) k1 c0 c1
        · rw [i4, d2']
          show x.2 + bZ (chB S w r) + _ = x.2 + ((if g r.toNat = false ∧ chB S w r = true then 1 else 0) + chgL S g w (alv S 150 j (r + 1)))
          rw [g0]
          cases chB S w r with
          | true => rw [if_pos ⟨rfl, rfl⟩, bZ_t]; omega
          | false => rw [if_neg (by simp), bZ_f]; omega
end
