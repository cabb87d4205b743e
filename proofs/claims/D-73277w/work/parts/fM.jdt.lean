/-! what the twin judges, summed up -/
section
variable {T : Nat → Int → Int} {to : Int}
def fndA (T : Nat → Int → Int) (to : Int) : List Int := if T 5 to = 0 then [] else fndL (T 2) (T 5) to (alv (T 2) 150 99 0)
theorem cn_le' {Go : Int → Int} (j : Nat) (r : Int) : cn Go j r ≤ j := cn_le j r
theorem jd4_k {k : Nat} (h0 : k ≠ 0) (h1 : k ≠ 11) (h2 : k ≠ 12) (h3 : k ≠ 13) (h4 : k ≠ 14) : jd4 T to k = T k := by
  unfold jd4
  split
  · exact jd3_k h0 h1 h2 h3 h4
  · simp only
    rw [FT_k h0 h1 h3, jd3_k h0 h1 h2 h3 h4]
theorem jdT_k {k : Nat} (h0 : k ≠ 0) (h1 : k ≠ 11) (h2 : k ≠ 12) (h3 : k ≠ 13) (h4 : k ≠ 14) : jdT T to k = T k := by
  unfold jdT jd7
  rw [putW_at h0 h1]
  unfold jd6
  rw [ts_ne h0, ts_ne h0]
  unfold jd5
  rw [tg_ne h3, jd4_k h0 h1 h2 h3 h4]
theorem jd3_14 : jd3 T 14 = bl 0 1091 (fun x => T 2 (148 + x)) (T 14) := by
  unfold jd3
  rw [ts_ne (by decide), ts_ne (by decide), ts_ne (by decide), ts_ne (by decide), ts_ne (by decide), LA_k (by decide) (by decide) (by decide), tg_eq]
theorem jd3_13' {r : Int} (r0 : 0 ≤ r) (r1 : r < 99) : jd3 T 13 r = -1 := by
  unfold jd3
  rw [ts_ne (by decide), ts_ne (by decide), ts_ne (by decide), ts_ne (by decide), ts_ne (by decide), LA_13]
  unfold laG
  rw [if_pos ⟨r0, r1⟩]
theorem jd3_11' {i : Int} (r0 : 0 ≤ i) (r1 : i < 396) : jd3 T 11 i = -9 := by
  unfold jd3
  rw [ts_ne (by decide), ts_ne (by decide), ts_ne (by decide), ts_ne (by decide), ts_ne (by decide), LA_11]
  unfold laW
  rw [if_pos ⟨r0, r1⟩]
theorem jd3_ahp (W : StW (T 2)) : AhP (T 2) (jd3 T 12) := fun r f r0 r1 r2 f0 f1 => by
  have n2 := W.n0.2.2.1
  unfold jd3
  rw [ts_ne (by decide), ts_ne (by decide), ts_ne (by decide), ts_ne (by decide), ts_ne (by decide), LA_12, tg_ne (by decide), tg_ne (by decide)]
  unfold laA parS
  by_cases c : T 2 (58 + f) = T 2 (249 + r)
  · rw [if_pos c, if_pos ⟨by omega, by omega, by omega⟩, show (6 * r + f) / 6 = r by omega, show (6 * r + f) % 6 = f by omega]
    unfold ahV
    rw [if_pos ⟨r2, c⟩, if_pos c.symm]
  · rw [if_neg c, if_neg (fun z => c z.symm)]
theorem jdT_14 : jdT T to 14 = bl 0 1091 (fun x => T 2 (148 + x)) (T 14) := by
  unfold jdT jd7
  rw [putW_at (by decide) (by decide)]
  unfold jd6
  rw [ts_ne (by decide), ts_ne (by decide)]
  unfold jd5
  rw [tg_ne (by decide), ← jd3_14]
  unfold jd4
  split
  · rfl
  · rw [FT_k (by decide) (by decide) (by decide)]
theorem jd4_12 : jd4 T to 12 = jd3 T 12 := by
  unfold jd4
  split
  · rfl
  · rw [FT_k (by decide) (by decide) (by decide)]
theorem jd4_13 (r : Int) : jd4 T to 13 r = if T 5 to = 1 ∧ r ∈ fndA T to then 0 else jd3 T 13 r := by
  unfold jd4 fndA
  by_cases e : T 5 to = 0
  · rw [if_pos e, if_pos e, if_neg (fun z => by cases z.2)]
  · rw [if_neg e, if_neg e]
    rw [FT_13]
    exact (fdL_eq 99 0 (0, jd3 T 13, wsT (jd3 T))).2.1 r
theorem jd4_31 : jd4 T to 0 31 = (fndA T to).length := by
  unfold jd4 fndA
  by_cases e : T 5 to = 0
  · rw [if_pos e, if_pos e, jd3_f, if_pos (Or.inl rfl)]; rfl
  · rw [if_neg e, if_neg e]
    rw [FT_31]
    have := (fdL_eq (S := T 2) (L := T 5) (to := to) 99 0 (0, jd3 T 13, wsT (jd3 T))).1
    rw [this]
    show (0 : Int) + _ = _
    omega
theorem jd4_w : wsT (jd4 T to) = setL (T 5) to (fndA T to) (wsT (jd3 T)) := by
  unfold jd4 fndA
  by_cases e : T 5 to = 0
  · rw [if_pos e, if_pos e]; rfl
  · rw [if_neg e, if_neg e]
    have := (fdL_eq (S := T 2) (L := T 5) (to := to) 99 0 (0, jd3 T 13, wsT (jd3 T))).2.2
    simp only at this ⊢
    rw [← this]
    unfold FT wsT
    rw [putW_w, putW_cl, putW_mo]
theorem jd4_0 {i : Int} (h1 : i ≠ 31) (h2 : i ≠ 34) (h3 : i ≠ 35) : jd4 T to 0 i = jd3 T 0 i := by
  unfold jd4
  split
  · rfl
  · simp only
    rw [FT_0, fset_ne h3, fset_ne h2, fset_ne h1]
theorem jdT_0 {i : Int} (h1 : i ≠ 31) (h2 : i ≠ 32) (h3 : i ≠ 34) (h4 : i ≠ 35) : jdT T to 0 i = jd3 T 0 i := by
  unfold jdT jd7
  rw [putW_00, fset_ne h4, fset_ne h3]
  unfold jd6
  rw [ts_eq, fset_ne h4, ts_eq, fset_ne h2]
  unfold jd5
  rw [tg_ne (by decide), jd4_0 h1 h3 h4]
theorem jdT_31 : jdT T to 0 31 = (fndA T to).length := by
  unfold jdT jd7
  rw [putW_00, fset_ne (by decide), fset_ne (by decide)]
  unfold jd6
  rw [ts_eq, fset_ne (by decide), ts_eq, fset_ne (by decide)]
  unfold jd5
  rw [tg_ne (by decide), jd4_31]
theorem jdT_13 : jdT T to 13 = closF (T 2) (jd3 T 12) 100 1 (jd4 T to 13) := by
  unfold jdT jd7
  rw [putW_at (by decide) (by decide)]
  unfold jd6
  rw [ts_ne (by decide), ts_ne (by decide)]
  unfold jd5
  rw [tg_eq, jd4_12, jd4_k (by decide) (by decide) (by decide) (by decide) (by decide)]
theorem jdT_32 : jdT T to 0 32 = goC (jdT T to 13) 99 0 := by
  rw [jdT_13]
  unfold jdT jd7
  rw [putW_00, fset_ne (by decide), fset_ne (by decide)]
  unfold jd6
  rw [ts_eq, fset_ne (by decide), ts_eq, fset_eq]
  unfold jd5
  rw [tg_ne (by decide), tg_eq, jd4_12, jd4_k (k := 2) (by decide) (by decide) (by decide) (by decide) (by decide), jd4_0 (by decide) (by decide) (by decide), jd3_f, if_pos (by decide)]
  omega
theorem jdT_w : wsT (jdT T to) = itr (folR (T 2) (jd3 T 12) (jdT T to 13) 99 0) 397 ((setL (T 5) to (fndA T to) (wsT (jd3 T))).1, (setL (T 5) to (fndA T to) (wsT (jd3 T))).2.1, 1) := by
  rw [jdT_13]
  unfold jdT jd7 wsT
  rw [putW_w, putW_cl, putW_mo]
  have e2 : jd6 (jd5 (jd4 T to)) 2 = T 2 := by
    unfold jd6 jd5
    rw [ts_ne (by decide), ts_ne (by decide), tg_ne (by decide), jd4_k (by decide) (by decide) (by decide) (by decide) (by decide)]
  have e12 : jd6 (jd5 (jd4 T to)) 12 = jd3 T 12 := by
    unfold jd6 jd5
    rw [ts_ne (by decide), ts_ne (by decide), tg_ne (by decide), jd4_12]
  have e13 : jd6 (jd5 (jd4 T to)) 13 = closF (T 2) (jd3 T 12) 100 1 (jd4 T to 13) := by
    unfold jd6 jd5
    rw [ts_ne (by decide), ts_ne (by decide), tg_eq, jd4_12, jd4_k (by decide) (by decide) (by decide) (by decide) (by decide)]
  have q11 : jd6 (jd5 (jd4 T to)) 11 = jd4 T to 11 := by
    unfold jd6 jd5
    rw [ts_ne (by decide), ts_ne (by decide), tg_ne (by decide)]
  have q34 : jd6 (jd5 (jd4 T to)) 0 34 = jd4 T to 0 34 := by
    unfold jd6
    rw [ts_eq, fset_ne (by decide), ts_eq, fset_ne (by decide)]
    unfold jd5
    rw [tg_ne (by decide)]
  have q35 : jd6 (jd5 (jd4 T to)) 0 35 = 1 := by
    unfold jd6
    rw [ts_eq, fset_eq]
  have ew : ((jd6 (jd5 (jd4 T to)) 11, jd6 (jd5 (jd4 T to)) 0 34, jd6 (jd5 (jd4 T to)) 0 35) : WS) = ((setL (T 5) to (fndA T to) (wsT (jd3 T))).1, (setL (T 5) to (fndA T to) (wsT (jd3 T))).2.1, 1) := by
    rw [← jd4_w, q11, q34, q35]
  rw [e2, e12, e13, ew, rounds_itr]
theorem jdT_bfs (W : StW (T 2)) : BfsW (T 2) (fun r => T 5 to = 1 ∧ r ∈ fndA T to) (jdT T to 13) := by
  classical
  rw [jdT_13]
  have hA : ∀ x ∈ fndA T to, AlS (T 2) x := by
    unfold fndA
    split
    · intro x hx; cases hx
    · exact fnd_al fun x hx => by have := (alv_mem 99 0 x).mp hx; unfold AlS; omega
  have d0 : ∀ r, 0 ≤ r → r < 99 → jd4 T to 13 r = if T 5 to = 1 ∧ r ∈ fndA T to then 0 else -1 := fun r r0 r1 => by rw [jd4_13, jd3_13' r0 r1]
  refine clos_bfs W (jd3_ahp W) 100 1 _ (Int.le_refl _) (Nat.lt_succ_of_le (cn_le' 99 0)) ⟨fun r r0 r1 => ?_, fun r ha hs => ?_, fun r ha hs h0 => ?_, fun r q ha he hq hn => by omega⟩
  · rw [d0 r r0 r1]
    by_cases c : T 5 to = 1 ∧ r ∈ fndA T to
    · rw [if_pos c]; exact ⟨by decide, by decide, fun z => absurd (hA r c.2).2.2 z⟩
    · rw [if_neg c]; exact ⟨by decide, by decide, fun _ => rfl⟩
  · rw [d0 r ha.1 ha.2.1, if_pos hs]
  · rw [d0 r ha.1 ha.2.1, if_neg hs] at h0; omega
theorem w3_W (h35 : T 0 35 = 0 ∨ T 0 35 = 1) (L : LnW (T 2) (T 5) to) : WsW (setL (T 5) to (fndA T to) (wsT (jd3 T))) := by
  unfold fndA
  split
  · exact jd3_w h35
  · rename_i e
    exact setL_W (L.2.2.2 e).2 _ _ (jd3_w h35)
theorem jdT_lst (W : StW (T 2)) (h35 : T 0 35 = 0 ∨ T 0 35 = 1) (hA : AhW (T 12)) (L : LnW (T 2) (T 5) to) {g : Nat → Bool} (hG : GoG (jdT T to 13) g) : ((setL (T 5) to (fndA T to) (wsT (jd3 T))).2.1 = 0 → LstW (T 2) g (setL (T 5) to (fndA T to) (wsT (jd3 T))) (wsT (jdT T to))) ∧ ((setL (T 5) to (fndA T to) (wsT (jd3 T))).2.1 = 1 → (wsT (jdT T to)).2.1 = 1) ∧ WsW (wsT (jdT T to)) := by
  have hw := w3_W (to := to) h35 L
  have cl := cu_le (g := (setL (T 5) to (fndA T to) (wsT (jd3 T))).1) 396 0
  have ps := folR_all W hG (jd3_ahp W) (jd3_12 hA)
  rw [jdT_w]
  generalize setL (T 5) to (fndA T to) (wsT (jd3 T)) = w at *
  have l0 : w.2.1 = 0 → LstW (T 2) g w (itr (folR (T 2) (jd3 T 12) (jdT T to 13) 99 0) 397 (w.1, w.2.1, 1)) := fun hc => itr_lst ps 397 (w.1, w.2.1, 1) ⟨hw.1, hw.2.1, Or.inr rfl⟩ rfl (by show cu w.1 396 0 < 397; omega) (fun W' _ hs => ⟨hc, hs⟩) (fun _ _ => rfl)
  have l1 : w.2.1 = 1 → itr (folR (T 2) (jd3 T 12) (jdT T to 13) 99 0) 397 (w.1, w.2.1, 1) = (w.1, w.2.1, 1) := fun hc => by rw [itr_s, if_pos (Or.inr hc)]
  refine ⟨l0, fun hc => ?_, ?_⟩
  · rw [l1 hc]; exact hc
  · rcases hw.2.1 with hc | hc
    · exact (l0 hc).1
    · rw [l1 hc]; exact ⟨hw.1, hw.2.1, Or.inr rfl⟩
end
