/-! stores stay well made: rows go, cells change, rows come -/
theorem HsW.cg {hs hs' : Int → Int} (W : HsW hs) (e : ∀ i, i < 148 → hs' i = hs i) : HsW hs' := by
  obtain ⟨⟨b1, b2, b3, b4, b5, b6⟩, w2, w3, w4, w5, w6, w7⟩ := W
  have e0 := e 0 (by decide)
  have e1 := e 1 (by decide)
  have e2 := e 2 (by decide)
  have e3 := e 3 (by decide)
  refine ⟨⟨fun i i0 i1 => by rw [e i i1]; exact b1 i i0 i1, by rw [e0]; exact b2, fun t t0 t1 => by rw [e _ (by omega)]; exact b3 t t0 t1, by rw [e1]; exact b4, by rw [e2]; exact b5, by rw [e3]; exact b6⟩, fun t t0 t1 => by rw [e0] at t1; rw [e _ (by omega)]; exact w2 t t0 t1, fun k k0 k1 => ?_, fun f f0 f1 => ?_, fun k k0 k1 => ?_, fun i i0 i1 => by rw [e i (by omega)]; exact w6 i i0 i1, fun i i0 i1 => by rw [e i (by omega)]; exact w7 i i0 i1⟩
  · rw [e1] at k1
    exact (w3 k k0 k1).mv (by omega) (fun t t0 t1 => e _ (by omega)) (e _ (by omega)) (e _ (by omega)) (e _ (by omega))
  · rw [e2] at f1
    exact (w4 f f0 f1).mv (by omega) (by omega) (fun t t0 t1 => e _ (by omega)) (fun k k0 k1 => ⟨e _ (by omega), e _ (by omega)⟩) (e _ (by omega)) (e _ (by omega)) (e _ (by omega)) (e _ (by omega)) (e _ (by omega)) (e _ (by omega)) (e _ (by omega)) (e _ (by omega)) (e _ (by omega))
  · rw [e3] at k1
    exact (w5 k k0 k1).mv (by omega) (fun t t0 t1 => e _ (by omega)) (e _ (by omega)) (e _ (by omega)) (e _ (by omega)) (e _ (by omega)) (e _ (by omega)) (e _ (by omega))
theorem cntA_cg {S S' : Int → Int} {a : Int} : ∀ (n : Nat) (r : Int), (∀ i, r ≤ i → i < r + n → S' (a + i) = S (a + i)) → cntA S' a n r = cntA S a n r := by
  intro n
  induction n with
  | zero => intro r _; rfl
  | succ n ih =>
    intro r h
    simp only [cntA]
    rw [h r (by omega) (by omega), ih (r + 1) (fun i h1 h2 => h i (by omega) (by omega))]
theorem cntA_fs {S : Int → Int} {a i v : Int} : ∀ (n : Nat) (r : Int), r ≤ i → i < r + n → cntA (fset S (a + i) v) a n r = cntA S a n r - S (a + i) + v := by
  intro n
  induction n with
  | zero => intro r _ _; omega
  | succ n ih =>
    intro r h0 h1
    simp only [cntA]
    by_cases e : r = i
    · subst e
      rw [fset_eq, cntA_cg n (r + 1) (fun j h2 h3 => fset_ne (by omega))]
      omega
    · rw [fset_ne (by omega), ih (r + 1) (by omega) (by omega)]
      omega
section
variable {S : Int → Int}
theorem StW.kill (W : StW S) {r : Int} (r0 : 0 ≤ r) (r1 : r < 99) : StW (fset S (150 + r) 0) := by
  obtain ⟨w1, w2, w3, w4, w5, w6, w7, w8⟩ := id W
  have al := W.al r0 r1
  refine ⟨w1.cg (fun i hi => fset_ne (by omega)), fun q q0 q1 => ?_, fun i i0 i1 => by rw [fset_ne (by omega)]; exact w3 i i0 i1, fun i i0 i1 => by rw [fset_ne (by omega)]; exact w4 i i0 i1, by rw [fset_ne (by omega)]; exact w5, by rw [fset_ne (by omega)]; exact w6, by rw [cntA_fs 99 0 (by omega) (by omega)]; omega, by rw [cntA_cg 99 0 (fun i h1 h2 => fset_ne (by omega))]; exact w8⟩
  obtain ⟨⟨a1, a2⟩, ⟨a3, a4⟩, a5, a6⟩ := w2 q q0 q1
  refine ⟨⟨?_, fun h => ?_⟩, ⟨by rw [fset_ne (by omega)]; exact a3, fun h => ?_⟩, by rw [fset_ne (by omega)]; exact a5, by rw [fset_ne (by omega)]; exact a6⟩
  · by_cases e : q = r
    · subst e; rw [fset_eq]; exact Or.inl rfl
    · rw [fset_ne (by omega)]; exact a1
  · by_cases e : q = r
    · subst e; rw [fset_eq] at h; omega
    · rw [fset_ne (by omega)] at h
      obtain ⟨b1, b2, b3⟩ := a2 h
      have n0 := W.n0
      rw [fset_ne (show 249 + q ≠ 150 + r by omega), fset_ne (show (0 : Int) ≠ 150 + r by omega), fset_ne (show (148 : Int) ≠ 150 + r by omega), fset_ne (show 4 + S (249 + q) ≠ 150 + r by omega)]
      exact ⟨b1, b2, fun c c0 c1 => by
        have co := W.co a5 a6
        rw [fset_ne (by omega)]; exact b3 c c0 c1⟩
  · rw [fset_ne (by omega)] at h
    obtain ⟨b1, b2, b3⟩ := a4 h
    have n0 := W.n0
    rw [fset_ne (show 249 + q ≠ 150 + r by omega), fset_ne (show (0 : Int) ≠ 150 + r by omega), fset_ne (show (148 : Int) ≠ 150 + r by omega), fset_ne (show 4 + S (249 + q) ≠ 150 + r by omega)]
    exact ⟨b1, b2, fun c c0 c1 => by
      have co := W.co a5 a6
      rw [fset_ne (by omega)]; exact b3 c c0 c1⟩
theorem StW.put (W : StW S) {r c v : Int} (r0 : 0 ≤ r) (r1 : r < 99) (c0 : 0 ≤ c) (c1 : c < S (4 + S (249 + r))) (v0 : -1 ≤ v) (v1 : v ≤ 99) : StW (fset S (348 + 4 * r + c) v) := by
  obtain ⟨w1, w2, w3, w4, w5, w6, w7, w8⟩ := id W
  have ta := W.ta r0 r1
  have co := W.co ta.1 ta.2
  refine ⟨w1.cg (fun i hi => fset_ne (by omega)), fun q q0 q1 => ?_, fun i i0 i1 => ?_, fun i i0 i1 => by rw [fset_ne (by omega)]; exact w4 i i0 i1, by rw [fset_ne (by omega)]; exact w5, by rw [fset_ne (by omega)]; exact w6, by rw [cntA_cg 99 0 (fun i h1 h2 => fset_ne (by omega))]; exact w7, by rw [cntA_cg 99 0 (fun i h1 h2 => fset_ne (by omega))]; exact w8⟩
  · obtain ⟨⟨a1, a2⟩, ⟨a3, a4⟩, a5, a6⟩ := w2 q q0 q1
    have cq := W.co a5 a6
    refine ⟨⟨by rw [fset_ne (by omega)]; exact a1, fun h => ?_⟩, ⟨by rw [fset_ne (by omega)]; exact a3, fun h => ?_⟩, by rw [fset_ne (by omega)]; exact a5, by rw [fset_ne (by omega)]; exact a6⟩
    · rw [fset_ne (by omega)] at h
      obtain ⟨b1, b2, b3⟩ := a2 h
      rw [fset_ne (show 249 + q ≠ 348 + 4 * r + c by omega), fset_ne (show (0 : Int) ≠ 348 + 4 * r + c by omega), fset_ne (show (148 : Int) ≠ 348 + 4 * r + c by omega), fset_ne (show 4 + S (249 + q) ≠ 348 + 4 * r + c by omega)]
      refine ⟨b1, b2, fun x x0 x1 => ?_⟩
      by_cases e : q = r
      · subst e; rw [fset_ne (by omega)]; exact b3 x x0 x1
      · rw [fset_ne (by omega)]; exact b3 x x0 x1
    · rw [fset_ne (by omega)] at h
      obtain ⟨b1, b2, b3⟩ := a4 h
      rw [fset_ne (show 249 + q ≠ 348 + 4 * r + c by omega), fset_ne (show (0 : Int) ≠ 348 + 4 * r + c by omega), fset_ne (show (148 : Int) ≠ 348 + 4 * r + c by omega), fset_ne (show 4 + S (249 + q) ≠ 348 + 4 * r + c by omega)]
      exact ⟨b1, b2, fun x x0 x1 => by rw [fset_ne (by omega)]; exact b3 x x0 x1⟩
  · rw [fset_at]
    split
    · omega
    · exact w3 i i0 i1
end
