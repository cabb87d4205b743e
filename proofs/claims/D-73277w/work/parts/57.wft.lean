/-! schemas that are well made, and stay so: tables, refs, checks, any line -/
section
variable {g : Int → Int} {z l : Int} {q : Int}
/-- a table that is being told: its number t is that of the tables so far, its columns but counted -/
def TabG (hs : Int → Int) (t : Int) : Prop := HsW hs ∧ hs 0 = t ∧ t < 4
theorem W_col {hs : Int → Int} {v : Int} (W : HsW hs) (h0 : hs 0 < 4) (v0 : 0 ≤ v) (v1 : v ≤ 4) : HsW (fset hs (4 + hs 0) v) := by
  obtain ⟨hB, W1, W2, W3, W4, W5, W6⟩ := W
  obtain ⟨b1, b2, b3, b4, b5, b6⟩ := id hB
  have e : ∀ i, i ≠ 4 + hs 0 → fset hs (4 + hs 0) v i = hs i := fun i i1 => fset_ne i1
  have e1 : fset hs (4 + hs 0) v (4 + hs 0) = v := fset_eq
  generalize fset hs (4 + hs 0) v = hs' at e e1 ⊢
  have e0 : hs' 0 = hs 0 := e 0 (by omega)
  have et : ∀ t, 0 ≤ t → t < hs 0 → hs' (4 + t) = hs (4 + t) := fun t t0 t1 => e _ (by omega)
  refine ⟨⟨fun i ii0 ii1 => ?_, by rw [e0]; exact b2, fun t t0 t1 => ?_, by rw [e 1 (by omega)]; exact b4, by rw [e 2 (by omega)]; exact b5, by rw [e 3 (by omega)]; exact b6⟩, fun t t0 t1 => ?_, fun k k0 k1 => ?_, fun f f0 f1 => ?_, fun k k0 k1 => ?_, fun i i0 i1 => ?_, fun i i0 i1 => ?_⟩
  · by_cases i1 : i = 4 + hs 0
    · rw [i1, e1]; omega
    · rw [e i i1]; exact b1 i ii0 ii1
  · by_cases i1 : t = hs 0
    · rw [i1, e1]; omega
    · rw [e _ (by omega)]; exact b3 t t0 t1
  · rw [e0] at t1; rw [et t t0 t1]; exact W1 t t0 t1
  · rw [e 1 (by omega)] at k1
    refine (W2 k k0 k1).mv (by omega) et ?_ ?_ ?_ <;> exact e _ (by omega)
  · rw [e 2 (by omega)] at f1
    refine (W3 f f0 f1).mv (by omega) (by rw [e 1 (by omega)]; omega) et (fun k k0 k1 => ⟨e _ (by omega), e _ (by omega)⟩) ?_ ?_ ?_ ?_ ?_ ?_ ?_ ?_ ?_ <;> exact e _ (by omega)
  · rw [e 3 (by omega)] at k1
    refine (W4 k k0 k1).mv (by omega) et ?_ ?_ ?_ ?_ ?_ ?_ <;> exact e _ (by omega)
  · rw [e i (by omega)]; exact W5 i i0 i1
  · rw [e i (by omega)]; exact W6 i i0 i1
theorem W_tab {hs : Int → Int} (W : HsW hs) (h0 : hs 0 < 4) (h1 : hs (4 + hs 0) ≠ 0) : HsW (fset hs 0 (hs 0 + 1)) := by
  obtain ⟨hB, W1, W2, W3, W4, W5, W6⟩ := W
  obtain ⟨b1, b2, b3, b4, b5, b6⟩ := id hB
  have e : ∀ i, i ≠ 0 → fset hs 0 (hs 0 + 1) i = hs i := fun i i1 => fset_ne i1
  have e0 : fset hs 0 (hs 0 + 1) 0 = hs 0 + 1 := fset_eq
  generalize fset hs 0 (hs 0 + 1) = hs' at e e0 ⊢
  have et : ∀ t, 0 ≤ t → t < hs 0 → hs' (4 + t) = hs (4 + t) := fun t t0 t1 => e _ (by omega)
  refine ⟨⟨fun i ii0 ii1 => ?_, by rw [e0]; omega, fun t t0 t1 => by rw [e _ (by omega)]; exact b3 t t0 t1, by rw [e 1 (by omega)]; exact b4, by rw [e 2 (by omega)]; exact b5, by rw [e 3 (by omega)]; exact b6⟩, fun t t0 t1 => ?_, fun k k0 k1 => ?_, fun f f0 f1 => ?_, fun k k0 k1 => ?_, fun i i0 i1 => ?_, fun i i0 i1 => ?_⟩
  · by_cases i1 : i = 0
    · rw [i1, e0]; omega
    · rw [e i i1]; exact b1 i ii0 ii1
  · rw [e _ (by omega)]
    by_cases i1 : t = hs 0
    · have := b3 t t0 (by omega)
      rw [← i1] at h1; omega
    · exact W1 t t0 (by omega)
  · rw [e 1 (by omega)] at k1
    refine (W2 k k0 k1).mv (by omega) et ?_ ?_ ?_ <;> exact e _ (by omega)
  · rw [e 2 (by omega)] at f1
    refine (W3 f f0 f1).mv (by omega) (by rw [e 1 (by omega)]; omega) et (fun k k0 k1 => ⟨e _ (by omega), e _ (by omega)⟩) ?_ ?_ ?_ ?_ ?_ ?_ ?_ ?_ ?_ <;> exact e _ (by omega)
  · rw [e 3 (by omega)] at k1
    refine (W4 k k0 k1).mv (by omega) et ?_ ?_ ?_ ?_ ?_ ?_ <;> exact e _ (by omega)
  · rw [e i (by omega)]; exact W5 i i0 i1
  · rw [e i (by omega)]; exact W6 i i0 i1
theorem colLoop_W {t : Int} {a : (Int → Int) × (Int → Int) × Int} : ∀ (n : Nat) (hs nm : Int → Int) (q : Int), HsW hs → hs 0 = t → t < 4 → colLoop g z l n hs nm t q = .ok a → LineOk hs q a
  | 0, hs, nm, q, W, h0, h1, h => by simp only [colLoop] at h; cases h
  | n + 1, hs, nm, q, W, h0, h1, h => by
    simp only [colLoop] at h
    split at h
    · rename_i hc
      cases h
      refine ⟨?_, Int.le_refl _⟩
      rw [← h0] at hc h1
      exact W_tab W h1 hc.1
    · split at h
      · cases h
      · split at h
        · cases h
        · split at h
          · cases h
          · rename_i h4
            have hb := W.1.2.2.1 t (by have := W.1.2.1; omega) h1
            have W' := W_col (v := hs (4 + t) + 1) W (by omega) (by omega) (by omega)
            rw [h0] at W'
            obtain ⟨x1, x2⟩ := colLoop_W n _ _ _ W' (by rw [fset_ne (by have := W.1.2.1; omega)]; exact h0) h1 h
            have := nxt_ge (g := g) (z := z) (l := l) q
            exact ⟨x1, by omega⟩
theorem table_W {hs nm : Int → Int} {a : (Int → Int) × (Int → Int) × Int} (W : HsW hs) (h : tableP g z l hs nm q = .ok a) : LineOk hs q a := by
  unfold tableP at h
  split at h
  · cases h
  · rename_i h4
    split at h
    · cases h
    · split at h
      · cases h
      · have hb := W.1.2.1
        have W' := W_col (v := 0) W (by omega) (by omega) (by omega)
        obtain ⟨x1, x2⟩ := colLoop_W (t := hs 0) 6 _ _ _ W' (by rw [fset_ne (by omega)]) (by omega) h
        have n1 := nxt_ge (g := g) (z := z) (l := l) q
        have n2 := nxt_ge (g := g) (z := z) (l := l) (nxt g z l q)
        exact ⟨x1, by omega⟩
theorem fnd_key {hs : Int → Int} {t one two : Int} (h : ¬ keyOfH hs t one two < 0) (h1 : 0 ≤ hs 1) : 0 ≤ keyOfH hs t one two ∧ keyOfH hs t one two < hs 1 ∧ hs (40 + keyOfH hs t one two) = t ∧ hs (46 + keyOfH hs t one two) = one ∧ hs (52 + keyOfH hs t one two) = two := by
  have := fnd_rg (f := fun k => decide (hs (40 + k) = t ∧ hs (46 + k) = one ∧ hs (52 + k) = two)) (hs 1).toNat 0
  rcases this with e | ⟨e1, e2, e3⟩
  · exact absurd (show keyOfH hs t one two < 0 by unfold keyOfH; omega) h
  · have e3 := of_decide_eq_true e3
    exact ⟨e1, by unfold keyOfH; omega, e3⟩
theorem on_rg {q v : Int} (h : onP g z l q = .ok v) : 0 ≤ v ∧ v ≤ 3 := by
  have := onW_rg (g := g) (z := z) (l := l) (q := q)
  unfold onP at h
  split at h
  · cases h
  · cases h; omega
theorem ref_W {hs nm : Int → Int} {a : (Int → Int) × (Int → Int) × Int} (W : HsW hs) (h6 : hs 2 < 6) (h : refP g z l hs nm q = .ok a) : LineOk hs q a := by
  obtain ⟨hB, W1, W2, W3, W4, W5, W6⟩ := W
  obtain ⟨b1, b2, b3, b4, b5, b6⟩ := id hB
  unfold refP at h
  obtain ⟨t, h1, h⟩ := eb_inv h
  obtain ⟨c, h2, h⟩ := eb_inv h
  split at h
  · cases h
  obtain ⟨o, h3, h⟩ := eb_inv h
  obtain ⟨ky, h4, h⟩ := eb_inv h
  obtain ⟨g1, h5, h⟩ := eb_inv h
  obtain ⟨g2, h7, h⟩ := eb_inv h
  have r1 := tab_rg hB h1
  have r2 := cols_rg hB r1.1 (by omega) h2
  have gc := cols_ge h2
  have r3 := tab_rg hB h3
  have r5 := on_rg h5
  have r7 := on_rg h7
  have c4 := b3 t r1.1 (by omega)
  have n1 := nxt_ge (g := g) (z := z) (l := l) q
  have n2 := nxt_ge (g := g) (z := z) (l := l) (nxt g z l q)
  have n3 := nxt_ge (g := g) (z := z) (l := l) c.2.2
  have n4 := nxt_ge (g := g) (z := z) (l := l) (nxt g z l c.2.2)
  have hk : (0 ≤ ky.1 ∧ ky.1 < hs 1 ∧ hs (40 + ky.1) = o ∧ (hs (52 + ky.1) < 0 ↔ c.2.1 < 0)) ∧ nxt g z l (nxt g z l c.2.2) ≤ ky.2 := by
    by_cases hc : c.2.1 < 0
    · have h4' : eb (refK g z l hs nm c.2.1 o (nxt g z l (nxt g z l c.2.2))) Except.ok = .ok ky := by rw [h4]; rfl
      rw [refK_lt hc] at h4'
      obtain ⟨a9, q1, h4'⟩ := eb_inv h4'
      split at h4'
      · cases h4'
      · rename_i hn
        obtain ⟨f1, f2, f3, f4, f5⟩ := fnd_key hn b4.1
        cases h4'
        refine ⟨⟨f1, f2, f3, ?_⟩, nxt_ge _⟩
        show hs (52 + keyOfH hs o a9 (-1)) < 0 ↔ _
        rw [f5]; omega
    · have h4' : eb (refK g z l hs nm c.2.1 o (nxt g z l (nxt g z l c.2.2))) Except.ok = .ok ky := by rw [h4]; rfl
      rw [refK_ge hc] at h4'
      obtain ⟨b9, q1, h4'⟩ := eb_inv h4'
      obtain ⟨a9, q2, h4'⟩ := eb_inv h4'
      have ra := col_rg hB r3.1 (by omega) q2
      by_cases hab : b9 = a9
      · simp only [if_pos hab] at h4'
        rw [if_pos (by decide)] at h4'
        cases h4'
      · simp only [if_neg hab] at h4'
        split at h4'
        · cases h4'
        · rename_i hn
          obtain ⟨f1, f2, f3, f4, f5⟩ := fnd_key hn b4.1
          cases h4'
          refine ⟨⟨f1, f2, f3, ?_⟩, Int.le_trans (nxt_ge _) (nxt_ge _)⟩
          show hs (52 + keyOfH hs o b9 a9) < 0 ↔ _
          rw [f5]; omega
  obtain ⟨⟨k1, k2, k3, k4⟩, k5⟩ := hk
  have n5 := nxt_ge (g := g) (z := z) (l := l) ky.2
  have n6 := nxt_ge (g := g) (z := z) (l := l) (nxt g z l ky.2)
  have n7 := may_ge (g := g) (z := z) (l := l) (nxt g z l (nxt g z l ky.2)) wFULL
  have n8 := may_ge (g := g) (z := z) (l := l) (may g z l (nxt g z l (nxt g z l ky.2)) wFULL) wLATE
  cases h
  refine ⟨?_, by show q ≤ may g z l (may g z l (nxt g z l (nxt g z l ky.2)) wFULL) wLATE; omega⟩
  show HsW (refW hs (hs 2) t c.1 c.2.1 o ky.1 g1 g2 (bZ (isW g z l (nxt g z l (nxt g z l ky.2)) wFULL)) (bZ (isW g z l (may g z l (nxt g z l (nxt g z l ky.2)) wFULL) wLATE)))
  have z1 := bZ_01 (isW g z l (nxt g z l (nxt g z l ky.2)) wFULL)
  have z2 := bZ_01 (isW g z l (may g z l (nxt g z l (nxt g z l ky.2)) wFULL) wLATE)
  generalize bZ (isW g z l (nxt g z l (nxt g z l ky.2)) wFULL) = fu at z1 ⊢
  generalize bZ (isW g z l (may g z l (nxt g z l (nxt g z l ky.2)) wFULL) wLATE) = la at z2 ⊢
  have e : ∀ i, i ≠ 2 → i ≠ 88 + hs 2 → i ≠ 94 + hs 2 → i ≠ 58 + hs 2 → i ≠ 64 + hs 2 → i ≠ 70 + hs 2 → i ≠ 76 + hs 2 → i ≠ 82 + hs 2 → i ≠ 100 + hs 2 → i ≠ 106 + hs 2 → refW hs (hs 2) t c.1 c.2.1 o ky.1 g1 g2 fu la i = hs i := fun i x0 x1 x2 x3 x4 x5 x6 x7 x8 x9 => by
    unfold refW
    rw [fset_ne x0, fset_ne x9, fset_ne x8, fset_ne x7, fset_ne x6, fset_ne x5, fset_ne x4, fset_ne x3, fset_ne x2, fset_ne x1]
  have e2 : refW hs (hs 2) t c.1 c.2.1 o ky.1 g1 g2 fu la 2 = hs 2 + 1 := fset_eq
  have e88 : refW hs (hs 2) t c.1 c.2.1 o ky.1 g1 g2 fu la (88 + hs 2) = g1 := by unfold refW; simp (disch := omega) only [fset_eq, fset_ne]
  have e94 : refW hs (hs 2) t c.1 c.2.1 o ky.1 g1 g2 fu la (94 + hs 2) = g2 := by unfold refW; simp (disch := omega) only [fset_eq, fset_ne]
  have e58 : refW hs (hs 2) t c.1 c.2.1 o ky.1 g1 g2 fu la (58 + hs 2) = t := by unfold refW; simp (disch := omega) only [fset_eq, fset_ne]
  have e64 : refW hs (hs 2) t c.1 c.2.1 o ky.1 g1 g2 fu la (64 + hs 2) = c.1 := by unfold refW; simp (disch := omega) only [fset_eq, fset_ne]
  have e70 : refW hs (hs 2) t c.1 c.2.1 o ky.1 g1 g2 fu la (70 + hs 2) = c.2.1 := by unfold refW; simp (disch := omega) only [fset_eq, fset_ne]
  have e76 : refW hs (hs 2) t c.1 c.2.1 o ky.1 g1 g2 fu la (76 + hs 2) = o := by unfold refW; simp (disch := omega) only [fset_eq, fset_ne]
  have e82 : refW hs (hs 2) t c.1 c.2.1 o ky.1 g1 g2 fu la (82 + hs 2) = ky.1 := by unfold refW; simp (disch := omega) only [fset_eq, fset_ne]
  have e100 : refW hs (hs 2) t c.1 c.2.1 o ky.1 g1 g2 fu la (100 + hs 2) = fu := by unfold refW; simp (disch := omega) only [fset_eq, fset_ne]
  have e106 : refW hs (hs 2) t c.1 c.2.1 o ky.1 g1 g2 fu la (106 + hs 2) = la := by unfold refW; simp (disch := omega) only [fset_eq, fset_ne]
  generalize refW hs (hs 2) t c.1 c.2.1 o ky.1 g1 g2 fu la = hs' at e e2 e88 e94 e58 e64 e70 e76 e82 e100 e106 ⊢
  have E : ∀ i, i ≠ 2 → (i < 58 ∨ 112 ≤ i) → hs' i = hs i := fun i i1 i2 => e i i1 (by omega) (by omega) (by omega) (by omega) (by omega) (by omega) (by omega) (by omega) (by omega)
  have et : ∀ t, 0 ≤ t → t < 4 → hs' (4 + t) = hs (4 + t) := fun t t0 t1 => E _ (by omega) (by omega)
  refine ⟨⟨fun i ii0 ii1 => ?_, by rw [E 0 (by omega) (by omega)]; exact b2, fun t t0 t1 => by rw [et t t0 t1]; exact b3 t t0 t1, by rw [E 1 (by omega) (by omega)]; exact b4, by rw [e2]; omega, by rw [E 3 (by omega) (by omega)]; exact b6⟩, fun t t0 t1 => ?_, fun k k0 k1 => ?_, fun f f0 f1 => ?_, fun k k0 k1 => ?_, fun i i0 i1 => ?_, fun i i0 i1 => ?_⟩
  · by_cases x0 : i = 2
    · rw [x0, e2]; omega
    · by_cases x1 : i = 88 + hs 2
      · rw [x1, e88]; omega
      · by_cases x2 : i = 94 + hs 2
        · rw [x2, e94]; omega
        · by_cases x3 : i = 58 + hs 2
          · rw [x3, e58]; omega
          · by_cases x4 : i = 64 + hs 2
            · rw [x4, e64]; omega
            · by_cases x5 : i = 70 + hs 2
              · rw [x5, e70]; omega
              · by_cases x6 : i = 76 + hs 2
                · rw [x6, e76]; omega
                · by_cases x7 : i = 82 + hs 2
                  · rw [x7, e82]; omega
                  · by_cases x8 : i = 100 + hs 2
                    · rw [x8, e100]; omega
                    · by_cases x9 : i = 106 + hs 2
                      · rw [x9, e106]; omega
                      · rw [e i x0 x1 x2 x3 x4 x5 x6 x7 x8 x9]; exact b1 i ii0 ii1
  · rw [E 0 (by omega) (by omega)] at t1; rw [et t t0 (by omega)]; exact W1 t t0 (by omega)
  · rw [E 1 (by omega) (by omega)] at k1
    refine (W2 k k0 k1).mv (by rw [E 0 (by omega) (by omega)]; omega) (fun t t0 t1 => et t t0 (by omega)) ?_ ?_ ?_ <;> exact E _ (by omega) (by omega)
  · by_cases hf : f = hs 2
    · subst hf
      unfold RefW
      rw [e58, e64, e70, e76, e82, e88, e94, e100, e106, E 0 (by omega) (by omega), E 1 (by omega) (by omega), et t r1.1 (by omega), E (40 + ky.1) (by omega) (by omega), E (52 + ky.1) (by omega) (by omega)]
      exact ⟨r1, r2.1, ⟨r2.2.1.1, r2.2.1.2, r2.2.2⟩, r3, ⟨k1, k2, k3, k4⟩, r5, r7, z1, z2⟩
    · rw [e2] at f1
      refine (W3 f f0 (by omega)).mv (by rw [E 0 (by omega) (by omega)]; omega) (by rw [E 1 (by omega) (by omega)]; omega) (fun t t0 t1 => et t t0 (by omega)) (fun k k0 k1 => ⟨E _ (by omega) (by omega), E _ (by omega) (by omega)⟩) ?_ ?_ ?_ ?_ ?_ ?_ ?_ ?_ ?_ <;> exact e _ (by omega) (by omega) (by omega) (by omega) (by omega) (by omega) (by omega) (by omega) (by omega) (by omega)
  · rw [E 3 (by omega) (by omega)] at k1
    refine (W4 k k0 k1).mv (by rw [E 0 (by omega) (by omega)]; omega) (fun t t0 t1 => et t t0 (by omega)) ?_ ?_ ?_ ?_ ?_ ?_ <;> exact E _ (by omega) (by omega)
  · rw [E i (by omega) (by omega)]; exact W5 i i0 i1
  · rw [E i (by omega) (by omega)]; exact W6 i i0 i1
theorem num_rg {low high q v : Int} (h : numP g z l low high q = .ok v) : low ≤ v ∧ v ≤ high := by
  unfold numP at h
  split at h
  · cases h
  · split at h
    · cases h
    · rename_i hh
      cases h
      simpa [isInZ] using hh
theorem chk_W {hs nm : Int → Int} {a : (Int → Int) × (Int → Int) × Int} (W : HsW hs) (h6 : hs 3 < 6) (h : chkP g z l hs nm q = .ok a) : LineOk hs q a := by
  obtain ⟨hB, W1, W2, W3, W4, W5, W6⟩ := W
  obtain ⟨b1, b2, b3, b4, b5, b6⟩ := id hB
  unfold chkP at h
  obtain ⟨t, h1, h⟩ := eb_inv h
  obtain ⟨c, h2, h⟩ := eb_inv h
  split at h
  · cases h
  rename_i hth
  obtain ⟨b, h3, h⟩ := eb_inv h
  have r1 := tab_rg hB h1
  have r2 := col_rg hB r1.1 (by omega) h2
  have c4 := b3 t r1.1 (by omega)
  have n1 := nxt_ge (g := g) (z := z) (l := l) q
  have n2 := nxt_ge (g := g) (z := z) (l := l) (nxt g z l q)
  have n3 := nxt_ge (g := g) (z := z) (l := l) (nxt g z l (nxt g z l q))
  have n4 := nxt_ge (g := g) (z := z) (l := l) (nxt g z l (nxt g z l (nxt g z l q)))
  have hsg : 60 ≤ nmv g z (nxt g z l (nxt g z l (nxt g z l q))) ∧ nmv g z (nxt g z l (nxt g z l (nxt g z l q))) ≤ 62 := by
    have : isThan g z l (nxt g z l (nxt g z l (nxt g z l q))) = true := by
      cases hq : isThan g z l (nxt g z l (nxt g z l (nxt g z l q))) with
      | true => rfl
      | false => exact absurd hq hth
    simp only [isThan, Bool.and_eq_true, isInZ, decide_eq_true_eq] at this
    exact this.2
  have hb : (b.1 = true → 0 ≤ b.2.1 ∧ b.2.1 ≤ 99) ∧ (b.1 = false → 0 ≤ b.2.1 ∧ b.2.1 < hs (4 + t) ∧ b.2.1 ≠ c) ∧ nxt g z l (nxt g z l (nxt g z l q)) ≤ b.2.2 := by
    unfold byP at h3
    have n5 := nxt_ge (g := g) (z := z) (l := l) (nxt g z l (nxt g z l (nxt g z l (nxt g z l q))))
    split at h3
    · obtain ⟨v, h4, h3⟩ := eb_inv h3
      have := num_rg h4
      cases h3
      exact ⟨fun _ => this, (by intro x; cases x), by show _ ≤ nxt g z l (nxt g z l (nxt g z l (nxt g z l (nxt g z l q)))); omega⟩
    · obtain ⟨v, h4, h3⟩ := eb_inv h3
      have rv := col_rg hB r1.1 (by omega) h4
      split at h3
      · cases h3
      · rename_i hv
        cases h3
        exact ⟨(by intro x; cases x), fun _ => ⟨rv.1, rv.2, hv⟩, by show _ ≤ nxt g z l (nxt g z l (nxt g z l (nxt g z l (nxt g z l q)))); omega⟩
  obtain ⟨hb1, hb2, hb3⟩ := hb
  have n6 := may_ge (g := g) (z := z) (l := l) b.2.2 wLATE
  cases h
  refine ⟨?_, by show q ≤ may g z l b.2.2 wLATE; omega⟩
  show HsW (chkW hs (hs 3) t c (nmv g z (nxt g z l (nxt g z l (nxt g z l q)))) b (bZ (isW g z l b.2.2 wLATE)))
  have z2 := bZ_01 (isW g z l b.2.2 wLATE)
  generalize bZ (isW g z l b.2.2 wLATE) = la at z2 ⊢
  generalize nmv g z (nxt g z l (nxt g z l (nxt g z l q))) = sg at hsg ⊢
  obtain ⟨bb, bv, bq⟩ := b
  have hb1 : bb = true → 0 ≤ bv ∧ bv ≤ 99 := hb1
  have hb2 : bb = false → 0 ≤ bv ∧ bv < hs (4 + t) ∧ bv ≠ c := hb2
  have e : ∀ i, i ≠ 3 → i ≠ 124 + hs 3 → i ≠ 136 + hs 3 → i ≠ 130 + hs 3 → i ≠ 112 + hs 3 → i ≠ 118 + hs 3 → i ≠ 142 + hs 3 → chkW hs (hs 3) t c sg (bb, bv, bq) la i = hs i := fun i x0 x1 x2 x3 x4 x5 x6 => by
    unfold chkW
    rw [fset_ne x0, fset_ne x6, fset_ne x5, fset_ne x4]
    split
    · rw [fset_ne x3, fset_ne x2, fset_ne x1]
    · rw [fset_ne x2, fset_ne x2, fset_ne x1]
  have e3 : chkW hs (hs 3) t c sg (bb, bv, bq) la 3 = hs 3 + 1 := fset_eq
  have e112 : chkW hs (hs 3) t c sg (bb, bv, bq) la (112 + hs 3) = t := by unfold chkW; simp (disch := omega) only [fset_eq, fset_ne]
  have e118 : chkW hs (hs 3) t c sg (bb, bv, bq) la (118 + hs 3) = c := by unfold chkW; simp (disch := omega) only [fset_eq, fset_ne]
  have e142 : chkW hs (hs 3) t c sg (bb, bv, bq) la (142 + hs 3) = la := by unfold chkW; simp (disch := omega) only [fset_eq, fset_ne]
  have e124 : chkW hs (hs 3) t c sg (bb, bv, bq) la (124 + hs 3) = sg := by
    unfold chkW; simp (disch := omega) only [fset_ne]; split <;> simp (disch := omega) only [fset_eq, fset_ne]
  have e136 : chkW hs (hs 3) t c sg (bb, bv, bq) la (136 + hs 3) = if bb = true then -1 else bv := by
    unfold chkW; simp (disch := omega) only [fset_ne]; split <;> simp (disch := omega) only [fset_eq, fset_ne]
  have e130 : chkW hs (hs 3) t c sg (bb, bv, bq) la (130 + hs 3) = if bb = true then bv else hs (130 + hs 3) := by
    unfold chkW; simp (disch := omega) only [fset_ne]; split <;> simp (disch := omega) only [fset_eq, fset_ne]
  generalize chkW hs (hs 3) t c sg (bb, bv, bq) la = hs' at e e3 e112 e118 e142 e124 e136 e130 ⊢
  have E : ∀ i, i ≠ 3 → (i < 112 ∨ 148 ≤ i) → hs' i = hs i := fun i i1 i2 => e i i1 (by omega) (by omega) (by omega) (by omega) (by omega) (by omega)
  have et : ∀ t, 0 ≤ t → t < 4 → hs' (4 + t) = hs (4 + t) := fun t t0 t1 => E _ (by omega) (by omega)
  have w6 := W6 (130 + hs 3) (by omega) (by omega)
  have bt : bb = true ∨ bb = false := by cases bb <;> simp
  refine ⟨⟨fun i ii0 ii1 => ?_, by rw [E 0 (by omega) (by omega)]; exact b2, fun t t0 t1 => by rw [et t t0 t1]; exact b3 t t0 t1, by rw [E 1 (by omega) (by omega)]; exact b4, by rw [E 2 (by omega) (by omega)]; exact b5, by rw [e3]; omega⟩, fun t t0 t1 => ?_, fun k k0 k1 => ?_, fun f f0 f1 => ?_, fun k k0 k1 => ?_, fun i i0 i1 => ?_, fun i i0 i1 => ?_⟩
  · have bi := b1 (130 + hs 3) (by omega) (by omega)
    by_cases x0 : i = 3
    · rw [x0, e3]; omega
    · by_cases x1 : i = 124 + hs 3
      · rw [x1, e124]; omega
      · by_cases x2 : i = 136 + hs 3
        · rw [x2, e136]
          rcases bt with q | q
          · rw [if_pos q]; omega
          · have := hb2 q; rw [if_neg (by rw [q]; decide)]; omega
        · by_cases x3 : i = 130 + hs 3
          · rw [x3, e130]
            rcases bt with q | q
            · have := hb1 q; rw [if_pos q]; omega
            · rw [if_neg (by rw [q]; decide)]; omega
          · by_cases x4 : i = 112 + hs 3
            · rw [x4, e112]; omega
            · by_cases x5 : i = 118 + hs 3
              · rw [x5, e118]; omega
              · by_cases x6 : i = 142 + hs 3
                · rw [x6, e142]; omega
                · rw [e i x0 x1 x2 x3 x4 x5 x6]; exact b1 i ii0 ii1
  · rw [E 0 (by omega) (by omega)] at t1; rw [et t t0 (by omega)]; exact W1 t t0 (by omega)
  · rw [E 1 (by omega) (by omega)] at k1
    refine (W2 k k0 k1).mv (by rw [E 0 (by omega) (by omega)]; omega) (fun t t0 t1 => et t t0 (by omega)) ?_ ?_ ?_ <;> exact E _ (by omega) (by omega)
  · rw [E 2 (by omega) (by omega)] at f1
    refine (W3 f f0 f1).mv (by rw [E 0 (by omega) (by omega)]; omega) (by rw [E 1 (by omega) (by omega)]; omega) (fun t t0 t1 => et t t0 (by omega)) (fun k k0 k1 => ⟨E _ (by omega) (by omega), E _ (by omega) (by omega)⟩) ?_ ?_ ?_ ?_ ?_ ?_ ?_ ?_ ?_ <;> exact E _ (by omega) (by omega)
  · by_cases hk : k = hs 3
    · subst hk
      unfold ChkW
      rw [e112, e118, e124, e136, e130, e142, E 0 (by omega) (by omega), et t r1.1 (by omega)]
      refine ⟨r1, r2, hsg, ?_, ?_, z2⟩
      · rcases bt with q | q
        · rw [if_pos q]; omega
        · have := hb2 q; rw [if_neg (by rw [q]; decide)]; omega
      · rcases bt with q | q
        · have := hb1 q; rw [if_pos q]; omega
        · rw [if_neg (by rw [q]; decide)]; omega
    · rw [e3] at k1
      refine (W4 k k0 (by omega)).mv (by rw [E 0 (by omega) (by omega)]; omega) (fun t t0 t1 => et t t0 (by omega)) ?_ ?_ ?_ ?_ ?_ ?_ <;> exact e _ (by omega) (by omega) (by omega) (by omega) (by omega) (by omega) (by omega)
  · rw [E i (by omega) (by omega)]; exact W5 i i0 i1
  · by_cases x3 : i = 130 + hs 3
    · rw [x3, e130]
      rcases bt with q | q
      · have := hb1 q; rw [if_pos q]; omega
      · rw [if_neg (by rw [q]; decide)]; omega
    · rw [e i (by omega) (by omega) (by omega) x3 (by omega) (by omega) (by omega)]; exact W6 i i0 i1
theorem line_W {hs nm : Int → Int} {a : (Int → Int) × (Int → Int) × Int} (W : HsW hs) (h : lineP g z l hs nm q = .ok a) : LineOk hs q a := by
  obtain ⟨b1, b2, b3, b4, b5, b6⟩ := id W.1
  unfold lineP at h
  split at h
  · exact table_W W h
  · split at h
    · split at h
      · cases h
      · exact key_W W (by omega) h
    · split at h
      · split at h
        · cases h
        · exact ref_W W (by omega) h
      · split at h
        · exact def_W W h
        · split at h
          · exact need_W W h
          · split at h
            · split at h
              · cases h
              · exact chk_W W (by omega) h
            · cases h
theorem hs0_W : HsW hs0 := by
  refine ⟨⟨fun i _ _ => by unfold hs0; split <;> omega, by decide, fun t t0 t1 => by unfold hs0; rw [if_neg (by omega)]; omega, by decide, by decide, by decide⟩, fun t t0 t1 => ?_, fun k k0 k1 => ?_, fun f f0 f1 => ?_, fun k k0 k1 => ?_, fun i i0 i1 => by unfold hs0; rw [if_neg (by omega)]; exact Or.inl rfl, fun i i0 i1 => by unfold hs0; rw [if_neg (by omega)]; exact Int.le_refl 0⟩
  · have : hs0 0 = 0 := by decide
    omega
  · have : hs0 1 = 0 := by decide
    omega
  · have : hs0 2 = 0 := by decide
    omega
  · have : hs0 3 = 0 := by decide
    omega
end
