/-! a schema that was read stands, whatever the face writes later -/
section
variable {H : AH} {a b q u : Nat} {n m ln t : Int} {B Bf : Nat → Prop} {S nm : Int → Int} {bt : Int → Nat} {s : List Int} {c1 c2 k : Int}
/-- the cells of Bf are none of a schema's small things -/
def NoB (Bf : Nat → Prop) (H : AH) : Prop := ∀ (u : Nat) (c : Cl), Bf u → jm H u = some c → c.1 ≠ 12 ∧ c.1 ≠ 13 ∧ c.1 ≠ 14 ∧ c.1 ≠ 50 ∧ c.1 ≠ 150 ∧ (c.1 = 1000 → 3 ≤ c.2.1) ∧ (c.1 = 1010 ∨ c.1 = 1011 → 8 ≤ c.2.1)
theorem NoB.f {t n : Nat} {f : Nat → Value} (N : NoB Bf H) (h : Fz B H u = some (t, n, f)) (hn : ¬ (t ≠ 12 ∧ t ≠ 13 ∧ t ≠ 14 ∧ t ≠ 50 ∧ t ≠ 150 ∧ (t = 1000 → 3 ≤ n) ∧ (t = 1010 ∨ t = 1011 → 8 ≤ n))) : Fz Bf H u = some (t, n, f) :=
  Fz_in (Fz_lt h).1 (fun hb => hn (N u _ hb (Fz_F.m h))) (Fz_F.m h)
theorem StrF.nb (h : StrF (Fz B H) a s) (hn : NmB s) (N : NoB Bf H) : StrF (Fz Bf H) a s := by
  obtain ⟨t, e, te, f, g, ⟨h1, h2, h3, h4⟩, h5, h6, h7⟩ := h
  have := hn.2.1
  exact ⟨t, e, te, f, g, ⟨N.f h1 (by omega), h2, h3, h4⟩, N.f h5 (by omega), h6, h7⟩
theorem ColF.nb (h : ColF (Fz B H) a c1 c2) (N : NoB Bf H) : ColF (Fz Bf H) a c1 c2 := by
  obtain ⟨g, h1, h2, h3⟩ := h
  exact ⟨g, N.f h1 (by split <;> omega), h2, h3⟩
theorem KeyF.nb (h : KeyF (Fz B H) b k S) (N : NoB Bf H) : KeyF (Fz Bf H) b k S := by
  obtain ⟨e, h1, h2⟩ := h
  exact ⟨e, N.f h1 (by omega), h2.nb N⟩
theorem RefF.nb (h : RefF (Fz B H) b k S) (N : NoB Bf H) : RefF (Fz Bf H) b k S := by
  obtain ⟨e, h1, h2⟩ := h
  exact ⟨e, N.f h1 (by omega), h2.nb N⟩
theorem ChkF.nb (h : ChkF (Fz B H) b k S) (N : NoB Bf H) : ChkF (Fz Bf H) b k S := N.f h (by omega)
/-- what was made stands -/
theorem SchM.fz (h : SchM H a q bt (S 0) (S 0) ln S nm) (hlo : ∀ u, Bf u → u < a) (N : NoB Bf H) : SchF (Fz Bf H) q S nm := by
  obtain ⟨o, h1, h2, h3, h4, h5, h6, h7, h8⟩ := h
  have o1 := o.1
  have b8 := h8.1
  have fz : ∀ u, a ≤ u → u < H.1 → Fz Bf H u = jm H u := fun u u0 u1 => by
    cases hj : jm H u with
    | none =>
      unfold Fz
      split
      · exact hj
      · rfl
    | some c => exact Fz_in u1 (fun hb => by have := hlo u hb; omega) hj
  refine ⟨ln, q + 1, q + 2, q + 3, q + 4, (fz q (by omega) (by omega)).trans h1, h2.f (by have := b8.2.1; omega) (fz _ (by omega) (by omega)) (fun t b t0 t1 e => ?_), h3.f (by have := b8.2.2.2.1; omega) (fz _ (by omega) (by omega)) (fun k b k0 k1 e => e.nb N), h4.f (by have := b8.2.2.2.2.1; omega) (fz _ (by omega) (by omega)) (fun k b k0 k1 e => e.nb N), h5.f (by have := b8.2.2.2.2.2; omega) (fz _ (by omega) (by omega)) (fun k b k0 k1 e => e.nb N)⟩
  rw [e]
  obtain ⟨⟨qn, m1, s, m2, m3, m4⟩, m5, ⟨gd, m6, m7⟩, s2, m8, m9⟩ := h6 t t0 t1
  have o2 := o.2.1 t t0 t1
  have co := b8.2.2.1 t t0 (by have := b8.2.1; omega)
  refine ⟨qn, bt t + 1, bt t + 2, bt t + 3, (fz _ (by omega) (by omega)).trans m1, ⟨s, m2.nb m3 N, m3, m4⟩, m5.f (by omega) (fz _ (by omega) (by omega)) (fun c u c0 c1 x => ?_), ⟨gd, (fz _ (by omega) (by omega)).trans m6, m7⟩, 1, s2, (fz _ (by omega) (by omega)).trans m8, by omega, m9⟩
  obtain ⟨s3, x1, x2, x3⟩ := x
  exact ⟨s3, x1.nb x2 N, x2, x3⟩
end
