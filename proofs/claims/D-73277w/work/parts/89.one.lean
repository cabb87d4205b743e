/-! the twin reads the one statement of its tape -/
section
variable {d m : Nat} {T : Nat → Int → Int} {h : AH}
def tk0 (T : Nat → Int → Int) (lim : Int) : Nat → Int → Int := tg T 0 (fset (fset (fset (fset (fset (fset (T 0) 0 0) 3 (T 0 2)) 2 0) 4 0) 5 lim) 16 0)
theorem tk0_k {lim : Int} {k : Nat} (h0 : k ≠ 0) : tk0 T lim k = T k := tg_ne h0
theorem tk0_0 {lim : Int} : tk0 T lim 0 = fset (fset (fset (fset (fset (fset (T 0) 0 0) 3 (T 0 2)) 2 0) 4 0) 5 lim) 16 0 := tg_eq
theorem rd_tk0 {lim : Int} (hC : TwC T) (l0 : 0 ≤ lim) (l1 : lim ≤ 1000) : ∃ T1, M (d + 2) 7071 [.ref m] (tw m (tk0 T lim) h) = some (.inl none, tw m T1 h) ∧ PF (tk0 T lim) T1 ∧ Rd (T 1) (T 0 2) lim T1 0 := by
  obtain ⟨c1, c2, c3, c4, c5⟩ := hC
  have A03 : tk0 T lim 0 3 = T 0 2 := by rw [tk0_0]; simp (disch := omega) only [fset_eq, fset_ne]
  have A04 : tk0 T lim 0 4 = 0 := by rw [tk0_0]; simp (disch := omega) only [fset_eq, fset_ne]
  have A05 : tk0 T lim 0 5 = lim := by rw [tk0_0]; simp (disch := omega) only [fset_eq, fset_ne]
  have A016 : tk0 T lim 0 16 = 0 := by rw [tk0_0, fset_eq]
  have hTp : TpOk (tk0 T lim) := ⟨fun i => by rw [tk0_k (by decide)]; exact c1 i, by rw [A03]; omega, by rw [A03]; omega, by rw [A05]; omega, by rw [A05]; omega⟩
  have hN : NmOk (tk0 T lim) := fun i => by rw [tk0_k (by decide)]; exact c3 i
  obtain ⟨T1, n1, n2, n3, n4⟩ := tm_next (d := d) (m := m) (h := h) hTp (by rw [A04]; omega) (by rw [A04, A03]; omega)
  rw [A04] at n4
  exact ⟨T1, n1, n2, ⟨⟨by rw [n2.1 1 (by decide), tk0_k (by decide)], by rw [n2.2 3 (by omega), A03], by rw [n2.2 5 (by omega), A05]⟩, hTp.pf n2, fun k hk => by rw [n2.1 7 (by decide), tk0_k (by decide)]; exact c2 k hk, hN.pf n2, n4, by rw [n3 16 (by omega), A016]⟩⟩
end
