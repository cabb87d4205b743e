/-! sort: one merge of the stack as a step */ -/
section
variable {G : Nat → Option Cl} {rk : Value → Int} {d : Nat} {H H2 H3 : AH} {e e2 e3 e4 ts N N2 N3 N4 rb rl SL k i En : Nat} {f0 f g : Nat → Value} {mg V : Int} {bs ls : Nat → Nat}
theorem GroT.tr (a : GroT H H2 N N2 N3 e2 e3) (b : GroT H2 H3 N N3 N4 e3 e4) : GroT H H3 N N2 N4 e2 e4 := by
  unfold GroT at *
  rcases a with ⟨a1, a2, a3, a4⟩ | ⟨a1, a2, a3, a4, a5, a6⟩
  · rcases b with ⟨b1, b2, b3, b4⟩ | ⟨b1, b2, b3, b4, b5, b6⟩
    · exact Or.inl ⟨by omega, by omega, by omega, by omega⟩
    · exact Or.inr ⟨by omega, b2, b3, by omega, by omega, by omega⟩
  · rcases b with ⟨b1, b2, b3, b4⟩ | ⟨b1, b2, b3, b4, b5, b6⟩
    · exact Or.inr ⟨a1, a2, by omega, by omega, by omega, by omega⟩
    · omega
/-- the cells that a sort writes -/
def SrtP (e ts e2 rb rl : Nat) (q : Nat) : Prop := q = e ∨ q = ts ∨ q = e2 ∨ q = rb ∨ q = rl
theorem SrtP.tr (a : Fr H H2 (SrtP e ts e2 rb rl)) (b : Fr H2 H3 (SrtP e ts e3 rb rl)) (h : GroT H H2 N N2 N3 e2 e3) : Fr H H3 (SrtP e ts e2 rb rl) := by
  refine a.new (b.mono fun q hq z => ?_)
  rcases z with z | z | z | z | z
  · exact Or.inl (Or.inl z)
  · exact Or.inl (Or.inr (Or.inl z))
  · rcases h with h | h
    · exact Or.inl (Or.inr (Or.inr (Or.inl (z.trans h.2.1))))
    · exact Or.inr (by rw [z]; exact h.2.2.2.1)
  · exact Or.inl (Or.inr (Or.inr (Or.inr (Or.inl z))))
  · exact Or.inl (Or.inr (Or.inr (Or.inr (Or.inr z))))
/-- the sort between two steps: k runs wait, up to En -/
def StS (G : Nat → Option Cl) (rk : Value → Int) (H : AH) (ts e e2 rb rl N N2 SL k En : Nat) (f0 f : Nat → Value) (mg V : Int) (bs ls : Nat → Nat) : Prop := TSt G H ts e e2 N N2 f mg (k : Int) (.ref rb) (.ref rl) ∧ RSt G H ts e e2 rb rl SL k bs ls ∧ RunW rk f k bs ls ∧ (bs (k - 1) + ls (k - 1) = En ∧ En ≤ N) ∧ OkA G rk f 0 N ∧ (1 ≤ mg ∧ mg + 3 * N * k ≤ V ∧ 2 + 3 * N * k ≤ V ∧ V < 1000000000) ∧ PmR f0 f 0 N
theorem c_stp (h : StS G rk H ts e e2 rb rl N N2 SL k En f0 f mg V bs ls) (hi : i + 2 = k ∨ i + 3 = k) :
    ∃ (H2 : AH) (f' : Nat → Value) (mg' : Int) (e3 N3 : Nat), M2 (d + 7) 72005 [.ref ts, .int (zI i)] H = some (.inl none, H2) ∧ StS G rk H2 ts e e3 rb rl N N3 SL (k - 1) En f0 f' mg' V (dlB i bs) (dlL i ls) ∧ Fr H H2 (SrtP e ts e2 rb rl) ∧ GroT H H2 N N2 N3 e2 e3 := by
  obtain ⟨hT, hR, hW, ⟨hE, hN⟩, hA, ⟨m1, m2, m3, m4⟩, hp⟩ := h
  have ek : 3 * (N : Int) * ((k - 1 : Nat) : Int) = 3 * N * k - 3 * N := by rw [show ((k - 1 : Nat) : Int) = (k : Int) - 1 by omega, Int.mul_sub, Int.mul_one]
  have nn : 0 ≤ 3 * (N : Int) * ((k - 1 : Nat) : Int) := Int.mul_nonneg (by omega) (by omega)
  obtain ⟨H2, f', mg', e3, N3, y1, y2, y3, y4, y5, y6, y7, y8⟩ := c_mat (d := d) (rk := rk) (U := V - 3 * N * ((k - 1 : Nat) : Int)) hT hR hW hi (by omega) hA m1 (by omega) (by omega) (by omega)
  have hb := hW.2.1 i (by omega)
  have hEi : bs i + (ls i + ls (i + 1)) ≤ N := by
    rcases hi with hi | hi
    · rw [show k - 1 = i + 1 by omega] at hE; omega
    · rw [show k - 1 = i + 2 by omega] at hE
      have := hW.2.1 (i + 1) (by omega)
      rw [show i + 1 + 1 = i + 2 by omega] at this
      omega
  have pm := y6.wd (lo2 := 0) (n2 := N) (Nat.zero_le _) (by omega)
  refine ⟨H2, f', mg', e3, N3, y1, ⟨y2, y3, y4, ⟨?_, hN⟩, pm.mem (P := fun v => Cmp G v (rk v)) hA, ⟨y5.1, by omega, by omega, m4⟩, hp.tr pm⟩, y7, y8⟩
  unfold dlB dlL
  rcases hi with hi | hi
  · rw [if_pos (show k - 1 - 1 ≤ i by omega), if_neg (show ¬ k - 1 - 1 < i by omega), if_pos (show k - 1 - 1 = i by omega), show k - 1 - 1 = i by omega]
    rw [show k - 1 = i + 1 by omega] at hE
    omega
  · rw [if_neg (show ¬ k - 1 - 1 ≤ i by omega), if_neg (show ¬ k - 1 - 1 < i by omega), if_neg (show ¬ k - 1 - 1 = i by omega), show k - 1 - 1 + 1 = k - 1 by omega]
    exact hE
end
