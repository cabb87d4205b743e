/-! how far off a row is that goes: one by one, out of a queue; without program -/
def edgB (S : Int → Int) (r x : Int) : Bool := anyF (fun f => decide (S (88 + f) = 1) && decide (parS S r f = x)) (S 2).toNat 0
abbrev DQ : Type := (Int → Int) × List Int
def inS (S : Int → Int) (x : Int) : List Int → DQ → DQ
  | [], y => y
  | r :: s, y => inS S x s (if y.1 r < 0 ∧ edgB S r x = true then (fset y.1 r (y.1 x + 1), y.2 ++ [r]) else y)
def letS (S : Int → Int) : Nat → DQ → (Int → Int)
  | 0, y => y.1
  | n + 1, y => match y.2 with
    | [] => y.1
    | x :: Q => letS S n (inS S x (alv S 150 99 0) (y.1, Q))
section
variable {S : Int → Int} {src : Int → Prop} {x : Int}
theorem edgB_iff (N0 : 0 ≤ S 2) {r x : Int} (x0 : 0 ≤ x) : edgB S r x = true ↔ EdgS S r x := by
  have key : ∀ (j : Nat) (k : Int), 0 ≤ k → k + j = S 2 → (anyF (fun f => decide (S (88 + f) = 1) && decide (parS S r f = x)) j k = true ↔ ∃ f, k ≤ f ∧ f < S 2 ∧ S (88 + f) = 1 ∧ parS S r f = x) := by
    intro j
    induction j with
    | zero => intro k k0 hk; simp only [anyF, Bool.false_eq_true, false_iff]; rintro ⟨f, a, b, -⟩; omega
    | succ j ih =>
      intro k k0 hk
      simp only [anyF]
      rw [Bool.or_eq_true, ih (k + 1) (by omega) (by omega), Bool.and_eq_true, decide_eq_true_eq, decide_eq_true_eq]
      constructor
      · rintro (⟨a, b⟩ | ⟨f, a, b⟩)
        · exact ⟨k, Int.le_refl _, by omega, a, b⟩
        · exact ⟨f, by omega, b⟩
      · rintro ⟨f, a, b, c⟩
        by_cases hf : f = k
        · subst hf; exact Or.inl c
        · exact Or.inr ⟨f, by omega, b, c⟩
  unfold edgB
  rw [key _ 0 (Int.le_refl _) (by omega)]
  constructor
  · rintro ⟨f, a, b, c, d⟩; exact ⟨f, a, b, c, d, x0⟩
  · rintro ⟨f, a, b, c, d, -⟩; exact ⟨f, a, b, c, d⟩
theorem inS_D : ∀ (s : List Int) (y : DQ), s.Nodup → 0 ≤ y.1 x → ∀ r, (inS S x s y).1 r = if r ∈ s ∧ y.1 r < 0 ∧ edgB S r x = true then y.1 x + 1 else y.1 r := by
  intro s
  induction s with
  | nil => intro y _ _ r; simp [inS]
  | cons a s ih =>
    intro y hn hy r
    rw [List.nodup_cons] at hn
    simp only [inS]
    by_cases c : y.1 a < 0 ∧ edgB S a x = true
    · rw [if_pos c]
      have hax : a ≠ x := by rintro rfl; omega
      have e1 : fset y.1 a (y.1 x + 1) x = y.1 x := fset_ne (Ne.symm hax)
      rw [ih (fset y.1 a (y.1 x + 1), y.2 ++ [a]) hn.2 (by show 0 ≤ fset y.1 a (y.1 x + 1) x; rw [e1]; exact hy) r]
      show (if r ∈ s ∧ fset y.1 a (y.1 x + 1) r < 0 ∧ edgB S r x = true then fset y.1 a (y.1 x + 1) x + 1 else fset y.1 a (y.1 x + 1) r) = _
      rw [e1]
      by_cases hr : r = a
      · subst hr
        rw [fset_eq, if_neg (fun z => hn.1 z.1), if_pos ⟨List.mem_cons_self, c⟩]
      · rw [fset_ne hr]
        have : (r ∈ a :: s) ↔ r ∈ s := by rw [List.mem_cons]; exact ⟨fun z => z.elim (fun z => absurd z hr) id, Or.inr⟩
        simp only [this]
    · rw [if_neg c, ih y hn.2 hy r]
      by_cases hr : r = a
      · subst hr
        rw [if_neg (fun z => hn.1 z.1), if_neg (fun z => c z.2)]
      · have : (r ∈ a :: s) ↔ r ∈ s := by rw [List.mem_cons]; exact ⟨fun z => z.elim (fun z => absurd z hr) id, Or.inr⟩
        simp only [this]
theorem inS_Q : ∀ (s : List Int) (y : DQ), s.Nodup → 0 ≤ y.1 x → (inS S x s y).2 = y.2 ++ s.filter (fun r => decide (y.1 r < 0) && edgB S r x) := by
  intro s
  induction s with
  | nil => intro y _ _; simp [inS]
  | cons a s ih =>
    intro y hn hy
    rw [List.nodup_cons] at hn
    simp only [inS]
    by_cases c : y.1 a < 0 ∧ edgB S a x = true
    · rw [if_pos c]
      have hax : a ≠ x := by rintro rfl; omega
      have e1 : fset y.1 a (y.1 x + 1) x = y.1 x := fset_ne (Ne.symm hax)
      rw [ih (fset y.1 a (y.1 x + 1), y.2 ++ [a]) hn.2 (by show 0 ≤ fset y.1 a (y.1 x + 1) x; rw [e1]; exact hy)]
      have ef : s.filter (fun r => decide (fset y.1 a (y.1 x + 1) r < 0) && edgB S r x) = s.filter (fun r => decide (y.1 r < 0) && edgB S r x) := by
        refine List.filter_congr fun r hr => ?_
        rw [fset_ne (by rintro rfl; exact hn.1 hr)]
      rw [List.filter_cons, if_pos (by simp [c.1, c.2])]
      show y.2 ++ [a] ++ _ = _
      rw [ef, List.append_assoc]
      rfl
    · rw [if_neg c, ih y hn.2 hy, List.filter_cons, if_neg (by simpa using c)]
/-- what holds between two of the queue -/
def QueW (S : Int → Int) (src : Int → Prop) (y : DQ) : Prop := (∀ r, 0 ≤ r → r < 99 → -1 ≤ y.1 r ∧ (S (150 + r) ≠ 1 → y.1 r = -1)) ∧
  (∀ r, AlS S r → src r → y.1 r = 0) ∧ (∀ r, AlS S r → ¬ src r → 0 ≤ y.1 r → ∃ q, EdgS S r q ∧ y.1 q = y.1 r - 1 ∧ 0 ≤ y.1 q) ∧ (∀ r q, AlS S r → EdgS S r q → 0 ≤ y.1 q → q ∉ y.2 → 0 ≤ y.1 r ∧ y.1 r ≤ y.1 q + 1) ∧
  (∀ x ∈ y.2, AlS S x ∧ 0 ≤ y.1 x) ∧ y.2.Pairwise (fun a b => y.1 a ≤ y.1 b) ∧ (∀ x ∈ y.2, ∀ r, AlS S r → y.1 r ≤ y.1 x + 1)
theorem que_step (W : StW S) {D : Int → Int} {Q : List Int} (h : QueW S src (D, x :: Q)) : QueW S src (inS S x (alv S 150 99 0) (D, Q)) := by
  have N0 := W.n0.2.2.1.1
  obtain ⟨h0, h1, h2, h3, h4, h5, h6⟩ := h
  obtain ⟨hx, hx0⟩ := h4 x List.mem_cons_self
  have hx0' : 0 ≤ D x := hx0
  rw [List.pairwise_cons] at h5
  have nd := alv_nd (S := S) (at_ := 150) 99 0
  have eD := inS_D (S := S) (x := x) (alv S 150 99 0) (D, Q) nd hx0'
  have eQ := inS_Q (S := S) (x := x) (alv S 150 99 0) (D, Q) nd hx0'
  have mem : ∀ r, r ∈ alv S 150 99 0 ↔ AlS S r := fun r => by
    rw [alv_mem]; unfold AlS; constructor <;> intro z <;> omega
  generalize inS S x (alv S 150 99 0) (D, Q) = y at *
  obtain ⟨E, R⟩ := y
  simp only at eD eQ
  have E1 : ∀ r, 0 ≤ D r → E r = D r := fun r hr => by rw [eD r, if_neg (by omega)]
  have E2 : ∀ r, AlS S r → D r < 0 → edgB S r x = true → E r = D x + 1 := fun r a b c => by rw [eD r, if_pos ⟨(mem r).mpr a, b, c⟩]
  have E3 : ∀ r, E r = D r ∨ (AlS S r ∧ D r < 0 ∧ edgB S r x = true ∧ E r = D x + 1) := fun r => by
    by_cases c : r ∈ alv S 150 99 0 ∧ D r < 0 ∧ edgB S r x = true
    · exact Or.inr ⟨(mem r).mp c.1, c.2.1, c.2.2, by rw [eD r, if_pos c]⟩
    · exact Or.inl (by rw [eD r, if_neg c])
  have R1 : ∀ r, r ∈ R ↔ r ∈ Q ∨ (AlS S r ∧ D r < 0 ∧ edgB S r x = true) := fun r => by
    rw [eQ, List.mem_append, List.mem_filter, mem, Bool.and_eq_true, decide_eq_true_eq]
  have h6x : ∀ r, AlS S r → D r ≤ D x + 1 := h6 x List.mem_cons_self
  have Ele : ∀ r, AlS S r → E r ≤ D x + 1 := fun r ha => by
    rcases E3 r with c | c
    · rw [c]; exact h6x r ha
    · omega
  have Rge : ∀ z ∈ R, D x ≤ E z := fun z hz => by
    rcases (R1 z).mp hz with c | c
    · rw [E1 z (h4 z (List.mem_cons_of_mem _ c)).2]
      exact h5.1 z c
    · rw [E2 z c.1 c.2.1 c.2.2]; omega
  refine ⟨fun r r0 r1 => ?_, fun r ha hs => ?_, fun r ha hs hr => ?_, fun r q ha he hq hn => ?_, fun z hz => ?_, ?_, fun z hz r ha => ?_⟩
  · have := h0 r r0 r1
    rcases E3 r with c | c
    · show -1 ≤ E r ∧ (_ → E r = -1)
      rw [c]; exact this
    · exact ⟨by show -1 ≤ E r; omega, fun z => absurd c.1.2.2 z⟩
  · have := h1 r ha hs
    have : D r = 0 := this
    show E r = 0
    rw [E1 r (by omega), this]
  · have hr : 0 ≤ E r := hr
    rcases E3 r with c | c
    · rw [c] at hr
      obtain ⟨q, a, b, c2⟩ := h2 r ha hs hr
      have c2 : 0 ≤ D q := c2
      exact ⟨q, a, by show E q = E r - 1; rw [E1 q c2, c]; exact b, by show 0 ≤ E q; rw [E1 q c2]; exact c2⟩
    · exact ⟨x, (edgB_iff N0 hx.1).mp c.2.2.1, by show E x = E r - 1; rw [E1 x hx0', c.2.2.2]; omega, by show 0 ≤ E x; rw [E1 x hx0']; exact hx0'⟩
  · have hq : 0 ≤ E q := hq
    have hn : q ∉ R := hn
    show 0 ≤ E r ∧ E r ≤ E q + 1
    have qD : E q = D q := by
      rcases E3 q with c | c
      · exact c
      · exact absurd ((R1 q).mpr (Or.inr ⟨c.1, c.2.1, c.2.2.1⟩)) hn
    have qQ : q ∉ Q := fun z => hn ((R1 q).mpr (Or.inl z))
    rw [qD] at hq ⊢
    by_cases hqx : q = x
    · subst hqx
      have eb := (edgB_iff N0 hx.1).mpr he
      by_cases c : D r < 0
      · rw [E2 r ha c eb]; omega
      · rw [E1 r (by omega)]
        exact ⟨by omega, h6x r ha⟩
    · have := h3 r q ha he hq (by rw [List.mem_cons]; rintro (z | z); exact hqx z; exact qQ z)
      have h1 : 0 ≤ D r := this.1
      rw [E1 r h1]
      exact this
  · show AlS S z ∧ 0 ≤ E z
    rcases (R1 z).mp hz with c | c
    · obtain ⟨a, b⟩ := h4 z (List.mem_cons_of_mem _ c)
      have b : 0 ≤ D z := b
      exact ⟨a, by rw [E1 z b]; exact b⟩
    · exact ⟨c.1, by rw [E2 z c.1 c.2.1 c.2.2]; omega⟩
  · show R.Pairwise (fun a b => E a ≤ E b)
    rw [eQ, List.pairwise_append]
    refine ⟨List.Pairwise.imp_of_mem (fun {a b} ha hb hab => ?_) h5.2, ?_, fun a ha b hb => ?_⟩
    · have a1 : 0 ≤ D a := (h4 a (List.mem_cons_of_mem _ ha)).2
      have b1 : 0 ≤ D b := (h4 b (List.mem_cons_of_mem _ hb)).2
      rw [E1 a a1, E1 b b1]; exact hab
    · refine List.Pairwise.imp_of_mem (fun {a b} ha hb hab => ?_) (nd.filter _)
      rw [List.mem_filter, mem, Bool.and_eq_true, decide_eq_true_eq] at ha hb
      rw [E2 a ha.1 ha.2.1 ha.2.2, E2 b hb.1 hb.2.1 hb.2.2]
      exact Int.le_refl _
    · rw [List.mem_filter, mem, Bool.and_eq_true, decide_eq_true_eq] at hb
      have a1 := h4 a (List.mem_cons_of_mem _ ha)
      have a2 : 0 ≤ D a := a1.2
      rw [E1 a a2, E2 b hb.1 hb.2.1 hb.2.2]
      exact h6x a a1.1
  · have := Ele r ha
    have := Rge z hz
    show E r ≤ E z + 1
    omega
/-- how many are still to come -/
theorem inS_n : ∀ (s : List Int) (y : DQ), (∀ r ∈ s, 0 ≤ r ∧ r < 99) → 0 ≤ y.1 x → cn (inS S x s y).1 99 0 + (inS S x s y).2.length = cn y.1 99 0 + y.2.length ∧ 0 ≤ (inS S x s y).1 x := by
  intro s
  induction s with
  | nil => intro y _ h; exact ⟨rfl, h⟩
  | cons a s ih =>
    intro y hs hy
    have ha := hs a List.mem_cons_self
    simp only [inS]
    by_cases c : y.1 a < 0 ∧ edgB S a x = true
    · rw [if_pos c]
      have hax : a ≠ x := by rintro rfl; omega
      have e1 : fset y.1 a (y.1 x + 1) x = y.1 x := fset_ne (Ne.symm hax)
      obtain ⟨i1, i2⟩ := ih (fset y.1 a (y.1 x + 1), y.2 ++ [a]) (fun r hr => hs r (List.mem_cons_of_mem _ hr)) (by show 0 ≤ fset y.1 a (y.1 x + 1) x; rw [e1]; exact hy)
      have cc := cn_in (n := y.1 x + 1) (by omega) c.1 99 0 ha.1 (by omega)
      refine ⟨?_, i2⟩
      rw [i1]
      show cn (fset y.1 a (y.1 x + 1)) 99 0 + (y.2 ++ [a]).length = _
      rw [List.length_append]
      simp only [List.length_singleton]
      omega
    · rw [if_neg c]
      exact ih y (fun r hr => hs r (List.mem_cons_of_mem _ hr)) hy
theorem let_bfs (W : StW S) : ∀ (n : Nat) (y : DQ), cn y.1 99 0 + y.2.length ≤ n → QueW S src y → BfsW S src (letS S n y) := by
  intro n
  induction n with
  | zero =>
    intro y hn h
    have : y.2 = [] := List.length_eq_zero_iff.mp (by omega)
    obtain ⟨h0, h1, h2, h3, -⟩ := h
    exact ⟨h0, h1, h2, fun r q a b c => h3 r q a b c (by rw [this]; exact List.not_mem_nil)⟩
  | succ n ih =>
    intro y hn h
    obtain ⟨D, Q⟩ := y
    cases Q with
    | nil =>
      obtain ⟨h0, h1, h2, h3, -⟩ := h
      exact ⟨h0, h1, h2, fun r q a b c => h3 r q a b c List.not_mem_nil⟩
    | cons x Q =>
      have hx : 0 ≤ D x := (h.2.2.2.2.1 x List.mem_cons_self).2
      have m := (inS_n (S := S) (x := x) (alv S 150 99 0) (D, Q) (fun r hr => by have := (alv_mem 99 0 r).mp hr; omega) hx).1
      refine ih _ ?_ (que_step W h)
      rw [m]
      simp only [List.length_cons] at hn ⊢
      omega
end
