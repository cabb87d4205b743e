/-! how many bytes a word takes; a book's line -/
section
variable {g : Int → Int} {z l q to : Int} {S nm L : Int → Int}
theorem allF_in : ∀ (n : Nat) (p : Int), allF g z true n p = true → ∀ i : Nat, i < n → 0 ≤ tpk g z (p + i) := by
  intro n
  induction n with
  | zero => intro p _ i hi; omega
  | succ n ih =>
    intro p hp i hi
    have hp' : ((small (tpk g z p) == true) && allF g z true n (p + 1)) = true := hp
    rw [Bool.and_eq_true] at hp'
    rcases i with _ | i
    · have h1 : small (tpk g z p) = true := by have := hp'.1; simpa using this
      have := small_rg h1
      show 0 ≤ tpk g z (p + ((0 : Nat) : Int))
      rw [show p + ((0 : Nat) : Int) = p by omega]
      omega
    · have := ih (p + 1) hp'.2 i (by omega)
      rw [show p + ((i + 1 : Nat) : Int) = p + 1 + i by omega]; exact this
/-- a word that is a great number has many letters -/
theorem wd_len {k : Nat} (h : kd g z l q = 1) (hw : ((256 ^ k : Nat) : Int) ≤ wdv g z q) : q + k + 1 ≤ nxt g z l q := by
  obtain ⟨k1, k2, k3, k4, k5⟩ := kd1 h
  have b := sk_le_self (g := g) (z := z) (p := q)
  have ge := en_ge (g := g) (z := z) (p := sk g z q)
  unfold okW at k4
  rw [Bool.and_eq_true, k5] at k4
  have al := k4.1
  have e : (k : Int) + 1 ≤ spn g z q := by
    by_cases c : (k : Int) + 1 ≤ spn g z q
    · exact c
    · exfalso
      have s0 : 0 ≤ spn g z q := by unfold spn; omega
      have rg := wdF_rg (g := g) (z := z) (min 7 (spn g z q)).toNat (p := sk g z q) (a := 0) (Int.le_refl _) (fun i hi => allF_in _ _ al i (by omega))
      have up : (256 ^ (min 7 (spn g z q)).toNat : Nat) ≤ 256 ^ k := Nat.pow_le_pow_right (by decide) (by omega)
      have r2 := rg.2
      unfold wdv at hw
      rw [Int.zero_add, Int.one_mul] at r2
      have up' : ((256 ^ (min 7 (spn g z q)).toNat : Nat) : Int) ≤ ((256 ^ k : Nat) : Int) := Int.ofNat_le.mpr up
      omega
  unfold nxt
  rw [if_neg (by rw [k1]; decide), if_neg (by omega), if_neg (by rw [k3]; decide)]
  unfold spn at e
  omega
theorem isW_len {k : Nat} {w : Int} (h : isW g z l q w = true) (hw : ((256 ^ k : Nat) : Int) ≤ w) : q + k + 1 ≤ nxt g z l q := by
  simp only [isW, decide_eq_true_eq] at h
  exact wd_len h.1 (by rw [h.2]; exact hw)
theorem look_nx {n : Nat} {v : Int} {f : Int → Int} (h : lookP g z l f n q = .ok v) : q + 1 ≤ nxt g z l q := by
  unfold lookP at h
  split at h
  · cases h
  · rename_i hn
    have hk : kd g z l q = 1 := isNm_k (by simpa using hn)
    have := nxt_gt1 hk
    omega
theorem val_ge {i : Int} {b : LQ} (h : valP g z l L i q = .ok b) : q ≤ b.2 := by
  have := nxt_ge (g := g) (z := z) (l := l) q
  unfold valP at h
  split at h
  · cases h; exact this
  · obtain ⟨a, -, h⟩ := eb_inv h
    cases h; exact this
theorem cond_ge : ∀ (n : Nat) (L : Int → Int) (q : Int) (b : LQ), condF g z l S nm to n L q = .ok b → q ≤ b.2 := by
  intro n
  induction n with
  | zero => intro L q b h; cases h; exact Int.le_refl _
  | succ n ih =>
    intro L q b h
    have n1 := nxt_ge (g := g) (z := z) (l := l) q
    have n2 := nxt_ge (g := g) (z := z) (l := l) (nxt g z l q)
    have n3 := nxt_ge (g := g) (z := z) (l := l) (nxt g z l (nxt g z l q))
    unfold condF at h
    obtain ⟨a, -, h⟩ := eb_inv h
    split at h
    · cases h
    · split at h
      · obtain ⟨v, h1, h⟩ := eb_inv h
        have e := val_ge h1
        split at h
        · have := ih _ _ _ h
          omega
        · cases h
          show q ≤ v.2
          omega
      · cases h
theorem conds_ge {b : LQ} (h : condsP g z l S nm L to q = .ok b) : q ≤ b.2 := by
  unfold condsP at h
  split at h
  · exact cond_ge 5 _ _ _ h
  · cases h; exact Int.le_refl _
theorem vals_ge : ∀ (n : Nat) (c : Int) (L : Int → Int) (q : Int) (b : LQ), vals g z l to n c L q = .ok b → q ≤ b.2 := by
  intro n
  induction n with
  | zero => intro c L q b h; cases h; exact Int.le_refl _
  | succ n ih =>
    intro c L q b h
    unfold vals at h
    obtain ⟨v, h1, h⟩ := eb_inv h
    have := ih _ _ _ _ h
    have := val_ge h1
    omega
theorem own_ge {b : LQ} (h : ownP g z l S nm L to q = .ok b) : q + 1 ≤ b.2 := by
  unfold ownP at h
  obtain ⟨a, h1, h⟩ := eb_inv h
  cases h
  exact look_nx h1
theorem stm_nx {b : LQ} (h : stmP g z l S nm L to q = .ok b) : q + 4 ≤ b.2 := by
  unfold stmP at h
  split at h
  · rename_i hw
    have w := isW_len (k := 3) hw (by decide)
    unfold insP at h
    obtain ⟨a, h1, h⟩ := eb_inv h
    have := own_ge h1
    have := vals_ge _ _ _ _ _ h
    omega
  · split at h
    · rename_i hw
      have w := isW_len (k := 3) hw (by decide)
      unfold delP at h
      obtain ⟨a, h1, h⟩ := eb_inv h
      have := own_ge h1
      have := conds_ge h
      omega
    · split at h
      · rename_i hw
        have w := isW_len (k := 2) hw (by decide)
        unfold setP at h
        obtain ⟨a, h1, h⟩ := eb_inv h
        have o := own_ge h1
        obtain ⟨c, -, h⟩ := eb_inv h
        obtain ⟨v, h2, h⟩ := eb_inv h
        have e := val_ge h2
        have n1 := nxt_ge (g := g) (z := z) (l := l) a.2
        split at h
        · obtain ⟨c2, -, h⟩ := eb_inv h
          split at h
          · cases h
          · obtain ⟨w', h3, h⟩ := eb_inv h
            have f := val_ge h3
            have n2 := nxt_ge (g := g) (z := z) (l := l) v.2
            have := conds_ge h
            omega
        · have := conds_ge h
          omega
      · cases h
theorem bkP_nx {n : Int} {a : LQ} (h : bkP g z l S nm L n q = .ok a) : q + 4 ≤ a.2 := by
  unfold bkP at h
  have key : ∀ (v w : Int), isW g z l q w = true → ((256 ^ 3 : Nat) : Int) ≤ w → (if n = 40 then (.error (erx g z l q 4) : Except Er LQ) else .ok (fset L (20 * n) v, nxt g z l q)) = .ok a → q + 4 ≤ a.2 := fun v w hw h3 x => by
    have := isW_len (k := 3) hw h3
    by_cases c : n = 40
    · rw [if_pos c] at x; cases x
    · rw [if_neg c] at x; cases x
      show q + 4 ≤ nxt g z l q
      omega
  split at h
  · rename_i hw; exact key 3 _ hw (by decide) h
  · split at h
    · rename_i hw; exact key 4 _ hw (by decide) h
    · split at h
      · rename_i hw; exact key 5 _ hw (by decide) h
      · split at h
        · split at h
          · cases h
          · exact stm_nx h
        · cases h
end
