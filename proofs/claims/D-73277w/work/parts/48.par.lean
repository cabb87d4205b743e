/-! readers, as both sides have them: the pieces -/
abbrev Er : Type := Int × Int
def isK {α : Type} (r : Except Er α) : Bool := match r with
  | .ok _ => true
  | .error _ => false
def fnd (f : Int → Bool) : Nat → Int → Int
  | 0, _ => -1
  | n + 1, k => if f k = true then k else fnd f n (k + 1)
theorem fnd_rg {f : Int → Bool} : ∀ (n : Nat) (k : Int), fnd f n k = -1 ∨ (k ≤ fnd f n k ∧ fnd f n k < k + n ∧ f (fnd f n k) = true)
  | 0, k => Or.inl rfl
  | n + 1, k => by
    simp only [fnd]
    by_cases h : f k = true
    · rw [if_pos h]; exact Or.inr ⟨Int.le_refl _, by omega, h⟩
    · rw [if_neg h]
      rcases fnd_rg (f := f) n (k + 1) with e | ⟨e1, e2, e3⟩
      · exact Or.inl e
      · exact Or.inr ⟨by omega, by omega, e3⟩
/-- the words that are taken: table key ref to refuse follow clear reset full late default need check insert delete if and set begin commit back none or not bare known broken in row -/
abbrev wTABLE : Int := 0x7461626c65
abbrev wKEY : Int := 0x6b6579
abbrev wREF : Int := 0x726566
abbrev wTO : Int := 0x746f
abbrev wREFUSE : Int := 0x726566757365
abbrev wFOLLOW : Int := 0x666f6c6c6f77
abbrev wCLEAR : Int := 0x636c656172
abbrev wRESET : Int := 0x7265736574
abbrev wFULL : Int := 0x66756c6c
abbrev wLATE : Int := 0x6c617465
abbrev wDEFAULT : Int := 0x64656661756c74
abbrev wNEED : Int := 0x6e656564
abbrev wCHECK : Int := 0x636865636b
abbrev wINSERT : Int := 0x696e73657274
abbrev wDELETE : Int := 0x64656c657465
abbrev wIF : Int := 0x6966
abbrev wAND : Int := 0x616e64
abbrev wSET : Int := 0x736574
abbrev wBEGIN : Int := 0x626567696e
abbrev wCOMMIT : Int := 0x636f6d6d6974
abbrev wBACK : Int := 0x6261636b
abbrev wNONE : Int := 0x6e6f6e65
abbrev wOR : Int := 0x6f72
abbrev wNOT : Int := 0x6e6f74
abbrev wBARE : Int := 0x62617265
abbrev wKNOWN : Int := 0x6b6e6f776e
abbrev wBROKEN : Int := 0x62726f6b656e
abbrev wIN : Int := 0x696e
abbrev wROW : Int := 0x726f77
def rsv : List Int := [wTABLE, wKEY, wREF, wTO, wREFUSE, wFOLLOW, wCLEAR, wRESET, wFULL, wLATE, wDEFAULT, wNEED, wCHECK, wINSERT, wDELETE, wIF, wAND, wSET, wBEGIN, wCOMMIT, wBACK, wNONE, wOR, wNOT, wBARE, wKNOWN, wBROKEN, wIN, wROW]
section
variable (g : Int → Int) (z l : Int)
def isW (q w : Int) : Bool := decide (kd g z l q = 1 ∧ wdv g z q = w)
def isS (q c : Int) : Bool := decide (kd g z l q = 3 ∧ nmv g z q = c)
def isNm (q : Int) : Bool := decide (kd g z l q = 1) && !(rsv.elem (wdv g z q))
def erx (q k : Int) : Er := (if kd g z l q = 4 then 1 else k, plc g z l q)
/-- the place in a row of n names of the word at hand -/
def lookP (nm : Int → Int) (n : Nat) (q : Int) : Except Er Int :=
  if isNm g z l q = false then .error (erx g z l q 1) else
  if fnd (fun k => decide (nm k = wdv g z q)) n 0 < 0 then .error (erx g z l q 3) else .ok (fnd (fun k => decide (nm k = wdv g z q)) n 0)
def signP (c q : Int) : Except Er Int := if isS g z l q c = true then .ok (nxt g z l q) else .error (erx g z l q 1)
def numP (low high q : Int) : Except Er Int :=
  if kd g z l q ≠ 2 then .error (erx g z l q 1) else if isInZ (nmv g z q) low high = false then .error (erx g z l q 2) else .ok (nmv g z q)
end
section
variable {g : Int → Int} {z l : Int}
theorem wdF_rg : ∀ (n : Nat) {p a : Int}, 0 ≤ a → (∀ i : Nat, i < n → 0 ≤ tpk g z (p + i)) → 0 ≤ wdF g z n p a ∧ wdF g z n p a < (a + 1) * ((256 ^ n : Nat) : Int)
  | 0, p, a, h, _ => ⟨h, by simp only [wdF]; omega⟩
  | n + 1, p, a, h, hi => by
    have h0 := hi 0 (by omega)
    have h1 := tpk_hi (g := g) (z := z) (p + (0 : Nat))
    rw [show p + ((0 : Nat) : Int) = p by omega] at h0 h1
    obtain ⟨c1, c2⟩ := wdF_rg n (p := p + 1) (a := a * 256 + tpk g z p) (by omega) fun i hn => by
      have := hi (i + 1) (by omega)
      rwa [show p + ((i + 1 : Nat) : Int) = p + 1 + (i : Int) by omega] at this
    refine ⟨c1, Int.lt_of_lt_of_le c2 ?_⟩
    rw [Nat.pow_succ]
    have e : ((256 ^ n * 256 : Nat) : Int) = ((256 ^ n : Nat) : Int) * 256 := by omega
    rw [e]
    have hp : (0 : Int) ≤ ((256 ^ n : Nat) : Int) := by omega
    generalize ((256 ^ n : Nat) : Int) = P at hp ⊢
    have : (a * 256 + tpk g z p + 1) * P ≤ (a * 256 + 256) * P := Int.mul_le_mul_of_nonneg_right (by omega) hp
    have e2 : (a + 1) * (P * 256) = (a * 256 + 256) * P := by rw [Int.mul_comm P 256, ← Int.mul_assoc]; congr 1; omega
    omega
theorem alnum_run {p : Int} : ∀ (n : Nat), (n : Int) ≤ en g z p - p → ∀ i : Nat, i < n → alnum (tpk g z (p + i)) = true := by
  have key : ∀ (k : Nat) (p : Int), (k : Int) < en g z p - p → alnum (tpk g z (p + k)) = true := by
    intro k
    induction k with
    | zero =>
      intro p h
      cases hq : alnum (tpk g z p) with
      | true => rw [show p + ((0 : Nat) : Int) = p by omega]; exact hq
      | false => rw [en_step, if_neg (by rw [hq]; decide)] at h; omega
    | succ k ih =>
      intro p h
      cases hq : alnum (tpk g z p) with
      | true =>
        rw [en_step, if_pos hq] at h
        rw [show p + ((k + 1 : Nat) : Int) = p + 1 + (k : Int) by omega]
        exact ih (p + 1) (by omega)
      | false => rw [en_step, if_neg (by rw [hq]; decide)] at h; omega
  intro n hn i hi
  exact key i p (by omega)
theorem alnum_pos {c : Int} (h : alnum c = true) : 48 ≤ c ∧ c ≤ 122 := by
  simp only [alnum, small, digit, Bool.or_eq_true, decide_eq_true_eq] at h; omega
theorem wdv_rg (q : Int) : 0 ≤ wdv g z q ∧ wdv g z q < 72057594037927936 := by
  have h := wdF_rg (g := g) (z := z) (min 7 (spn g z q)).toNat (p := sk g z q) (a := 0) (by omega) fun i hi => by
    have := alnum_pos (alnum_run (g := g) (z := z) (p := sk g z q) (min 7 (spn g z q)).toNat (by have := en_ge (g := g) (z := z) (p := sk g z q); simp only [spn]; omega) i hi)
    omega
  have e : 256 ^ (min 7 (spn g z q)).toNat ≤ 256 ^ 7 := Nat.pow_le_pow_right (by decide) (by omega)
  have e7 : (256 : Nat) ^ 7 = 72057594037927936 := by decide +kernel
  refine ⟨h.1, ?_⟩
  have h2 : wdF g z (min 7 (spn g z q)).toNat (sk g z q) 0 < (0 + 1) * ((256 ^ (min 7 (spn g z q)).toNat : Nat) : Int) := h.2
  show wdF g z (min 7 (spn g z q)).toNat (sk g z q) 0 < _
  omega
theorem kd_rg (q : Int) : 0 ≤ kd g z l q ∧ kd g z l q ≤ 4 := by
  unfold kd; split
  · omega
  · split
    · omega
    · split
      · split <;> omega
      · split
        · split <;> omega
        · omega
theorem nmF_rg : ∀ (n : Nat) {p a : Int}, 0 ≤ a → (∀ i : Nat, i < n → 48 ≤ tpk g z (p + i) ∧ tpk g z (p + i) ≤ 57) → 0 ≤ nmF g z n p a ∧ nmF g z n p a < (a + 1) * ((10 ^ n : Nat) : Int)
  | 0, p, a, h, _ => ⟨h, by simp only [nmF]; omega⟩
  | n + 1, p, a, h, hi => by
    have h0 := hi 0 (by omega)
    rw [show p + ((0 : Nat) : Int) = p by omega] at h0
    obtain ⟨c1, c2⟩ := nmF_rg n (p := p + 1) (a := 10 * a + tpk g z p - 48) (by omega) fun i hn => by
      have := hi (i + 1) (by omega)
      rwa [show p + ((i + 1 : Nat) : Int) = p + 1 + (i : Int) by omega] at this
    refine ⟨c1, Int.lt_of_lt_of_le c2 ?_⟩
    rw [Nat.pow_succ]
    have e : ((10 ^ n * 10 : Nat) : Int) = ((10 ^ n : Nat) : Int) * 10 := by omega
    rw [e]
    have hp : (0 : Int) ≤ ((10 ^ n : Nat) : Int) := by omega
    generalize ((10 ^ n : Nat) : Int) = P at hp ⊢
    have : (10 * a + tpk g z p - 48 + 1) * P ≤ (a * 10 + 10) * P := Int.mul_le_mul_of_nonneg_right (by omega) hp
    have e2 : (a + 1) * (P * 10) = (a * 10 + 10) * P := by rw [Int.mul_comm P 10, ← Int.mul_assoc]; congr 1; omega
    omega
theorem allF_at {c : Bool} : ∀ (n : Nat) {p : Int}, allF g z c n p = true → ∀ i : Nat, i < n → small (tpk g z (p + i)) = c
  | 0, _, _, i, h => absurd h (by omega)
  | n + 1, p, h, i, hi => by
    simp only [allF, Bool.and_eq_true, beq_iff_eq] at h
    cases i with
    | zero => rw [show p + ((0 : Nat) : Int) = p by omega]; exact h.1
    | succ i =>
      rw [show p + ((i + 1 : Nat) : Int) = p + 1 + (i : Int) by omega]
      exact allF_at n h.2 i (by omega)
/-- what a number's token is -/
theorem kd2 {q : Int} (h : kd g z l q = 2) : more g z l q = false ∧ 0 ≤ cAt g z q ∧ alnum (cAt g z q) = true ∧ okW g z q = true ∧ small (cAt g z q) = false := by
  unfold kd at h
  split at h
  · omega
  · rename_i h1
    split at h
    · omega
    · rename_i h2
      split at h
      · split at h <;> omega
      · rename_i h3
        split at h
        · rename_i h4
          split at h
          · omega
          · rename_i h5
            exact ⟨Bool.eq_false_iff.mpr h1, by omega, by simpa using h3, h4, Bool.eq_false_iff.mpr h5⟩
        · omega
theorem kd1 {q : Int} (h : kd g z l q = 1) : more g z l q = false ∧ 0 ≤ cAt g z q ∧ alnum (cAt g z q) = true ∧ okW g z q = true ∧ small (cAt g z q) = true := by
  unfold kd at h
  split at h
  · omega
  · rename_i h1
    split at h
    · omega
    · rename_i h2
      split at h
      · split at h <;> omega
      · rename_i h3
        split at h
        · rename_i h4
          split at h
          · rename_i h5
            exact ⟨Bool.eq_false_iff.mpr h1, by omega, by simpa using h3, h4, h5⟩
          · omega
        · omega
theorem kd3 {q : Int} (h : kd g z l q = 3) : more g z l q = false ∧ 0 ≤ cAt g z q ∧ alnum (cAt g z q) = false ∧ isSg (cAt g z q) = true := by
  unfold kd at h
  split at h
  · omega
  · rename_i h1
    split at h
    · omega
    · rename_i h2
      split at h
      · rename_i h3
        split at h
        · rename_i h4
          exact ⟨Bool.eq_false_iff.mpr h1, by omega, h3, h4⟩
        · omega
      · split at h
        · split at h <;> omega
        · omega
theorem nmv_rg2 {q : Int} (h : kd g z l q = 2) : 0 ≤ nmv g z q ∧ nmv g z q ≤ 999 := by
  obtain ⟨-, -, h3, h4, h5⟩ := kd2 h
  unfold nmv
  rw [if_neg (by rw [h3]; decide)]
  simp only [okW, Bool.and_eq_true, decide_eq_true_eq, h5] at h4
  have hs : spn g z q ≤ 3 := by simpa using h4.2
  have hr := nmF_rg (g := g) (z := z) (min 3 (spn g z q)).toNat (p := sk g z q) (a := 0) (by omega) fun i hi => by
    have a1 := alnum_run (g := g) (z := z) (p := sk g z q) (min 3 (spn g z q)).toNat (by have := en_ge (g := g) (z := z) (p := sk g z q); simp only [spn]; omega) i hi
    have a2 := allF_at (g := g) (z := z) _ h4.1 i (by omega)
    simp only [alnum, small, digit, Bool.or_eq_true, decide_eq_true_eq, decide_eq_false_iff_not] at a1 a2
    omega
  have e : 10 ^ (min 3 (spn g z q)).toNat ≤ 10 ^ 3 := Nat.pow_le_pow_right (by decide) (by omega)
  have h2 : nmF g z (min 3 (spn g z q)).toNat (sk g z q) 0 < (0 + 1) * ((10 ^ (min 3 (spn g z q)).toNat : Nat) : Int) := hr.2
  omega
theorem nmv_rg3 {q : Int} (h : kd g z l q = 3) : 0 ≤ nmv g z q ∧ nmv g z q ≤ 255 := by
  obtain ⟨-, h2, h3, -⟩ := kd3 h
  unfold nmv
  rw [if_pos h3]
  have := tpk_hi (g := g) (z := z) (sk g z q)
  exact ⟨h2, by simp only [cAt]; omega⟩
theorem plc_rg {q : Int} (hq : 0 ≤ q) (hz : q ≤ z) (hl : 0 ≤ l) (hl2 : l ≤ 1000) (hz2 : z ≤ 940) : 0 ≤ plc g z l q ∧ plc g z l q ≤ 1000 := by
  have a := sk_le (g := g) hz
  have b := sk_le_self (g := g) (z := z) (p := q)
  unfold plc; split <;> omega
theorem nxt_rg {q : Int} (hz : q ≤ z) : q ≤ nxt g z l q ∧ nxt g z l q ≤ z := by
  have a := sk_le (g := g) hz
  have b := sk_le_self (g := g) (z := z) (p := q)
  have c := en_le (g := g) a
  have e := en_ge (g := g) (z := z) (p := sk g z q)
  unfold nxt
  split
  · omega
  · split
    · omega
    · rename_i h2
      have hc : sk g z q < z := tpk_in (g := g) (by have : ¬ cAt g z q < 0 := h2; simp only [cAt] at this; omega)
      split <;> omega
end
