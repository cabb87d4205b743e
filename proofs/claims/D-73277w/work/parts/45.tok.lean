/-! tokens, as both sides read them: tape g, size z, limit l; a place q is where the reading of a token begins -/
section
variable (g : Int → Int) (z l : Int)
def tpk (p : Int) : Int := if p < z then g p % 256 else -1
def small (c : Int) : Bool := decide (97 ≤ c ∧ c ≤ 122)
def digit (c : Int) : Bool := decide (48 ≤ c ∧ c ≤ 57)
def alnum (c : Int) : Bool := small c || digit c
def skF : Nat → Int → Int
  | 0, p => p
  | n + 1, p => if tpk g z p = 32 ∨ tpk g z p = 10 then skF n (p + 1) else p
def sk (p : Int) : Int := skF g z (z - p).toNat p
def enF : Nat → Int → Int
  | 0, p => p
  | n + 1, p => if alnum (tpk g z p) = true then enF n (p + 1) else p
def en (p : Int) : Int := enF g z (z - p).toNat p
/-- from p on to e: all letters, or all digits, as c is -/
def allF (c : Bool) : Nat → Int → Bool
  | 0, _ => true
  | n + 1, p => (small (tpk g z p) == c) && allF c n (p + 1)
def wdF : Nat → Int → Int → Int
  | 0, _, a => a
  | n + 1, p, a => wdF n (p + 1) (a * 256 + tpk g z p)
def nmF : Nat → Int → Int → Int
  | 0, _, a => a
  | n + 1, p, a => nmF n (p + 1) (10 * a + tpk g z p - 48)
def isSg (c : Int) : Bool := decide (c = 59 ∨ c = 40 ∨ c = 41 ∨ (60 ≤ c ∧ c ≤ 62))
def more (q : Int) : Bool := decide (l < z ∧ l ≤ sk g z q)
def cAt (q : Int) : Int := tpk g z (sk g z q)
def spn (q : Int) : Int := en g z (sk g z q) - sk g z q
def okW (q : Int) : Bool := allF g z (small (cAt g z q)) (spn g z q).toNat (sk g z q) && decide (spn g z q ≤ if small (cAt g z q) = true then 7 else 3)
def kd (q : Int) : Int := if more g z l q = true then 4 else if cAt g z q < 0 then 0 else if alnum (cAt g z q) = false then (if isSg (cAt g z q) = true then 3 else 4) else if okW g z q = true then (if small (cAt g z q) = true then 1 else 2) else 4
def plc (q : Int) : Int := if more g z l q = true then l else sk g z q
def nxt (q : Int) : Int := if more g z l q = true then sk g z q else if cAt g z q < 0 then sk g z q else if alnum (cAt g z q) = false then sk g z q + 1 else en g z (sk g z q)
def nmv (q : Int) : Int := if alnum (cAt g z q) = false then cAt g z q else nmF g z (min 3 (spn g z q)).toNat (sk g z q) 0
def wdv (q : Int) : Int := wdF g z (min 7 (spn g z q)).toNat (sk g z q) 0
end
section
variable {g : Int → Int} {z l : Int}
theorem tpk_lt {p : Int} (h : p < z) : tpk g z p = g p % 256 := by rw [tpk, if_pos h]
theorem tpk_ge {p : Int} (h : z ≤ p) : tpk g z p = -1 := by rw [tpk, if_neg (by omega)]
theorem tpk_lo (p : Int) : -1 ≤ tpk g z p := by unfold tpk; split <;> omega
theorem tpk_hi (p : Int) : tpk g z p < 256 := by unfold tpk; split <;> omega
theorem tpk_in {p : Int} (h : 0 ≤ tpk g z p) : p < z := by unfold tpk at h; split at h <;> omega
theorem alnum_in {p : Int} (h : alnum (tpk g z p) = true) : p < z := by
  apply tpk_in (g := g)
  simp only [alnum, small, digit, Bool.or_eq_true, decide_eq_true_eq] at h
  omega
theorem skF_eq : ∀ (n : Nat) (p : Int), (z - p).toNat ≤ n → skF g z n p = sk g z p
  | 0, p, h => by
    have e : (z - p).toNat = 0 := by omega
    unfold sk; rw [e]
  | n + 1, p, h => by
    unfold sk
    by_cases hp : p < z
    · have e : (z - p).toNat = (z - (p + 1)).toNat + 1 := by omega
      rw [e]
      simp only [skF]
      split
      · rw [skF_eq n (p + 1) (by omega), skF_eq (z - (p + 1)).toNat (p + 1) (Nat.le_refl _)]
      · rfl
    · have e : (z - p).toNat = 0 := by omega
      rw [e]
      simp only [skF]
      rw [if_neg (by rw [tpk_ge (by omega)]; omega)]
theorem sk_step {p : Int} : sk g z p = if tpk g z p = 32 ∨ tpk g z p = 10 then sk g z (p + 1) else p := by
  by_cases hp : p < z
  · have e : (z - p).toNat = (z - (p + 1)).toNat + 1 := by omega
    rw [sk, e]; simp only [skF]; rw [skF_eq _ _ (Nat.le_refl _)]
  · have e : (z - p).toNat = 0 := by omega
    rw [sk, e, if_neg (by rw [tpk_ge (by omega)]; omega)]; rfl
theorem sk_ge : ∀ (n : Nat) (p : Int), p ≤ skF g z n p
  | 0, p => Int.le_refl _
  | n + 1, p => by
    simp only [skF]
    split
    · have := sk_ge n (p + 1); omega
    · exact Int.le_refl _
theorem sk_stop {p : Int} : ¬ (tpk g z (sk g z p) = 32 ∨ tpk g z (sk g z p) = 10) := by
  have key : ∀ (n : Nat) (p : Int), (z - p).toNat = n → ¬ (tpk g z (sk g z p) = 32 ∨ tpk g z (sk g z p) = 10) := by
    intro n
    induction n with
    | zero => intro p h; rw [sk_step, if_neg (by rw [tpk_ge (by omega)]; omega), tpk_ge (by omega)]; omega
    | succ n ih =>
      intro p h
      by_cases hc : tpk g z p = 32 ∨ tpk g z p = 10
      · rw [sk_step, if_pos hc]; exact ih (p + 1) (by omega)
      · rw [sk_step, if_neg hc]; exact hc
  exact key _ p rfl
theorem sk_idem {p : Int} : sk g z (sk g z p) = sk g z p := by rw [sk_step, if_neg sk_stop]
theorem enF_eq : ∀ (n : Nat) (p : Int), (z - p).toNat ≤ n → enF g z n p = en g z p
  | 0, p, h => by
    have e : (z - p).toNat = 0 := by omega
    unfold en; rw [e]
  | n + 1, p, h => by
    unfold en
    by_cases hp : p < z
    · have e : (z - p).toNat = (z - (p + 1)).toNat + 1 := by omega
      rw [e]
      simp only [enF]
      split
      · rw [enF_eq n (p + 1) (by omega), enF_eq (z - (p + 1)).toNat (p + 1) (Nat.le_refl _)]
      · rfl
    · have e : (z - p).toNat = 0 := by omega
      rw [e]
      simp only [enF]
      rw [if_neg (fun hq => by have := alnum_in hq; omega)]
theorem en_step {p : Int} : en g z p = if alnum (tpk g z p) = true then en g z (p + 1) else p := by
  by_cases hp : p < z
  · have e : (z - p).toNat = (z - (p + 1)).toNat + 1 := by omega
    rw [en, e]; simp only [enF]; rw [enF_eq _ _ (Nat.le_refl _)]
  · have e : (z - p).toNat = 0 := by omega
    rw [en, e, if_neg (fun hq => by have := alnum_in hq; omega)]; rfl
theorem en_ge {p : Int} : p ≤ en g z p := by
  have key : ∀ (n : Nat) (p : Int), p ≤ enF g z n p := by
    intro n
    induction n with
    | zero => intro p; exact Int.le_refl _
    | succ n ih =>
      intro p; simp only [enF]; split
      · have := ih (p + 1); omega
      · exact Int.le_refl _
  exact key _ p
theorem en_le {p : Int} (hp : p ≤ z) : en g z p ≤ z := by
  have key : ∀ (n : Nat) (p : Int), (z - p).toNat = n → p ≤ z → en g z p ≤ z := by
    intro n
    induction n with
    | zero => intro p h hp; rw [en_step, if_neg (fun hq => by have := alnum_in hq; omega)]; exact hp
    | succ n ih =>
      intro p h hp; rw [en_step]; split
      · exact ih (p + 1) (by omega) (by omega)
      · exact hp
  exact key _ p rfl hp
theorem sk_le {p : Int} (hp : p ≤ z) : sk g z p ≤ z := by
  have key : ∀ (n : Nat) (p : Int), (z - p).toNat = n → p ≤ z → sk g z p ≤ z := by
    intro n
    induction n with
    | zero => intro p h hp; rw [sk_step, if_neg (by rw [tpk_ge (by omega)]; omega)]; exact hp
    | succ n ih =>
      intro p h hp; rw [sk_step]; split
      · exact ih (p + 1) (by omega) (by omega)
      · exact hp
  exact key _ p rfl hp
theorem sk_le_self {p : Int} : p ≤ sk g z p := sk_ge _ _
end
