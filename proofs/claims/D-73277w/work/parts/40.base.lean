/-! whole numbers for ints; arrays as functions on whole numbers -/
def zI (z : Int) : Int32 := Int32.ofInt z
theorem zI_add {a b : Int} : zI a + zI b = zI (a + b) := (Int32.ofInt_add a b).symm
theorem zI_sub {a b : Int} : zI a - zI b = zI (a - b) := (Int32.ofInt_sub a b).symm
theorem zI_mul {a b : Int} : zI a * zI b = zI (a * b) := (Int32.ofInt_mul a b).symm
theorem zI_neg {a : Int} : -zI a = zI (-a) := (Int32.ofInt_neg a).symm
theorem zI_lit {n : Nat} : (OfNat.ofNat n : Int32) = zI (OfNat.ofNat n) := by
  show Int32.ofNat n = Int32.ofInt (n : Int)
  exact (Int32.ofInt_eq_ofNat).symm
theorem zI_lit0 : (0 : Int32) = zI 0 := rfl
theorem zI_toInt {z : Int} (h1 : -2147483648 ≤ z) (h2 : z < 2147483648) : (zI z).toInt = z := Int32.toInt_ofInt_of_le (by simpa using h1) (by simpa using h2)
theorem zI_eq {a b : Int} (h1 : -2147483648 ≤ a) (h2 : a < 2147483648) (h3 : -2147483648 ≤ b) (h4 : b < 2147483648) : (zI a = zI b) = (a = b) := propext ⟨fun h => by
  have := congrArg Int32.toInt h
  rwa [zI_toInt h1 h2, zI_toInt h3 h4] at this, fun h => by rw [h]⟩
theorem zI_lt {a b : Int} (h1 : -2147483648 ≤ a) (h2 : a < 2147483648) (h3 : -2147483648 ≤ b) (h4 : b < 2147483648) : (zI a < zI b) = (a < b) := propext (by
  rw [Int32.lt_iff_toInt_lt, zI_toInt h1 h2, zI_toInt h3 h4])
theorem zI_le {a b : Int} (h1 : -2147483648 ≤ a) (h2 : a < 2147483648) (h3 : -2147483648 ≤ b) (h4 : b < 2147483648) : (zI a ≤ zI b) = (a ≤ b) := propext (by
  rw [Int32.le_iff_toInt_le, zI_toInt h1 h2, zI_toInt h3 h4])
theorem zI_clamp {z : Int} (h1 : 0 ≤ z) (h2 : z < 2147483648) : (zI z).toNatClampNeg = z.toNat := by
  show (zI z).toInt.toNat = _
  rw [zI_toInt (by omega) h2]
theorem zI_ex (x : Int32) : ∃ z : Int, x = zI z ∧ -2147483648 ≤ z ∧ z < 2147483648 := by
  have h1 := x.le_toInt
  have h2 := x.toInt_lt
  exact ⟨x.toInt, (Int32.ofInt_toInt x).symm, by simpa using h1, by simpa using h2⟩
/-- an int array's contents, a byte array's, a boolean one's -/
def aI (g : Int → Int) : Nat → Value := fun i => .int (zI (g (i : Int)))
def zJ (z : Int) : Int64 := Int64.ofInt z
theorem zJ_lit {n : Nat} : (OfNat.ofNat n : Int64) = zJ (OfNat.ofNat n) := by
  show Int64.ofNat n = Int64.ofInt (n : Int)
  exact (Int64.ofInt_eq_ofNat).symm
theorem zJ_toInt {z : Int} (h1 : -9223372036854775808 ≤ z) (h2 : z < 9223372036854775808) : (zJ z).toInt = z := Int64.toInt_ofInt_of_le (by simpa using h1) (by simpa using h2)
theorem zJ_eq {a b : Int} (h1 : -9223372036854775808 ≤ a) (h2 : a < 9223372036854775808) (h3 : -9223372036854775808 ≤ b) (h4 : b < 9223372036854775808) : (zJ a = zJ b) = (a = b) := propext ⟨fun h => by
  have := congrArg Int64.toInt h
  rwa [zJ_toInt h1 h2, zJ_toInt h3 h4] at this, fun h => by rw [h]⟩
theorem lcm_0 {a b : Int64} : (lcm a b = zI 0) = (a = b) := propext (by
  rw [← zI_lit0]
  unfold lcm
  by_cases h1 : b < a
  · rw [if_pos h1]
    constructor
    · intro h; exact absurd h (by decide)
    · intro h; subst h; exact absurd h1 (Int64.lt_irrefl)
  · rw [if_neg h1]
    by_cases h2 : a = b
    · rw [if_pos h2]; simp [h2]
    · rw [if_neg h2]; simp [h2])
def aJ (g : Int → Int) : Nat → Value := fun i => .long (zJ (g (i : Int)))
def fset (g : Int → Int) (i v : Int) : Int → Int := fun j => if j = i then v else g j
theorem fset_eq {g : Int → Int} {i v : Int} : fset g i v i = v := by simp [fset]
theorem fset_ne {g : Int → Int} {i j v : Int} (h : j ≠ i) : fset g i v j = g j := by simp [fset, h]
theorem fset_at {g : Int → Int} {i j v : Int} : fset g i v j = if j = i then v else g j := rfl
theorem ju_aI {g : Int → Int} {i v : Int} (h : 0 ≤ i) : ju (aI g) i.toNat (.int (zI v)) = aI (fset g i v) := by
  funext k
  simp only [ju, aI, fset]
  by_cases e : k = i.toNat
  · rw [if_pos e, if_pos (by omega)]
  · rw [if_neg e, if_neg (by omega)]
theorem ju_aJ {g : Int → Int} {i v : Int} (h : 0 ≤ i) : ju (aJ g) i.toNat (.long (zJ v)) = aJ (fset g i v) := by
  funext k
  simp only [ju, aJ, fset]
  by_cases e : k = i.toNat
  · rw [if_pos e, if_pos (by omega)]
  · rw [if_neg e, if_neg (by omega)]
/-! combinators whose ways on simp does not enter (a last argument's type speaks of them) -/
abbrev Ph {α : Sort _} (_ : α) : Type := Unit
section
variable {β : Type}
def zpI (v : Value) (κ : Int32 → Option β) (_ : Ph κ) : Option β := rI v κ
def zpJ (v : Value) (κ : Int64 → Option β) (_ : Ph κ) : Option β := rJ v κ
def zpR (v : Value) (κ : Value → Option β) (_ : Ph κ) : Option β := rR v κ
def zkR (v : Value) (κ : Option β) (_ : Ph κ) : Option β := ckR v κ
def zkW (v : Value) (κ : Option β) (_ : Ph κ) : Option β := ckW v κ
def zqD (b : Int32) (κ : Option β) (_ : Ph κ) : Option β := dZ b κ
def zqG (h : AH) (o : Value) (T : List Nat) (i : Int32) (κ : Value → Option β) (_ : Ph κ) : Option β := aG h o T i κ
def zqS (h : AH) (o : Value) (T : List Nat) (i : Int32) (v : Value) (κ : AH → Option β) (_ : Ph κ) : Option β := aS h o T i v κ
def zqB (h : AH) (o : Value) (i x : Int32) (κ : AH → Option β) (_ : Ph κ) : Option β := aSb h o i x κ
def zqA (h : AH) (o v : Value) (i : Int32) (κ : AH → Option β) (_ : Ph κ) : Option β := aSr h o v i κ
def zqL (h : AH) (o : Value) (κ : Int32 → Option β) (_ : Ph κ) : Option β := aL h o κ
def zqF (h : AH) (o : Value) (T : List Nat) (k tc : Nat) (v : Value) (κ : AH → Option β) (_ : Ph κ) : Option β := pF h o T k tc v κ
def zqK (h : AH) (v : Value) (T : List Nat) (κ : Option β) (_ : Ph κ) : Option β := cK h v T κ
def zqT (h : AH) (v : Value) (T T2 : List Nat) (κ : Int32 → Option β) (_ : Ph κ) : Option β := iK h v T T2 κ
def zqN (n : Int32) (κ : Option β) (_ : Ph κ) : Option β := nA n κ
def zqE (h : AH) (e : Nat) (T : List Nat) (κ : Option β) (_ : Ph κ) : Option β := hK h e T κ
end
def zqH (hp : AH) (κ : AH → Rz) (_ : Ph κ) : Rz := κ hp
def zcI (r : Rz) (κ : Int32 → AH → Rz) (_ : Ph κ) : Rz := cIx r κ cX
def zcJ (r : Rz) (κ : Int64 → AH → Rz) (_ : Ph κ) : Rz := cJx r κ cX
def zcR (r : Rz) (κ : Value → AH → Rz) (_ : Ph κ) : Rz := cRx r κ cX
def zcV (r : Rz) (κ : AH → Rz) (_ : Ph κ) : Rz := cVx r κ cX
def zxI (r : Rz) (κ : Int32 → AH → Rz) (κx : Nat → AH → Rz) (_ : Ph κ) (_ : Ph κx) : Rz := cIx r κ κx
def zxJ (r : Rz) (κ : Int64 → AH → Rz) (κx : Nat → AH → Rz) (_ : Ph κ) (_ : Ph κx) : Rz := cJx r κ κx
def zxR (r : Rz) (κ : Value → AH → Rz) (κx : Nat → AH → Rz) (_ : Ph κ) (_ : Ph κx) : Rz := cRx r κ κx
def zxV (r : Rz) (κ : AH → Rz) (κx : Nat → AH → Rz) (_ : Ph κ) (_ : Ph κx) : Rz := cVx r κ κx
/-! the words of the heap: rows for simp -/
theorem jc_ref {h : AH} {a : Nat} : jc h (.ref a) = jm h a := rfl
theorem jf_in {t n k : Nat} {f : Nat → Value} {T : List Nat} (ht : T.elem t = true) : jf (some (t, n, f)) T k = f k := by
  have h2 : t ∈ T := List.elem_iff.mp ht
  simp [jf, h2]
theorem rI_int {β : Type} {x : Int32} {κ : Int32 → Option β} {u : Ph κ} : zpI (.int x) κ u = κ x := rfl
theorem rJ_long {β : Type} {x : Int64} {κ : Int64 → Option β} {u : Ph κ} : zpJ (.long x) κ u = κ x := rfl
theorem rR_ref {β : Type} {a : Nat} {κ : Value → Option β} {u : Ph κ} : zpR (.ref a) κ u = κ (.ref a) := rfl
theorem rR_null {β : Type} {κ : Value → Option β} {u : Ph κ} : zpR .null κ u = κ .null := rfl
theorem ckR_ref {β : Type} {a : Nat} {κ : Option β} {u : Ph κ} : zkR (.ref a) κ u = κ := rfl
theorem ckR_null {β : Type} {κ : Option β} {u : Ph κ} : zkR .null κ u = κ := rfl
theorem ckr_ref {β : Type} {a : Nat} {κ : Option β} : ckR (.ref a) κ = κ := rfl
theorem ckr_null {β : Type} {κ : Option β} : ckR .null κ = κ := rfl
theorem ckW_int {β : Type} {x : Int32} {κ : Option β} {u : Ph κ} : zkW (.int x) κ u = κ := rfl
theorem ckW_ref {β : Type} {a : Nat} {κ : Option β} {u : Ph κ} : zkW (.ref a) κ u = κ := rfl
theorem ckW_null {β : Type} {κ : Option β} {u : Ph κ} : zkW .null κ u = κ := rfl
section
variable {x : Int32} {j : Int64} {a e : Nat} {h : AH} {κI : Int32 → AH → Rz} {κJ : Int64 → AH → Rz} {κR : Value → AH → Rz} {κV : AH → Rz} {κx : Nat → AH → Rz} {uI : Ph κI} {uJ : Ph κJ} {uR : Ph κR} {uV : Ph κV} {ux : Ph κx}
theorem cI_ok : zcI (some (.inl (some (.int x)), h)) κI uI = κI x h := rfl
theorem cJ_ok : zcJ (some (.inl (some (.long j)), h)) κJ uJ = κJ j h := rfl
theorem cR_ok : zcR (some (.inl (some (.ref a)), h)) κR uR = κR (.ref a) h := rfl
theorem cR_null : zcR (some (.inl (some .null), h)) κR uR = κR .null h := rfl
theorem cV_ok : zcV (some (.inl none, h)) κV uV = κV h := rfl
theorem cI_th : zcI (some (.inr e, h)) κI uI = some (.inr e, h) := rfl
theorem cR_th : zcR (some (.inr e, h)) κR uR = some (.inr e, h) := rfl
theorem cV_th : zcV (some (.inr e, h)) κV uV = some (.inr e, h) := rfl
theorem xI_ok : zxI (some (.inl (some (.int x)), h)) κI κx uI ux = κI x h := rfl
theorem xJ_ok : zxJ (some (.inl (some (.long j)), h)) κJ κx uJ ux = κJ j h := rfl
theorem xR_ok : zxR (some (.inl (some (.ref a)), h)) κR κx uR ux = κR (.ref a) h := rfl
theorem xR_null : zxR (some (.inl (some .null), h)) κR κx uR ux = κR .null h := rfl
theorem xV_ok : zxV (some (.inl none, h)) κV κx uV ux = κV h := rfl
theorem xI_th : zxI (some (.inr e, h)) κI κx uI ux = κx e h := rfl
theorem xR_th : zxR (some (.inr e, h)) κR κx uR ux = κx e h := rfl
theorem xV_th : zxV (some (.inr e, h)) κV κx uV ux = κx e h := rfl
theorem nmZ {r : Rz} {hp : AH} {κ : AH → Rz} (e : r = κ hp) : r = zqH hp κ () := e
theorem qH_eq {uV : Ph κV} : zqH h κV uV = κV h := rfl
end
theorem cX_eq {e : Nat} {h : AH} : cX e h = some (.inr e, h) := rfl
def zqDc {β : Type} (b : Int32) (κ : Option β) : Option β := dZ b κ
theorem qD_in {β : Type} {b : Int} {κ : Option β} {u : Ph κ} (h1 : -2147483648 ≤ b) (h2 : b < 2147483648) (h3 : b ≠ 0) : zqD (zI b) κ u = κ := by
  show dZ (zI b) κ = κ
  unfold dZ
  rw [if_neg]
  rw [zI_lit0, zI_eq h1 h2 (by omega) (by omega)]
  exact h3
/-- a component, an array's cell looked up -/
def aGc {β : Type} (c : Option Cl) (T : List Nat) (i : Int32) (κ : Value → Option β) (_ : Ph κ) : Option β := match c with
  | some (t, n, f) => if t ∈ T ∧ ¬ (i < 0 ∨ n ≤ i.toNatClampNeg) then κ (f i.toNatClampNeg) else none
  | none => none
theorem aG_ref {β : Type} {h : AH} {a : Nat} {T : List Nat} {i : Int32} {κ : Value → Option β} {u : Ph κ} : zqG h (.ref a) T i κ u = aGc (jm h a) T i κ u := rfl
theorem zI_in {i : Int} {n : Nat} (h1 : 0 ≤ i) (h2 : i < (n : Int)) (hn : n < 2147483648) : ¬ (zI i < 0 ∨ n ≤ (zI i).toNatClampNeg) := by
  rw [zI_lit0, zI_lt (by omega) (by omega) (by omega) (by omega), zI_clamp h1 (by omega)]
  omega
theorem aGc_I {β : Type} {t n : Nat} {g : Int → Int} {T : List Nat} {i : Int} {κ : Value → Option β} {u : Ph κ} (ht : T.elem t = true) (h1 : 0 ≤ i) (h2 : i < (n : Int)) (hn : n < 2147483648) : aGc (some (t, n, aI g)) T (zI i) κ u = κ (.int (zI (g i))) := by
  have h3 : t ∈ T := List.elem_iff.mp ht
  simp only [aGc]
  rw [if_pos ⟨h3, zI_in h1 h2 hn⟩, zI_clamp h1 (by omega), aI, Int.toNat_of_nonneg h1]
theorem aGc_J {β : Type} {t n : Nat} {g : Int → Int} {T : List Nat} {i : Int} {κ : Value → Option β} {u : Ph κ} (ht : T.elem t = true) (h1 : 0 ≤ i) (h2 : i < (n : Int)) (hn : n < 2147483648) : aGc (some (t, n, aJ g)) T (zI i) κ u = κ (.long (zJ (g i))) := by
  have h3 : t ∈ T := List.elem_iff.mp ht
  simp only [aGc]
  rw [if_pos ⟨h3, zI_in h1 h2 hn⟩, zI_clamp h1 (by omega), aJ, Int.toNat_of_nonneg h1]
theorem aGc_V {β : Type} {t n : Nat} {f : Nat → Value} {T : List Nat} {i : Int} {κ : Value → Option β} {u : Ph κ} (ht : T.elem t = true) (h1 : 0 ≤ i) (h2 : i < (n : Int)) (hn : n < 2147483648) : aGc (some (t, n, f)) T (zI i) κ u = κ (f i.toNat) := by
  have h3 : t ∈ T := List.elem_iff.mp ht
  simp only [aGc]
  rw [if_pos ⟨h3, zI_in h1 h2 hn⟩, zI_clamp h1 (by omega)]
def aSc {β : Type} (h : AH) (a : Nat) (c : Option Cl) (T : List Nat) (i : Int32) (v : Value) (κ : AH → Option β) (_ : Ph κ) : Option β := match c with
  | some (t, n, f) => if t ∈ T ∧ ¬ (i < 0 ∨ n ≤ i.toNatClampNeg) then κ (jset h a (t, n, ju f i.toNatClampNeg v)) else none
  | none => none
theorem aS_ref {β : Type} {h : AH} {a : Nat} {T : List Nat} {i : Int32} {v : Value} {κ : AH → Option β} {u : Ph κ} : zqS h (.ref a) T i v κ u = aSc h a (jm h a) T i v κ u := rfl
theorem aSc_I {β : Type} {h : AH} {a t n : Nat} {g : Int → Int} {T : List Nat} {i v : Int} {κ : AH → Option β} {u : Ph κ} (ht : T.elem t = true) (h1 : 0 ≤ i) (h2 : i < (n : Int)) (hn : n < 2147483648) : aSc h a (some (t, n, aI g)) T (zI i) (.int (zI v)) κ u = κ (jset h a (t, n, aI (fset g i v))) := by
  have h3 : t ∈ T := List.elem_iff.mp ht
  simp only [aSc]
  rw [if_pos ⟨h3, zI_in h1 h2 hn⟩, zI_clamp h1 (by omega), ju_aI h1]
theorem aSc_J {β : Type} {h : AH} {a t n : Nat} {g : Int → Int} {T : List Nat} {i v : Int} {κ : AH → Option β} {u : Ph κ} (ht : T.elem t = true) (h1 : 0 ≤ i) (h2 : i < (n : Int)) (hn : n < 2147483648) : aSc h a (some (t, n, aJ g)) T (zI i) (.long (zJ v)) κ u = κ (jset h a (t, n, aJ (fset g i v))) := by
  have h3 : t ∈ T := List.elem_iff.mp ht
  simp only [aSc]
  rw [if_pos ⟨h3, zI_in h1 h2 hn⟩, zI_clamp h1 (by omega), ju_aJ h1]
theorem aSc_V {β : Type} {h : AH} {a t n : Nat} {f : Nat → Value} {T : List Nat} {i : Int} {v : Value} {κ : AH → Option β} {u : Ph κ} (ht : T.elem t = true) (h1 : 0 ≤ i) (h2 : i < (n : Int)) (hn : n < 2147483648) : aSc h a (some (t, n, f)) T (zI i) v κ u = κ (jset h a (t, n, ju f i.toNat v)) := by
  have h3 : t ∈ T := List.elem_iff.mp ht
  simp only [aSc]
  rw [if_pos ⟨h3, zI_in h1 h2 hn⟩, zI_clamp h1 (by omega)]
def aLc {β : Type} (c : Option Cl) (κ : Int32 → Option β) (_ : Ph κ) : Option β := match c with
  | some (t, n, _) => if 1000 ≤ t then κ n.toInt32 else none
  | none => none
theorem aL_ref {β : Type} {h : AH} {a : Nat} {κ : Int32 → Option β} {u : Ph κ} : zqL h (.ref a) κ u = aLc (jm h a) κ u := rfl
theorem nat_zI {n : Nat} : n.toInt32 = zI (n : Int) := (Int32.ofInt_eq_ofNat).symm
theorem aLc_in {β : Type} {t n : Nat} {f : Nat → Value} {κ : Int32 → Option β} {u : Ph κ} (ht : Nat.ble 1000 t = true) : aLc (some (t, n, f)) κ u = κ (zI (n : Int)) := by
  simp only [aLc]; rw [if_pos (Nat.le_of_ble_eq_true ht), nat_zI]
def pFc {β : Type} (h : AH) (a : Nat) (c : Option Cl) (T : List Nat) (k tc : Nat) (v : Value) (κ : AH → Option β) (_ : Ph κ) : Option β := match c with
  | some (t, n, f) => if t ∈ T ∧ t < 100 ∧ okF tc v = true then κ (jset h a (t, n, ju f k v)) else none
  | none => none
theorem pF_ref {β : Type} {h : AH} {a : Nat} {T : List Nat} {k tc : Nat} {v : Value} {κ : AH → Option β} {u : Ph κ} : zqF h (.ref a) T k tc v κ u = pFc h a (jm h a) T k tc v κ u := rfl
theorem pFc_in {β : Type} {h : AH} {a t n k tc : Nat} {f : Nat → Value} {T : List Nat} {v : Value} {κ : AH → Option β} {u : Ph κ} (ht : (T.elem t && Nat.blt t 100) = true) (hv : okF tc v = true) : pFc h a (some (t, n, f)) T k tc v κ u = κ (jset h a (t, n, ju f k v)) := by
  simp only [Bool.and_eq_true] at ht
  simp only [pFc]; rw [if_pos ⟨List.elem_iff.mp ht.1, Nat.le_of_ble_eq_true ht.2, hv⟩]
theorem okF_i {x : Int32} : okF 0 (.int x) = true := rfl
theorem okF_j {x : Int64} : okF 1 (.long x) = true := rfl
theorem okF_r {a : Nat} : okF 2 (.ref a) = true := rfl
theorem okF_n : okF 2 .null = true := rfl
theorem okF_z {z : Int} (h : z = 0 ∨ z = 1) : okF 3 (.int (zI z)) = true := by rcases h with rfl | rfl <;> decide
theorem okZ_z {β : Type} {z : Int} {κ : Option β} (h : z = 0 ∨ z = 1) : okZ (zI z) κ = κ := by rcases h with rfl | rfl <;> rfl
/-- a truth as a number -/
def bZ (b : Bool) : Int := if b = true then 1 else 0
theorem bZ_t : bZ true = 1 := rfl
theorem bZ_f : bZ false = 0 := rfl
theorem bZ_01 (b : Bool) : bZ b = 0 ∨ bZ b = 1 := by cases b <;> simp [bZ]
theorem bZ_0 {b : Bool} : (bZ b = 0) = (b = false) := by cases b <;> simp [bZ]
theorem bZ_1 {b : Bool} : (bZ b = 1) = (b = true) := by cases b <;> simp [bZ]
theorem zI_bZ0 {b : Bool} : (zI (bZ b) = 0) = (b = false) := by cases b <;> decide
theorem zI_bZ1 {b : Bool} : (zI (bZ b) = 1) = (b = true) := by cases b <;> decide
theorem okZ_b {β : Type} {b : Bool} {κ : Option β} : okZ (zI (bZ b)) κ = κ := okZ_z (bZ_01 b)
theorem okF_b {b : Bool} : okF 3 (.int (zI (bZ b))) = true := okF_z (bZ_01 b)
def cKc {β : Type} (c : Option Cl) (T : List Nat) (κ : Option β) (_ : Ph κ) : Option β := match c with
  | some (t, _) => if t ∈ T then κ else none
  | none => none
theorem cK_ref {β : Type} {h : AH} {a : Nat} {T : List Nat} {κ : Option β} {u : Ph κ} : zqK h (.ref a) T κ u = cKc (jm h a) T κ u := rfl
theorem cK_null {β : Type} {h : AH} {T : List Nat} {κ : Option β} {u : Ph κ} : zqK h .null T κ u = κ := rfl
theorem cKc_in {β : Type} {t n : Nat} {f : Nat → Value} {T : List Nat} {κ : Option β} {u : Ph κ} (ht : T.elem t = true) : cKc (some (t, n, f)) T κ u = κ := by simp only [cKc]; rw [if_pos (List.elem_iff.mp ht)]
theorem nA_in {β : Type} {z : Int} {κ : Option β} {u : Ph κ} (h1 : 0 ≤ z) (h2 : z < 60000000) : zqN (zI z) κ u = κ := by
  unfold zqN nA
  rw [if_neg]
  rw [zI_lit0, zI_lt (by omega) (by omega) (by omega) (by omega), zI_clamp h1 (by omega)]
  omega
theorem jm_set {h : AH} {a q : Nat} {c : Cl} : jm (jset h a c) q = if q = a then some c else jm h q := rfl
theorem jm_set_self {h : AH} {a : Nat} {c : Cl} : jm (jset h a c) a = some c := by rw [jm_set, if_pos rfl]
theorem jm_set_ne {h : AH} {a q : Nat} {c : Cl} (hq : q ≠ a) : jm (jset h a c) q = jm h q := by rw [jm_set, if_neg hq]
theorem jm_push {h : AH} {q : Nat} {c : Cl} : jm (jpush h c) q = if q = jn h then some c else jm h q := rfl
theorem jm_push_self {h : AH} {c : Cl} : jm (jpush h c) (jn h) = some c := by rw [jm_push, if_pos rfl]
theorem jm_push_ne {h : AH} {q : Nat} {c : Cl} (hq : q ≠ jn h) : jm (jpush h c) q = jm h q := by rw [jm_push, if_neg hq]
theorem jn_set {h : AH} {a : Nat} {c : Cl} : jn (jset h a c) = jn h := rfl
theorem jn_push {h : AH} {c : Cl} : jn (jpush h c) = jn h + 1 := rfl
theorem jsl_set {h : AH} {a : Nat} {c : Cl} : jsl (jset h a c) = jsl h := rfl
theorem jsl_push {h : AH} {c : Cl} : jsl (jpush h c) = jsl h + c.2.1 := rfl
theorem je_set {h : AH} {a : Nat} {c : Cl} : je (jset h a c) = je h := rfl
theorem je_push {h : AH} {c : Cl} : je (jpush h c) = je h := rfl
theorem h1_jn {h : AH} : h.1 = jn h := rfl
theorem ju_self {f : Nat → Value} {k : Nat} {v : Value} : ju f k v k = v := by simp [ju]
theorem ju_ne {f : Nat → Value} {k j : Nat} {v : Value} (hj : j ≠ k) : ju f k v j = f j := by simp [ju, hj]
theorem jL_z {v : Value} {l : List Value} : jL (v :: l) 0 = v := rfl
theorem jL_s {v : Value} {l : List Value} {k : Nat} : jL (v :: l) (k + 1) = jL l k := rfl
theorem ju_jL {l : List Value} {k : Nat} {v : Value} (hk : k < l.length) : ju (jL l) k v = jL (l.set k v) := by
  funext j
  by_cases hj : j = k
  · subst hj; rw [ju_self]; simp [jL, hk]
  · rw [ju_ne hj]; simp [jL, List.getD, List.getElem?_set, Ne.symm hj]
theorem jrecv_in {y a t n : Nat} {as : List Value} {h : AH} {f : Nat → Value} (hm : jm h a = some (t, n, f)) (ht : (jtRecv y).elem t = true) : jrecv y (.ref a :: as) h = true := by
  have h2 : t ∈ jtRecv y := List.elem_iff.mp ht
  simp [jrecv, hm, h2]
theorem Mv_ref {d v a t n : Nat} {as : List Value} {h : AH} {f : Nat → Value} (hm : jm h a = some (t, n, f)) : Mv d v (.ref a :: as) h = M d (jtV v t) (.ref a :: as) h := by
  simp only [Mv, hm]
theorem ref_eq {a b : Nat} : ((Value.ref a : Value) = .ref b) = (a = b) := by simp
theorem ref_null {a : Nat} : ((Value.ref a : Value) = .null) = False := by simp
theorem null_null : ((Value.null : Value) = .null) = True := by simp
