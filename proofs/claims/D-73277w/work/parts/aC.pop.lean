/-! how many bits: Long.bitCount. Numbers by their digits -/
def ev (B : Nat) (d : Nat → Nat) : Nat → Nat
  | 0 => 0
  | n + 1 => d 0 + B * ev B (fun k => d (k + 1)) n
def sumF (d : Nat → Nat) : Nat → Nat
  | 0 => 0
  | n + 1 => d 0 + sumF (fun k => d (k + 1)) n
theorem ev_lt {B : Nat} : ∀ (n : Nat) (d : Nat → Nat), (∀ k, d k < B) → ev B d n < B ^ n
  | 0, d, _ => by simp [ev]
  | n + 1, d, h => by
    have a := ev_lt n (fun k => d (k + 1)) fun k => h (k + 1)
    have b := h 0
    simp only [ev]
    have c : B * (ev B (fun k => d (k + 1)) n + 1) ≤ B * B ^ n := Nat.mul_le_mul_left _ a
    rw [Nat.pow_succ, Nat.mul_comm (B ^ n)]
    rw [Nat.mul_add, Nat.mul_one] at c
    omega
theorem ev_cg {B : Nat} : ∀ (n : Nat) (d e : Nat → Nat), (∀ k, k < n → d k = e k) → ev B d n = ev B e n
  | 0, _, _, _ => rfl
  | n + 1, d, e, h => by
    simp only [ev]
    rw [h 0 (by omega), ev_cg n _ _ fun k hk => h (k + 1) (by omega)]
theorem ev_add {B : Nat} : ∀ (n : Nat) (d e : Nat → Nat), ev B d n + ev B e n = ev B (fun k => d k + e k) n
  | 0, _, _ => rfl
  | n + 1, d, e => by
    simp only [ev]
    rw [← ev_add n, Nat.mul_add]
    omega
theorem ev_sub {B : Nat} (n : Nat) (d e : Nat → Nat) (h : ∀ k, e k ≤ d k) : ev B d n - ev B e n = ev B (fun k => d k - e k) n := by
  have a := ev_add (B := B) n (fun k => d k - e k) e
  have b : (fun k => d k - e k + e k) = d := funext fun k => Nat.sub_add_cancel (h k)
  rw [b] at a
  omega
theorem and_split {w a b d m : Nat} (hd : d < 2 ^ w) (hm : m < 2 ^ w) : (2 ^ w * a + d) &&& (2 ^ w * b + m) = 2 ^ w * (a &&& b) + (d &&& m) := by
  refine Nat.eq_of_testBit_eq fun j => ?_
  rw [Nat.testBit_and, Nat.testBit_two_pow_mul_add _ hd, Nat.testBit_two_pow_mul_add _ hm, Nat.testBit_two_pow_mul_add _ (Nat.lt_of_le_of_lt Nat.and_le_left hd), Nat.testBit_and, Nat.testBit_and]
  split <;> rfl
theorem ev_and {w : Nat} : ∀ (n : Nat) (d m : Nat → Nat), (∀ k, d k < 2 ^ w) → (∀ k, m k < 2 ^ w) → ev (2 ^ w) d n &&& ev (2 ^ w) m n = ev (2 ^ w) (fun k => d k &&& m k) n
  | 0, _, _, _, _ => by simp [ev]
  | n + 1, d, m, h1, h2 => by
    simp only [ev]
    rw [← ev_and n _ _ (fun k => h1 (k + 1)) (fun k => h2 (k + 1)), Nat.add_comm (d 0), Nat.add_comm (m 0), and_split (h1 0) (h2 0), Nat.add_comm]
theorem sr_split {w r a b d m : Nat} (hr : r ≤ w) (hd : d < 2 ^ w) (hm : m < 2 ^ (w - r)) : ((2 ^ w * a + d) >>> r) &&& (2 ^ w * b + m) = 2 ^ w * ((a >>> r) &&& b) + ((d >>> r) &&& m) := by
  have hm2 : m < 2 ^ w := Nat.lt_of_lt_of_le hm (Nat.pow_le_pow_right (by decide) (Nat.sub_le _ _))
  refine Nat.eq_of_testBit_eq fun j => ?_
  rw [Nat.testBit_and, Nat.testBit_shiftRight, Nat.testBit_two_pow_mul_add _ hd, Nat.testBit_two_pow_mul_add _ hm2, Nat.testBit_two_pow_mul_add _ (Nat.lt_of_le_of_lt Nat.and_le_right hm2), Nat.testBit_and, Nat.testBit_and, Nat.testBit_shiftRight, Nat.testBit_shiftRight]
  by_cases h1 : j < w
  · rw [if_pos h1, if_pos h1]
    by_cases h2 : r + j < w
    · rw [if_pos h2]
    · have : m.testBit j = false := Nat.testBit_lt_two_pow (Nat.lt_of_lt_of_le hm (Nat.pow_le_pow_right (by decide) (by omega)))
      rw [this, Bool.and_false, Bool.and_false]
  · rw [if_neg h1, if_neg h1, if_neg (by omega), show r + j - w = r + (j - w) by omega]
theorem ev_sr {w r : Nat} (hr : r ≤ w) : ∀ (n : Nat) (d m : Nat → Nat), (∀ k, d k < 2 ^ w) → (∀ k, m k < 2 ^ (w - r)) → (ev (2 ^ w) d n >>> r) &&& ev (2 ^ w) m n = ev (2 ^ w) (fun k => (d k >>> r) &&& m k) n
  | 0, _, _, _, _ => by simp [ev]
  | n + 1, d, m, h1, h2 => by
    simp only [ev]
    rw [← ev_sr hr n _ _ (fun k => h1 (k + 1)) (fun k => h2 (k + 1)), Nat.add_comm (d 0), Nat.add_comm (m 0), sr_split hr (h1 0) (h2 0), Nat.add_comm]
theorem ev_two {B : Nat} : ∀ (n : Nat) (d : Nat → Nat), ev (B * B) (fun k => d (2 * k) + B * d (2 * k + 1)) n = ev B d (2 * n)
  | 0, _ => rfl
  | n + 1, d => by
    have ih := ev_two (B := B) n (fun k => d (k + 2))
    rw [show 2 * (n + 1) = 2 * n + 1 + 1 by omega]
    show d 0 + B * d 1 + B * B * ev (B * B) (fun k => d (2 * k + 2) + B * d (2 * k + 1 + 2)) n = d 0 + B * (d 1 + B * ev B (fun k => d (k + 2)) (2 * n))
    rw [ih, Nat.mul_add, ← Nat.mul_assoc, Nat.add_assoc]
theorem sum_two : ∀ (n : Nat) (d : Nat → Nat), sumF (fun k => d (2 * k) + d (2 * k + 1)) n = sumF d (2 * n)
  | 0, _ => rfl
  | n + 1, d => by
    have ih := sum_two n (fun k => d (k + 2))
    rw [show 2 * (n + 1) = 2 * n + 1 + 1 by omega]
    show d 0 + d 1 + sumF (fun k => d (2 * k + 2) + d (2 * k + 1 + 2)) n = d 0 + (d 1 + sumF (fun k => d (k + 2)) (2 * n))
    rw [ih]
    omega
theorem ev_ext {B : Nat} : ∀ (n : Nat) (d : Nat → Nat), d n = 0 → ev B d (n + 1) = ev B d n
  | 0, d, h => by simp [ev, h]
  | n + 1, d, h => by
    have ih := ev_ext (B := B) n (fun k => d (k + 1)) h
    simp only [ev] at ih ⊢
    rw [ih]
/-- a digit is cut off -/
theorem ev_cut {B n : Nat} {d : Nat → Nat} (h : d 0 < B) : ev B d (n + 1) / B = ev B (fun k => d (k + 1)) n := by
  have : 0 < B := by omega
  simp only [ev]
  rw [Nat.add_comm, Nat.mul_add_div this, Nat.div_eq_of_lt h, Nat.add_zero]
theorem ev_bits : ∀ (n x : Nat), x < 2 ^ n → x = ev 2 (fun k => (x.testBit k).toNat) n
  | 0, x, h => by simp at h; simp [h, ev]
  | n + 1, x, h => by
    have ih := ev_bits n (x / 2) (by rw [Nat.pow_succ] at h; omega)
    simp only [ev]
    have e : (fun k => (x.testBit (k + 1)).toNat) = fun k => ((x / 2).testBit k).toNat := funext fun k => by rw [Nat.testBit_succ]
    rw [e, ← ih]
    have : (x.testBit 0).toNat = x % 2 := by rw [Nat.testBit_zero]; rcases Nat.mod_two_eq_zero_or_one x with q | q <;> simp [q]
    omega
section
variable (b : BitVec 64)
def bF (k : Nat) : Nat := (b.toNat.testBit k).toNat
def cF (k : Nat) : Nat := bF b (2 * k) + bF b (2 * k + 1)
def rF (k : Nat) : Nat := cF b (2 * k) + cF b (2 * k + 1)
def uF (k : Nat) : Nat := rF b (2 * k) + rF b (2 * k + 1)
def vF (k : Nat) : Nat := uF b k + uF b (k + 1)
def wF (k : Nat) : Nat := vF b k + vF b (k + 2)
theorem bF_le (k : Nat) : bF b k ≤ 1 := Bool.toNat_le _
theorem cF_le (k : Nat) : cF b k ≤ 2 := by have := bF_le b (2 * k); have := bF_le b (2 * k + 1); unfold cF; omega
theorem rF_le (k : Nat) : rF b k ≤ 4 := by have := cF_le b (2 * k); have := cF_le b (2 * k + 1); unfold rF; omega
theorem uF_le (k : Nat) : uF b k ≤ 8 := by have := rF_le b (2 * k); have := rF_le b (2 * k + 1); unfold uF; omega
theorem vF_le (k : Nat) : vF b k ≤ 16 := by have := uF_le b k; have := uF_le b (k + 1); unfold vF; omega
theorem wF_le (k : Nat) : wF b k ≤ 32 := by have := vF_le b k; have := vF_le b (k + 2); unfold wF; omega
theorem bF_0 {k : Nat} (h : 64 ≤ k) : bF b k = 0 := by
  unfold bF
  rw [Nat.testBit_lt_two_pow (Nat.lt_of_lt_of_le b.isLt (Nat.pow_le_pow_right (by decide) h))]
  rfl
theorem rF_0 {k : Nat} (h : 16 ≤ k) : rF b k = 0 := by unfold rF cF; rw [bF_0 b (by omega), bF_0 b (by omega), bF_0 b (by omega), bF_0 b (by omega)]
theorem uF_0 {k : Nat} (h : 8 ≤ k) : uF b k = 0 := by unfold uF; rw [rF_0 b (by omega), rF_0 b (by omega)]
theorem vF_0 {k : Nat} (h : 8 ≤ k) : vF b k = 0 := by unfold vF; rw [uF_0 b (by omega), uF_0 b (by omega)]
theorem wF_0 {k : Nat} (h : 8 ≤ k) : wF b k = 0 := by unfold wF; rw [vF_0 b (by omega), vF_0 b (by omega)]
theorem pop_1 : (b - ((b >>> 1) &&& 6148914691236517205#64)).toNat = ev 4 (cF b) 32 := by
  have x : b.toNat = ev 4 (fun k => bF b (2 * k) + 2 * bF b (2 * k + 1)) 32 := by
    have := ev_two (B := 2) 32 (bF b)
    rw [this]
    exact ev_bits 64 _ b.isLt
  have m : (6148914691236517205#64).toNat = ev 4 (fun _ => 1) 32 := by decide
  have s : ((b >>> 1) &&& 6148914691236517205#64).toNat = ev 4 (fun k => bF b (2 * k + 1)) 32 := by
    rw [BitVec.toNat_and, BitVec.toNat_ushiftRight, m, x]
    have := ev_sr (w := 2) (r := 1) (by decide) 32 (fun k => bF b (2 * k) + 2 * bF b (2 * k + 1)) (fun _ => 1) (fun k => by have := bF_le b (2 * k); have := bF_le b (2 * k + 1); show _ < 4; omega) (fun k => by decide)
    refine Eq.trans this (ev_cg 32 _ _ fun k _ => ?_)
    have a := bF_le b (2 * k)
    have c := bF_le b (2 * k + 1)
    rw [Nat.shiftRight_eq_div_pow, Nat.and_one_is_mod]
    show (bF b (2 * k) + 2 * bF b (2 * k + 1)) / 2 % 2 = _
    omega
  have le : ((b >>> 1) &&& 6148914691236517205#64).toNat ≤ b.toNat := by
    rw [s, x, ← ev_add]
    have := ev_add (B := 4) 32 (fun k => bF b (2 * k + 1)) (fun k => bF b (2 * k + 1))
    have e : (fun k => bF b (2 * k + 1) + bF b (2 * k + 1)) = fun k => 2 * bF b (2 * k + 1) := funext fun k => by omega
    rw [e] at this
    omega
  rw [BitVec.toNat_sub_of_le (BitVec.le_def.mpr le), s]
  conv => lhs; rw [x]
  rw [ev_sub _ _ _ fun k => by omega]
  exact ev_cg 32 _ _ fun k _ => by unfold cF; omega
theorem pop_2 {y : BitVec 64} (hy : y.toNat = ev 4 (cF b) 32) : ((y &&& 3689348814741910323#64) + ((y >>> 2) &&& 3689348814741910323#64)).toNat = ev 16 (rF b) 16 := by
  have x : y.toNat = ev 16 (fun k => cF b (2 * k) + 4 * cF b (2 * k + 1)) 16 := by rw [hy]; exact (ev_two (B := 4) 16 (cF b)).symm
  have m : (3689348814741910323#64).toNat = ev 16 (fun _ => 3) 16 := by decide
  have hd : ∀ k, cF b (2 * k) + 4 * cF b (2 * k + 1) < 2 ^ 4 := fun k => by have := cF_le b (2 * k); have := cF_le b (2 * k + 1); show _ < 16; omega
  have s1 : (y &&& 3689348814741910323#64).toNat = ev 16 (fun k => cF b (2 * k)) 16 := by
    rw [BitVec.toNat_and, m, x]
    refine Eq.trans (ev_and (w := 4) 16 _ _ hd fun k => by decide) (ev_cg 16 _ _ fun k _ => ?_)
    have a := cF_le b (2 * k)
    rw [show (3 : Nat) = 2 ^ 2 - 1 from rfl, Nat.and_two_pow_sub_one_eq_mod]
    show _ % 4 = _
    omega
  have s2 : ((y >>> 2) &&& 3689348814741910323#64).toNat = ev 16 (fun k => cF b (2 * k + 1)) 16 := by
    rw [BitVec.toNat_and, BitVec.toNat_ushiftRight, m, x]
    refine Eq.trans (ev_sr (w := 4) (r := 2) (by decide) 16 _ _ hd fun k => by decide) (ev_cg 16 _ _ fun k _ => ?_)
    have a := cF_le b (2 * k)
    have c := cF_le b (2 * k + 1)
    rw [Nat.shiftRight_eq_div_pow, show (3 : Nat) = 2 ^ 2 - 1 from rfl, Nat.and_two_pow_sub_one_eq_mod]
    show (cF b (2 * k) + 4 * cF b (2 * k + 1)) / 4 % 4 = _
    omega
  have l := ev_lt (B := 16) 16 (rF b) fun k => by have := rF_le b k; omega
  have e : ev 16 (fun k => cF b (2 * k)) 16 + ev 16 (fun k => cF b (2 * k + 1)) 16 = ev 16 (rF b) 16 := ev_add 16 _ _
  rw [BitVec.toNat_add, s1, s2, e]
  exact Nat.mod_eq_of_lt l
theorem pop_3 {y : BitVec 64} (hy : y.toNat = ev 16 (rF b) 16) : ((y + (y >>> 4)) &&& 1085102592571150095#64).toNat = ev 256 (uF b) 8 := by
  have s : (y >>> 4).toNat = ev 16 (fun k => rF b (k + 1)) 16 := by
    rw [BitVec.toNat_ushiftRight, hy, Nat.shiftRight_eq_div_pow, show (2 : Nat) ^ 4 = 16 from rfl, ev_cut (n := 15) (by have := rF_le b 0; omega), ev_ext 15 (fun k => rF b (k + 1)) (rF_0 b (by omega))]
  have a : (y + (y >>> 4)).toNat = ev 16 (fun k => rF b k + rF b (k + 1)) 16 := by
    have l := ev_lt (B := 16) 16 (fun k => rF b k + rF b (k + 1)) fun k => by have := rF_le b k; have := rF_le b (k + 1); omega
    rw [BitVec.toNat_add, s, hy, ev_add]
    exact Nat.mod_eq_of_lt l
  have x : (y + (y >>> 4)).toNat = ev 256 (fun k => (rF b (2 * k) + rF b (2 * k + 1)) + 16 * (rF b (2 * k + 1) + rF b (2 * k + 1 + 1))) 8 := by rw [a]; exact (ev_two (B := 16) 8 (fun k => rF b k + rF b (k + 1))).symm
  have m : (1085102592571150095#64).toNat = ev 256 (fun _ => 15) 8 := by decide
  rw [BitVec.toNat_and, m, x]
  refine Eq.trans (ev_and (w := 8) 8 _ _ (fun k => ?_) fun k => by decide) (ev_cg 8 _ _ fun k _ => ?_)
  · have := rF_le b (2 * k); have := rF_le b (2 * k + 1); have := rF_le b (2 * k + 1 + 1)
    show _ < 256; omega
  · have := rF_le b (2 * k); have := rF_le b (2 * k + 1)
    rw [show (15 : Nat) = 2 ^ 4 - 1 from rfl, Nat.and_two_pow_sub_one_eq_mod]
    show _ % 16 = _
    unfold uF
    omega
theorem pop_4 {y : BitVec 64} (hy : y.toNat = ev 256 (uF b) 8) : (y + (y >>> 8)).toNat = ev 256 (vF b) 8 := by
  have s : (y >>> 8).toNat = ev 256 (fun k => uF b (k + 1)) 8 := by
    rw [BitVec.toNat_ushiftRight, hy, Nat.shiftRight_eq_div_pow, show (2 : Nat) ^ 8 = 256 from rfl, ev_cut (n := 7) (by have := uF_le b 0; omega), ev_ext 7 (fun k => uF b (k + 1)) (uF_0 b (by omega))]
  have l := ev_lt (B := 256) 8 (vF b) fun k => by have := vF_le b k; omega
  rw [BitVec.toNat_add, s, hy, ev_add]
  exact Nat.mod_eq_of_lt l
theorem pop_5 {y : BitVec 64} (hy : y.toNat = ev 256 (vF b) 8) : (y + (y >>> 16)).toNat = ev 256 (wF b) 8 := by
  have s : (y >>> 16).toNat = ev 256 (fun k => vF b (k + 2)) 8 := by
    rw [BitVec.toNat_ushiftRight, hy, Nat.shiftRight_eq_div_pow, show (2 : Nat) ^ 16 = 256 * 256 from rfl, ← Nat.div_div_eq_div_mul, ev_cut (n := 7) (by have := vF_le b 0; omega), ev_cut (n := 6) (by have := vF_le b (0 + 1); omega), ev_ext 7 (fun k => vF b (k + 2)) (vF_0 b (by omega)), ev_ext 6 (fun k => vF b (k + 2)) (vF_0 b (by omega))]
  have l := ev_lt (B := 256) 8 (wF b) fun k => by have := wF_le b k; omega
  rw [BitVec.toNat_add, s, hy, ev_add]
  exact Nat.mod_eq_of_lt l
theorem pop_6 {y : BitVec 64} (hy : y.toNat = ev 256 (wF b) 8) : (y + (y >>> 32)).toNat = ev 256 (fun k => wF b k + wF b (k + 4)) 8 := by
  have s : (y >>> 32).toNat = ev 256 (fun k => wF b (k + 4)) 8 := by
    rw [BitVec.toNat_ushiftRight, hy, Nat.shiftRight_eq_div_pow, show (2 : Nat) ^ 32 = 256 * 256 * 256 * 256 from rfl, ← Nat.div_div_eq_div_mul, ← Nat.div_div_eq_div_mul, ← Nat.div_div_eq_div_mul, ev_cut (n := 7) (by have := wF_le b 0; omega), ev_cut (n := 6) (by have := wF_le b (0 + 1); omega), ev_cut (n := 5) (by have := wF_le b (0 + 1 + 1); omega), ev_cut (n := 4) (by have := wF_le b (0 + 1 + 1 + 1); omega), ev_ext 7 (fun k => wF b (k + 4)) (wF_0 b (by omega)), ev_ext 6 (fun k => wF b (k + 4)) (wF_0 b (by omega)), ev_ext 5 (fun k => wF b (k + 4)) (wF_0 b (by omega)), ev_ext 4 (fun k => wF b (k + 4)) (wF_0 b (by omega))]
  have l := ev_lt (B := 256) 8 (fun k => wF b k + wF b (k + 4)) fun k => by have := wF_le b k; have := wF_le b (k + 4); omega
  rw [BitVec.toNat_add, s, hy, ev_add]
  exact Nat.mod_eq_of_lt l
theorem pop_sum : wF b 0 + wF b 4 = sumF (bF b) 64 := by
  have e : sumF (bF b) 64 = sumF (uF b) 8 := by
    rw [← sum_two 32 (bF b)]
    show sumF (cF b) 32 = _
    rw [← sum_two 16 (cF b)]
    show sumF (rF b) 16 = _
    rw [← sum_two 8 (rF b)]
    rfl
  rw [e]
  simp only [sumF, wF, vF, Nat.zero_add, Nat.reduceAdd]
  omega
end
section
variable {d : Nat} {h : AH} {x : Int64}
theorem lshr_bv {k : Int32} {n : Nat} (hk : (k.toInt64.toUInt64 &&& 63).toBitVec % 64#64 = BitVec.ofNat 64 n) (hn : n < 64) : ((x.toUInt64 >>> (k.toInt64.toUInt64 &&& 63)).toInt64).toBitVec = x.toBitVec >>> n := by
  rw [UInt64.toBitVec_toInt64, UInt64.toBitVec_shiftRight]
  have : ((k.toInt64.toUInt64 &&& 63).toBitVec % 64) = BitVec.ofNat 64 n := hk
  rw [this, BitVec.ushiftRight_eq', BitVec.toNat_ofNat, Nat.mod_eq_of_lt (by omega), Int64.toBitVec_toUInt64]
def cntW (b : BitVec 64) : Nat := sumF (bF b) 64
theorem m_bitCount : M (d + 1) 61000 [.long x] h = some (.inl (some (.int (zI (cntW x.toBitVec)))), h) := by
  rw [X61000 h, E61000_0]
  have k1 : ∀ y : Int64, ((y.toUInt64 >>> ((1 : Int32).toInt64.toUInt64 &&& 63)).toInt64).toBitVec = y.toBitVec >>> 1 := fun y => lshr_bv (by decide) (by decide)
  have k2 : ∀ y : Int64, ((y.toUInt64 >>> ((2 : Int32).toInt64.toUInt64 &&& 63)).toInt64).toBitVec = y.toBitVec >>> 2 := fun y => lshr_bv (by decide) (by decide)
  have k4 : ∀ y : Int64, ((y.toUInt64 >>> ((4 : Int32).toInt64.toUInt64 &&& 63)).toInt64).toBitVec = y.toBitVec >>> 4 := fun y => lshr_bv (by decide) (by decide)
  have k8 : ∀ y : Int64, ((y.toUInt64 >>> ((8 : Int32).toInt64.toUInt64 &&& 63)).toInt64).toBitVec = y.toBitVec >>> 8 := fun y => lshr_bv (by decide) (by decide)
  have k16 : ∀ y : Int64, ((y.toUInt64 >>> ((16 : Int32).toInt64.toUInt64 &&& 63)).toInt64).toBitVec = y.toBitVec >>> 16 := fun y => lshr_bv (by decide) (by decide)
  have k32 : ∀ y : Int64, ((y.toUInt64 >>> ((32 : Int32).toInt64.toUInt64 &&& 63)).toInt64).toBitVec = y.toBitVec >>> 32 := fun y => lshr_bv (by decide) (by decide)
  have p1 := pop_1 x.toBitVec
  rw [← k1] at p1
  have p1 : (x - (((x.toUInt64 >>> ((1 : Int32).toInt64.toUInt64 &&& 63)).toInt64) &&& 6148914691236517205)).toBitVec.toNat = _ := p1
  generalize (x - (((x.toUInt64 >>> ((1 : Int32).toInt64.toUInt64 &&& 63)).toInt64) &&& 6148914691236517205)) = y1 at p1 ⊢
  have p2 := pop_2 x.toBitVec p1
  rw [← k2] at p2
  have p2 : ((y1 &&& 3689348814741910323) + ((y1.toUInt64 >>> ((2 : Int32).toInt64.toUInt64 &&& 63)).toInt64 &&& 3689348814741910323)).toBitVec.toNat = _ := p2
  generalize ((y1 &&& 3689348814741910323) + ((y1.toUInt64 >>> ((2 : Int32).toInt64.toUInt64 &&& 63)).toInt64 &&& 3689348814741910323)) = y2 at p2 ⊢
  have p3 := pop_3 x.toBitVec p2
  rw [← k4] at p3
  have p3 : ((y2 + (y2.toUInt64 >>> ((4 : Int32).toInt64.toUInt64 &&& 63)).toInt64) &&& 1085102592571150095).toBitVec.toNat = _ := p3
  generalize ((y2 + (y2.toUInt64 >>> ((4 : Int32).toInt64.toUInt64 &&& 63)).toInt64) &&& 1085102592571150095) = y3 at p3 ⊢
  have p4 := pop_4 x.toBitVec p3
  rw [← k8] at p4
  have p4 : (y3 + (y3.toUInt64 >>> ((8 : Int32).toInt64.toUInt64 &&& 63)).toInt64).toBitVec.toNat = _ := p4
  generalize (y3 + (y3.toUInt64 >>> ((8 : Int32).toInt64.toUInt64 &&& 63)).toInt64) = y4 at p4 ⊢
  have p5 := pop_5 x.toBitVec p4
  rw [← k16] at p5
  have p5 : (y4 + (y4.toUInt64 >>> ((16 : Int32).toInt64.toUInt64 &&& 63)).toInt64).toBitVec.toNat = _ := p5
  generalize (y4 + (y4.toUInt64 >>> ((16 : Int32).toInt64.toUInt64 &&& 63)).toInt64) = y5 at p5 ⊢
  have p6 := pop_6 x.toBitVec p5
  rw [← k32] at p6
  have p6 : (y5 + (y5.toUInt64 >>> ((32 : Int32).toInt64.toUInt64 &&& 63)).toInt64).toBitVec.toNat = _ := p6
  generalize (y5 + (y5.toUInt64 >>> ((32 : Int32).toInt64.toUInt64 &&& 63)).toInt64) = y6 at p6 ⊢
  have hs := pop_sum x.toBitVec
  have w0 := wF_le x.toBitVec 0
  have w4 := wF_le x.toBitVec 4
  have hm : y6.toBitVec.toNat % 128 = cntW x.toBitVec := by
    rw [p6]
    simp only [ev]
    unfold cntW
    rw [← hs, Nat.zero_add]
    omega
  have fin : y6.toInt32 &&& 127 = zI (cntW x.toBitVec) := by
    have hc : cntW x.toBitVec < 128 := by rw [← hm]; exact Nat.mod_lt _ (by decide)
    apply Int32.toBitVec_inj.mp
    have e : (zI ((cntW x.toBitVec : Nat) : Int)).toBitVec = BitVec.ofNat 32 (cntW x.toBitVec) := by
      unfold zI
      rw [Int32.toBitVec_ofInt]
      exact BitVec.ofInt_natCast _ _
    rw [e, Int32.toBitVec_and, Int64.toBitVec_toInt32]
    refine BitVec.eq_of_getLsbD_eq fun j hj => ?_
    have m : ∀ j : Fin 32, (127 : Int32).toBitVec.getLsbD j.val = decide (j.val < 7) := by decide
    have m2 : (y6.toBitVec.toNat % 128).testBit j = (decide (j < 7) && y6.toBitVec.toNat.testBit j) := Nat.testBit_mod_two_pow y6.toBitVec.toNat 7 j
    rw [BitVec.getLsbD_and, BitVec.getLsbD_signExtend, m ⟨j, hj⟩, if_pos (show j < 64 by omega), BitVec.getLsbD_ofNat, ← hm, m2, ← BitVec.testBit_toNat]
    simp [hj, Bool.and_comm]
  rw [fin]
end
