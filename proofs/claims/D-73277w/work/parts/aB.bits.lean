/-! bits: words of a set, the lowest bit, how many bits -/
section
variable {s : Nat → Bool} {k : Nat}
theorem wdN_bit : ∀ (n j : Nat), (wdN s k n).testBit j = (decide (j < n) && s (64 * k + j)) := by
  intro n
  induction n with
  | zero => intro j; simp [wdN]
  | succ n ih =>
    intro j
    simp only [wdN, Nat.testBit_or, ih]
    by_cases hs : s (64 * k + n) = true
    · rw [if_pos hs, Nat.testBit_two_pow]
      by_cases hj : n = j
      · subst hj; simp [hs]
      · have : (j < n + 1) ↔ (j < n) := by omega
        simp [hj, this]
    · rw [if_neg hs]
      by_cases hj : n = j
      · subst hj; simp [Bool.eq_false_iff.mpr hs]
      · have : (j < n + 1) ↔ (j < n) := by omega
        simp [this]
theorem wd_bit {j : Nat} (hj : j < 64) : (wd s k).toBitVec.getLsbD j = s (64 * k + j) := by
  unfold wd
  rw [Int64.toBitVec_ofBitVec, BitVec.getLsbD_ofNat, wdN_bit]
  simp [hj]
theorem wd_ext {s2 : Nat → Bool} (h : ∀ j, j < 64 → s (64 * k + j) = s2 (64 * k + j)) : wd s k = wd s2 k := by
  apply Int64.toBitVec_inj.mp
  refine BitVec.eq_of_getLsbD_eq fun j hj => ?_
  rw [wd_bit hj, wd_bit hj, h j hj]
theorem wd_0 (h : ∀ j, j < 64 → s (64 * k + j) = false) : wd s k = 0 := by
  apply Int64.toBitVec_inj.mp
  refine BitVec.eq_of_getLsbD_eq fun j hj => ?_
  rw [wd_bit hj, h j hj]
  simp
/-- the amount of a shift -/
theorem sh_am {i : Int} (i0 : 0 ≤ i) (i1 : i < 2147483648) : ((zI i).toInt64 &&& 63).toBitVec = BitVec.ofNat 64 (i.toNat % 64) := by
  refine BitVec.eq_of_getLsbD_eq fun j hj => ?_
  have m : ∀ j : Fin 64, (63#64).getLsbD j.val = decide (j.val < 6) := by decide
  have e : (zI i).toBitVec = BitVec.ofNat 32 i.toNat := by
    unfold zI
    rw [Int32.toBitVec_ofInt]
    obtain ⟨n, rfl⟩ := Int.eq_ofNat_of_zero_le i0
    exact BitVec.ofInt_natCast _ _
  have m2 : (i.toNat % 64).testBit j = (decide (j < 6) && i.toNat.testBit j) := Nat.testBit_mod_two_pow i.toNat 6 j
  rw [Int64.toBitVec_and, Int32.toBitVec_toInt64, BitVec.getLsbD_and, BitVec.getLsbD_signExtend, e, BitVec.getLsbD_ofNat, BitVec.getLsbD_ofNat, show (63 : Int64).toBitVec = 63#64 from rfl, m ⟨j, hj⟩, m2]
  by_cases h6 : j < 6
  · have : j < 32 := by omega
    simp [h6, this, hj]
  · simp [h6]
theorem smod64 : ∀ m : Fin 64, (BitVec.ofNat 64 m.val).smod 64 = BitVec.ofNat 64 m.val := by decide +kernel
theorem shl_bit {a : Int64} {i : Int} (i0 : 0 ≤ i) (i1 : i < 2147483648) {j : Nat} (hj : j < 64) : (a <<< ((zI i).toInt64 &&& 63)).toBitVec.getLsbD j = (!decide (j < i.toNat % 64) && a.toBitVec.getLsbD (j - i.toNat % 64)) := by
  have hm : i.toNat % 64 < 64 := Nat.mod_lt _ (by decide)
  rw [Int64.toBitVec_shiftLeft, sh_am i0 i1, smod64 ⟨i.toNat % 64, hm⟩, BitVec.shiftLeft_eq', BitVec.getLsbD_shiftLeft, BitVec.toNat_ofNat, Nat.mod_eq_of_lt (by omega)]
  simp [hj]
theorem one_bit {j : Nat} : (1 : Int64).toBitVec.getLsbD j = decide (j = 0) := by
  have e : (1 : Int64).toBitVec = 1#64 := rfl
  rw [e, BitVec.getLsbD_one]
  simp
theorem neg_bit {j : Nat} (hj : j < 64) : (-1 : Int64).toBitVec.getLsbD j = true := by
  have : ∀ j : Fin 64, (-1 : Int64).toBitVec.getLsbD j.val = true := by decide
  exact this ⟨j, hj⟩
theorem mask_bit {i : Int} (i0 : 0 ≤ i) (i1 : i < 2147483648) {j : Nat} (hj : j < 64) : ((1 : Int64) <<< ((zI i).toInt64 &&& 63)).toBitVec.getLsbD j = decide (j = i.toNat % 64) := by
  rw [shl_bit i0 i1 hj, one_bit]
  by_cases h : j < i.toNat % 64
  · have : j ≠ i.toNat % 64 := by omega
    simp [h, this]
  · have : (j - i.toNat % 64 = 0) ↔ j = i.toNat % 64 := by omega
    simp [h, this]
theorem bit_get {i : Int} (i0 : 0 ≤ i) (i1 : i < 2147483648) : (lcm (wd s (i.toNat / 64) &&& ((1 : Int64) <<< ((zI i).toInt64 &&& 63))) 0 = zI 0) = (s i.toNat = false) := by
  rw [lcm_0]
  have hm : i.toNat % 64 < 64 := Nat.mod_lt _ (by decide)
  have hi : 64 * (i.toNat / 64) + i.toNat % 64 = i.toNat := Nat.div_add_mod _ _
  refine propext ⟨fun h => ?_, fun h => ?_⟩
  · have := congrArg (fun x : Int64 => x.toBitVec.getLsbD (i.toNat % 64)) h
    simp only [Int64.toBitVec_and, BitVec.getLsbD_and, wd_bit hm, mask_bit i0 i1 hm, hi] at this
    simpa using this
  · apply Int64.toBitVec_inj.mp
    refine BitVec.eq_of_getLsbD_eq fun j hj => ?_
    rw [Int64.toBitVec_and, BitVec.getLsbD_and, wd_bit hj, mask_bit i0 i1 hj]
    by_cases hji : j = i.toNat % 64
    · subst hji; rw [hi, h]; simp
    · simp [hji]
theorem bit_set {i : Int} (i0 : 0 ≤ i) (i1 : i < 2147483648) : wd s (i.toNat / 64) ||| ((1 : Int64) <<< ((zI i).toInt64 &&& 63)) = wd (fun q => decide (q = i.toNat) || s q) (i.toNat / 64) := by
  have hi : 64 * (i.toNat / 64) + i.toNat % 64 = i.toNat := Nat.div_add_mod _ _
  apply Int64.toBitVec_inj.mp
  refine BitVec.eq_of_getLsbD_eq fun j hj => ?_
  rw [Int64.toBitVec_or, BitVec.getLsbD_or, wd_bit hj, wd_bit hj, mask_bit i0 i1 hj]
  have : (64 * (i.toNat / 64) + j = i.toNat) ↔ j = i.toNat % 64 := by omega
  simp only [this, Bool.or_comm]
theorem bit_set_ne {i : Nat} (h : k ≠ i / 64) : wd (fun q => decide (q = i) || s q) k = wd s k := wd_ext fun j hj => by
  have : ¬ (64 * k + j = i) := by omega
  simp [this]
end
/-! the lowest bit -/
/-- t is the lowest one -/
def LoB {w : Nat} (b : BitVec w) (t : Nat) : Prop := t < w ∧ b.getLsbD t = true ∧ ∀ j, j < t → b.getLsbD j = false
theorem lo_form {w : Nat} {b : BitVec w} {t : Nat} (h : LoB b t) : ∃ m, b.toNat = 2 ^ (t + 1) * m + 2 ^ t := by
  obtain ⟨h1, h2, h3⟩ := h
  refine ⟨b.toNat / 2 ^ (t + 1), ?_⟩
  have e : b.toNat % 2 ^ (t + 1) = 2 ^ t := by
    refine Nat.eq_of_testBit_eq fun j => ?_
    rw [Nat.testBit_mod_two_pow, Nat.testBit_two_pow]
    by_cases hj : j < t
    · have := h3 j hj
      rw [← BitVec.testBit_toNat] at this
      rw [this]
      have : ¬ (t = j) := by omega
      simp [this]
    · by_cases hj2 : t = j
      · subst hj2
        rw [← BitVec.testBit_toNat] at h2
        simp [h2]
      · have : ¬ (j < t + 1) := by omega
        simp [this, hj2]
  have := Nat.div_add_mod b.toNat (2 ^ (t + 1))
  omega
theorem lo_mask {x : Int32} {t : Nat} (h : LoB x.toBitVec t) : (x ^^^ (-1)) &&& (x - 1) = Int32.ofBitVec (BitVec.ofNat 32 (2 ^ t - 1)) := by
  obtain ⟨m, hm⟩ := lo_form h
  obtain ⟨h1, h2, h3⟩ := h
  have p0 : 0 < 2 ^ t := Nat.two_pow_pos t
  have hs : (x.toBitVec - 1#32).toNat = 2 ^ (t + 1) * m + (2 ^ t - 1) := by
    rw [BitVec.toNat_sub_of_le (by rw [BitVec.le_def, hm]; show 1 % 2 ^ 32 ≤ _; omega), hm]
    show _ - 1 % 2 ^ 32 = _
    omega
  have neg : ∀ j : Fin 32, (-1 : Int32).toBitVec.getLsbD j.val = true := by decide
  apply Int32.toBitVec_inj.mp
  rw [Int32.toBitVec_ofBitVec, Int32.toBitVec_and, Int32.toBitVec_xor, Int32.toBitVec_sub, show (1 : Int32).toBitVec = 1#32 from rfl]
  refine BitVec.eq_of_getLsbD_eq fun j hj => ?_
  rw [BitVec.getLsbD_and, BitVec.getLsbD_xor, neg ⟨j, hj⟩, BitVec.getLsbD_ofNat, Nat.testBit_two_pow_sub_one]
  have a1 : x.toBitVec.getLsbD j = x.toBitVec.toNat.testBit j := (BitVec.testBit_toNat _).symm
  have a2 : (x.toBitVec - 1#32).getLsbD j = (x.toBitVec - 1#32).toNat.testBit j := (BitVec.testBit_toNat _).symm
  rw [a1, a2, hs, hm, Nat.testBit_two_pow_mul_add _ (show 2 ^ t - 1 < 2 ^ (t + 1) by rw [Nat.pow_succ]; omega), Nat.testBit_two_pow_mul_add _ (show 2 ^ t < 2 ^ (t + 1) by rw [Nat.pow_succ]; omega), Nat.testBit_two_pow_sub_one, Nat.testBit_two_pow]
  by_cases c1 : j < t
  · have c2 : j < t + 1 := by omega
    have c3 : ¬ (t = j) := by omega
    simp [c1, c2, c3, hj]
  · by_cases c2 : t = j
    · subst c2; simp
    · have c3 : ¬ (j < t + 1) := by omega
      simp [c1, c2, c3]
def nz62 (a b : Int32) : Int32 := if a ≤ 4 then b + ((a.toUInt32 >>> ((1 : Int32).toUInt32 &&& Int32.toUInt32 31)).toInt32) else (b + 2) + ((((a.toUInt32 >>> ((2 : Int32).toUInt32 &&& Int32.toUInt32 31)).toInt32).toUInt32 >>> ((1 : Int32).toUInt32 &&& Int32.toUInt32 31)).toInt32)
def nz34 (a b : Int32) : Int32 := if a ≤ 256 then (if a ≤ 16 then nz62 a b else nz62 ((a.toUInt32 >>> ((4 : Int32).toUInt32 &&& Int32.toUInt32 31)).toInt32) (b + 4)) else (if ((a.toUInt32 >>> ((8 : Int32).toUInt32 &&& Int32.toUInt32 31)).toInt32) ≤ 16 then nz62 ((a.toUInt32 >>> ((8 : Int32).toUInt32 &&& Int32.toUInt32 31)).toInt32) (b + 8) else nz62 ((((a.toUInt32 >>> ((8 : Int32).toUInt32 &&& Int32.toUInt32 31)).toInt32).toUInt32 >>> ((4 : Int32).toUInt32 &&& Int32.toUInt32 31)).toInt32) ((b + 8) + 4))
def nz0 (a : Int32) : Int32 := if 0 < a then (if a ≤ 65536 then nz34 a 1 else nz34 ((a.toUInt32 >>> ((16 : Int32).toUInt32 &&& Int32.toUInt32 31)).toInt32) (1 + 16)) else a &&& 32
theorem nz_ok : ∀ t : Fin 32, nz0 (Int32.ofBitVec (BitVec.ofNat 32 (2 ^ t.val - 1))) = Int32.ofNat t.val := by decide +kernel
section
variable {d : Nat} {h : AH} {x : Int32} {y : Int64} {t : Nat}
theorem m_ntz (hx : LoB x.toBitVec t) : M (d + 1) 62007 [.int x] h = some (.inl (some (.int (zI t))), h) := by
  have h62 : ∀ a b : Int32, G d 62007 62 [.int a, .int b] [] h = some (.inl (some (.int (nz62 a b))), h) := fun a b => by
    rw [E62007_62]; unfold nz62; split <;> rfl
  have h34 : ∀ a b : Int32, G d 62007 34 [.int a, .int b] [] h = some (.inl (some (.int (nz34 a b))), h) := fun a b => by
    rw [E62007_34]; unfold nz34
    simp only [h62]
    split <;> split <;> rfl
  rw [X62007 h, E62007_0, lo_mask hx]
  simp only [h34]
  have := nz_ok ⟨t, hx.1⟩
  simp only [nz0] at this
  have e : Int32.ofNat t = zI t := (Int32.ofInt_eq_ofNat).symm
  rw [e] at this
  split
  · rename_i h1
    rw [if_pos h1] at this
    split
    · rename_i h2
      rw [if_pos h2] at this
      rw [this]
    · rename_i h2
      rw [if_neg h2] at this
      rw [this]
  · rename_i h1
    rw [if_neg h1] at this
    rw [this]
theorem lo32 {b : BitVec 64} (h : LoB b t) (ht : t < 32) : LoB (b.signExtend 32) t := by
  obtain ⟨-, h2, h3⟩ := h
  refine ⟨ht, ?_, fun j hj => ?_⟩
  · rw [BitVec.getLsbD_signExtend, h2]; simp [ht]; omega
  · rw [BitVec.getLsbD_signExtend, h3 j hj]; simp; omega
theorem m_ntz64 (hy : LoB y.toBitVec t) : M (d + 2) 61002 [.long y] h = some (.inl (some (.int (zI t))), h) := by
  rw [X61002 h, E61002_0]
  by_cases ht : t < 32
  · have hx : LoB y.toInt32.toBitVec t := by rw [Int64.toBitVec_toInt32]; exact lo32 hy ht
    have hne : ¬ (y.toInt32 = 0) := fun z => by
      rw [z] at hx
      have := hx.2.1
      simp at this
    rw [if_neg hne, m_ntz hx]
    simp only [jc_ref, rI_int, rR_ref, rR_null, rJ_long, ckR_ref, ckR_null, ckr_ref, ckr_null, ckW_int, ckW_ref, ckW_null, cI_ok, cR_ok, cR_null, cV_ok, cJ_ok, qH_eq, qD_in, aG_ref, aS_ref, aL_ref, pF_ref, cK_ref, cK_null]
  · have hz : y.toInt32 = 0 := by
      apply Int32.toBitVec_inj.mp
      refine BitVec.eq_of_getLsbD_eq fun j hj => ?_
      rw [Int64.toBitVec_toInt32, BitVec.getLsbD_signExtend, hy.2.2 j (by omega), if_pos (by omega)]
      simp
    have am : ((32 : Int32).toInt64.toUInt64 &&& 63).toBitVec = 32#64 := by decide
    have hx : LoB ((((y.toUInt64 >>> ((32 : Int32).toInt64.toUInt64 &&& 63)).toInt64)).toInt32).toBitVec (t - 32) := by
      have hb : ∀ j, j < 32 → ((((y.toUInt64 >>> ((32 : Int32).toInt64.toUInt64 &&& 63)).toInt64)).toInt32).toBitVec.getLsbD j = y.toBitVec.getLsbD (32 + j) := fun j hj => by
        rw [Int64.toBitVec_toInt32, BitVec.getLsbD_signExtend, if_pos (show j < 64 by omega), UInt64.toBitVec_toInt64, UInt64.toBitVec_shiftRight, am]
        have : ((32#64 : BitVec 64) % 64) = 32#64 := by decide
        rw [this, BitVec.ushiftRight_eq', BitVec.getLsbD_ushiftRight, Int64.toBitVec_toUInt64]
        simp [hj]
      refine ⟨by have := hy.1; omega, ?_, fun j hj => ?_⟩
      · rw [hb _ (by have := hy.1; omega), show 32 + (t - 32) = t by omega]; exact hy.2.1
      · rw [hb _ (by have := hy.1; omega)]; exact hy.2.2 _ (by omega)
    rw [if_pos hz, m_ntz hx]
    simp only [jc_ref, rI_int, rR_ref, rR_null, rJ_long, ckR_ref, ckR_null, ckr_ref, ckr_null, ckW_int, ckW_ref, ckW_null, cI_ok, cR_ok, cR_null, cV_ok, cJ_ok, qH_eq, qD_in, aG_ref, aS_ref, aL_ref, pF_ref, cK_ref, cK_null, zI_lit, zJ_lit, zI_add, zI_sub, zI_mul, zI_neg, zI_eq, zI_lt, zI_le, Int.reduceLT, Int.reduceLE, Int.reduceAdd, Int.reduceSub, Int.reduceMul, Int.reduceNeg, Int.reduceEq, Int.reduceNe, reduceIte]
    rw [show (32 : Int) + ((t - 32 : Nat) : Int) = t by omega]
end
