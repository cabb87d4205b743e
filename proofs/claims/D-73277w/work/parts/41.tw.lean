/-! the twin's cells laid over a heap (printed by tools/twlay.py): T k i: place i of array k; T 0: the fields -/
/-- T with the array k replaced -/
def tg (T : Nat → Int → Int) (k : Nat) (g : Int → Int) : Nat → Int → Int := fun j => if j = k then g else T j
theorem tg_eq {T : Nat → Int → Int} {k : Nat} {g : Int → Int} : tg T k g k = g := by simp [tg]
theorem tg_ne {T : Nat → Int → Int} {k j : Nat} {g : Int → Int} (h : j ≠ k) : tg T k g j = T j := by simp [tg, h]
theorem tg_tg {T : Nat → Int → Int} {k : Nat} {g g' : Int → Int} : tg (tg T k g) k g' = tg T k g' := by
  funext j
  by_cases h : j = k <;> simp [tg, h]
def ts (T : Nat → Int → Int) (k : Nat) (i v : Int) : Nat → Int → Int := tg T k (fset (T k) i v)
theorem ts_eq {T : Nat → Int → Int} {k : Nat} {i v : Int} : ts T k i v k = fset (T k) i v := tg_eq
theorem ts_ne {T : Nat → Int → Int} {k j : Nat} {i v : Int} (h : j ≠ k) : ts T k i v j = T j := tg_ne h
def ob (m : Nat) (F : Int → Int) : Nat → Value := jL [.int (zI (F 0)), .ref (m + 1), .int (zI (F 2)), .int (zI (F 3)), .int (zI (F 4)), .int (zI (F 5)), .ref (m + 2), .ref (m + 3), .ref (m + 4), .ref (m + 5), .ref (m + 6), .ref (m + 7), .int (zI (F 12)), .int (zI (F 13)), .int (zI (F 14)), .int (zI (F 15)), .int (zI (F 16)), .int (zI (F 17)), .long (zJ (F 18)), .int (zI (F 19)), .int (zI (F 20)), .int (zI (F 21)), .int (zI (F 22)), .ref (m + 8), .ref (m + 9), .ref (m + 10), .int (zI (F 26)), .ref (m + 11), .ref (m + 12), .ref (m + 13), .ref (m + 14), .int (zI (F 31)), .int (zI (F 32)), .int (zI (F 33)), .int (zI (F 34)), .int (zI (F 35)), .ref (m + 15), .ref (m + 16), .ref (m + 17), .ref (m + 18), .ref (m + 19), .int (zI (F 41)), .int (zI (F 42)), .ref (m + 20), .int (zI (F 44)), .ref (m + 21), .ref (m + 22), .ref (m + 23), .int (zI (F 48)), .ref (m + 24), .int (zI (F 50)), .int (zI (F 51)), .int (zI (F 52)), .ref (m + 25), .ref (m + 26), .int (zI (F 55)), .ref (m + 27), .int (zI (F 57)), .int (zI (F 58)), .int (zI (F 59)), .int (zI (F 60)), .int (zI (F 61)), .ref (m + 28), .ref (m + 29), .ref (m + 30), .ref (m + 31)]
theorem ob_0 {m : Nat} {F : Int → Int} : ob m F 0 = .int (zI (F 0)) := rfl
theorem ob_1 {m : Nat} {F : Int → Int} : ob m F 1 = .ref (m + 1) := rfl
theorem ob_2 {m : Nat} {F : Int → Int} : ob m F 2 = .int (zI (F 2)) := rfl
theorem ob_3 {m : Nat} {F : Int → Int} : ob m F 3 = .int (zI (F 3)) := rfl
theorem ob_4 {m : Nat} {F : Int → Int} : ob m F 4 = .int (zI (F 4)) := rfl
theorem ob_5 {m : Nat} {F : Int → Int} : ob m F 5 = .int (zI (F 5)) := rfl
theorem ob_6 {m : Nat} {F : Int → Int} : ob m F 6 = .ref (m + 2) := rfl
theorem ob_7 {m : Nat} {F : Int → Int} : ob m F 7 = .ref (m + 3) := rfl
theorem ob_8 {m : Nat} {F : Int → Int} : ob m F 8 = .ref (m + 4) := rfl
theorem ob_9 {m : Nat} {F : Int → Int} : ob m F 9 = .ref (m + 5) := rfl
theorem ob_10 {m : Nat} {F : Int → Int} : ob m F 10 = .ref (m + 6) := rfl
theorem ob_11 {m : Nat} {F : Int → Int} : ob m F 11 = .ref (m + 7) := rfl
theorem ob_12 {m : Nat} {F : Int → Int} : ob m F 12 = .int (zI (F 12)) := rfl
theorem ob_13 {m : Nat} {F : Int → Int} : ob m F 13 = .int (zI (F 13)) := rfl
theorem ob_14 {m : Nat} {F : Int → Int} : ob m F 14 = .int (zI (F 14)) := rfl
theorem ob_15 {m : Nat} {F : Int → Int} : ob m F 15 = .int (zI (F 15)) := rfl
theorem ob_16 {m : Nat} {F : Int → Int} : ob m F 16 = .int (zI (F 16)) := rfl
theorem ob_17 {m : Nat} {F : Int → Int} : ob m F 17 = .int (zI (F 17)) := rfl
theorem ob_18 {m : Nat} {F : Int → Int} : ob m F 18 = .long (zJ (F 18)) := rfl
theorem ob_19 {m : Nat} {F : Int → Int} : ob m F 19 = .int (zI (F 19)) := rfl
theorem ob_20 {m : Nat} {F : Int → Int} : ob m F 20 = .int (zI (F 20)) := rfl
theorem ob_21 {m : Nat} {F : Int → Int} : ob m F 21 = .int (zI (F 21)) := rfl
theorem ob_22 {m : Nat} {F : Int → Int} : ob m F 22 = .int (zI (F 22)) := rfl
theorem ob_23 {m : Nat} {F : Int → Int} : ob m F 23 = .ref (m + 8) := rfl
theorem ob_24 {m : Nat} {F : Int → Int} : ob m F 24 = .ref (m + 9) := rfl
theorem ob_25 {m : Nat} {F : Int → Int} : ob m F 25 = .ref (m + 10) := rfl
theorem ob_26 {m : Nat} {F : Int → Int} : ob m F 26 = .int (zI (F 26)) := rfl
theorem ob_27 {m : Nat} {F : Int → Int} : ob m F 27 = .ref (m + 11) := rfl
theorem ob_28 {m : Nat} {F : Int → Int} : ob m F 28 = .ref (m + 12) := rfl
theorem ob_29 {m : Nat} {F : Int → Int} : ob m F 29 = .ref (m + 13) := rfl
theorem ob_30 {m : Nat} {F : Int → Int} : ob m F 30 = .ref (m + 14) := rfl
theorem ob_31 {m : Nat} {F : Int → Int} : ob m F 31 = .int (zI (F 31)) := rfl
theorem ob_32 {m : Nat} {F : Int → Int} : ob m F 32 = .int (zI (F 32)) := rfl
theorem ob_33 {m : Nat} {F : Int → Int} : ob m F 33 = .int (zI (F 33)) := rfl
theorem ob_34 {m : Nat} {F : Int → Int} : ob m F 34 = .int (zI (F 34)) := rfl
theorem ob_35 {m : Nat} {F : Int → Int} : ob m F 35 = .int (zI (F 35)) := rfl
theorem ob_36 {m : Nat} {F : Int → Int} : ob m F 36 = .ref (m + 15) := rfl
theorem ob_37 {m : Nat} {F : Int → Int} : ob m F 37 = .ref (m + 16) := rfl
theorem ob_38 {m : Nat} {F : Int → Int} : ob m F 38 = .ref (m + 17) := rfl
theorem ob_39 {m : Nat} {F : Int → Int} : ob m F 39 = .ref (m + 18) := rfl
theorem ob_40 {m : Nat} {F : Int → Int} : ob m F 40 = .ref (m + 19) := rfl
theorem ob_41 {m : Nat} {F : Int → Int} : ob m F 41 = .int (zI (F 41)) := rfl
theorem ob_42 {m : Nat} {F : Int → Int} : ob m F 42 = .int (zI (F 42)) := rfl
theorem ob_43 {m : Nat} {F : Int → Int} : ob m F 43 = .ref (m + 20) := rfl
theorem ob_44 {m : Nat} {F : Int → Int} : ob m F 44 = .int (zI (F 44)) := rfl
theorem ob_45 {m : Nat} {F : Int → Int} : ob m F 45 = .ref (m + 21) := rfl
theorem ob_46 {m : Nat} {F : Int → Int} : ob m F 46 = .ref (m + 22) := rfl
theorem ob_47 {m : Nat} {F : Int → Int} : ob m F 47 = .ref (m + 23) := rfl
theorem ob_48 {m : Nat} {F : Int → Int} : ob m F 48 = .int (zI (F 48)) := rfl
theorem ob_49 {m : Nat} {F : Int → Int} : ob m F 49 = .ref (m + 24) := rfl
theorem ob_50 {m : Nat} {F : Int → Int} : ob m F 50 = .int (zI (F 50)) := rfl
theorem ob_51 {m : Nat} {F : Int → Int} : ob m F 51 = .int (zI (F 51)) := rfl
theorem ob_52 {m : Nat} {F : Int → Int} : ob m F 52 = .int (zI (F 52)) := rfl
theorem ob_53 {m : Nat} {F : Int → Int} : ob m F 53 = .ref (m + 25) := rfl
theorem ob_54 {m : Nat} {F : Int → Int} : ob m F 54 = .ref (m + 26) := rfl
theorem ob_55 {m : Nat} {F : Int → Int} : ob m F 55 = .int (zI (F 55)) := rfl
theorem ob_56 {m : Nat} {F : Int → Int} : ob m F 56 = .ref (m + 27) := rfl
theorem ob_57 {m : Nat} {F : Int → Int} : ob m F 57 = .int (zI (F 57)) := rfl
theorem ob_58 {m : Nat} {F : Int → Int} : ob m F 58 = .int (zI (F 58)) := rfl
theorem ob_59 {m : Nat} {F : Int → Int} : ob m F 59 = .int (zI (F 59)) := rfl
theorem ob_60 {m : Nat} {F : Int → Int} : ob m F 60 = .int (zI (F 60)) := rfl
theorem ob_61 {m : Nat} {F : Int → Int} : ob m F 61 = .int (zI (F 61)) := rfl
theorem ob_62 {m : Nat} {F : Int → Int} : ob m F 62 = .ref (m + 28) := rfl
theorem ob_63 {m : Nat} {F : Int → Int} : ob m F 63 = .ref (m + 29) := rfl
theorem ob_64 {m : Nat} {F : Int → Int} : ob m F 64 = .ref (m + 30) := rfl
theorem ob_65 {m : Nat} {F : Int → Int} : ob m F 65 = .ref (m + 31) := rfl
theorem obs_0 {m : Nat} {F : Int → Int} {v : Int} : ju (ob m F) 0 (.int (zI v)) = ob m (fset F 0 v) := (ju_jL (Nat.le_of_ble_eq_true rfl)).trans rfl
theorem obs_2 {m : Nat} {F : Int → Int} {v : Int} : ju (ob m F) 2 (.int (zI v)) = ob m (fset F 2 v) := (ju_jL (Nat.le_of_ble_eq_true rfl)).trans rfl
theorem obs_3 {m : Nat} {F : Int → Int} {v : Int} : ju (ob m F) 3 (.int (zI v)) = ob m (fset F 3 v) := (ju_jL (Nat.le_of_ble_eq_true rfl)).trans rfl
theorem obs_4 {m : Nat} {F : Int → Int} {v : Int} : ju (ob m F) 4 (.int (zI v)) = ob m (fset F 4 v) := (ju_jL (Nat.le_of_ble_eq_true rfl)).trans rfl
theorem obs_5 {m : Nat} {F : Int → Int} {v : Int} : ju (ob m F) 5 (.int (zI v)) = ob m (fset F 5 v) := (ju_jL (Nat.le_of_ble_eq_true rfl)).trans rfl
theorem obs_12 {m : Nat} {F : Int → Int} {v : Int} : ju (ob m F) 12 (.int (zI v)) = ob m (fset F 12 v) := (ju_jL (Nat.le_of_ble_eq_true rfl)).trans rfl
theorem obs_13 {m : Nat} {F : Int → Int} {v : Int} : ju (ob m F) 13 (.int (zI v)) = ob m (fset F 13 v) := (ju_jL (Nat.le_of_ble_eq_true rfl)).trans rfl
theorem obs_14 {m : Nat} {F : Int → Int} {v : Int} : ju (ob m F) 14 (.int (zI v)) = ob m (fset F 14 v) := (ju_jL (Nat.le_of_ble_eq_true rfl)).trans rfl
theorem obs_15 {m : Nat} {F : Int → Int} {v : Int} : ju (ob m F) 15 (.int (zI v)) = ob m (fset F 15 v) := (ju_jL (Nat.le_of_ble_eq_true rfl)).trans rfl
theorem obs_16 {m : Nat} {F : Int → Int} {v : Int} : ju (ob m F) 16 (.int (zI v)) = ob m (fset F 16 v) := (ju_jL (Nat.le_of_ble_eq_true rfl)).trans rfl
theorem obs_17 {m : Nat} {F : Int → Int} {v : Int} : ju (ob m F) 17 (.int (zI v)) = ob m (fset F 17 v) := (ju_jL (Nat.le_of_ble_eq_true rfl)).trans rfl
theorem obs_18 {m : Nat} {F : Int → Int} {v : Int} : ju (ob m F) 18 (.long (zJ v)) = ob m (fset F 18 v) := (ju_jL (Nat.le_of_ble_eq_true rfl)).trans rfl
theorem obs_19 {m : Nat} {F : Int → Int} {v : Int} : ju (ob m F) 19 (.int (zI v)) = ob m (fset F 19 v) := (ju_jL (Nat.le_of_ble_eq_true rfl)).trans rfl
theorem obs_20 {m : Nat} {F : Int → Int} {v : Int} : ju (ob m F) 20 (.int (zI v)) = ob m (fset F 20 v) := (ju_jL (Nat.le_of_ble_eq_true rfl)).trans rfl
theorem obs_21 {m : Nat} {F : Int → Int} {v : Int} : ju (ob m F) 21 (.int (zI v)) = ob m (fset F 21 v) := (ju_jL (Nat.le_of_ble_eq_true rfl)).trans rfl
theorem obs_22 {m : Nat} {F : Int → Int} {v : Int} : ju (ob m F) 22 (.int (zI v)) = ob m (fset F 22 v) := (ju_jL (Nat.le_of_ble_eq_true rfl)).trans rfl
theorem obs_26 {m : Nat} {F : Int → Int} {v : Int} : ju (ob m F) 26 (.int (zI v)) = ob m (fset F 26 v) := (ju_jL (Nat.le_of_ble_eq_true rfl)).trans rfl
theorem obs_31 {m : Nat} {F : Int → Int} {v : Int} : ju (ob m F) 31 (.int (zI v)) = ob m (fset F 31 v) := (ju_jL (Nat.le_of_ble_eq_true rfl)).trans rfl
theorem obs_32 {m : Nat} {F : Int → Int} {v : Int} : ju (ob m F) 32 (.int (zI v)) = ob m (fset F 32 v) := (ju_jL (Nat.le_of_ble_eq_true rfl)).trans rfl
theorem obs_33 {m : Nat} {F : Int → Int} {v : Int} : ju (ob m F) 33 (.int (zI v)) = ob m (fset F 33 v) := (ju_jL (Nat.le_of_ble_eq_true rfl)).trans rfl
theorem obs_34 {m : Nat} {F : Int → Int} {v : Int} : ju (ob m F) 34 (.int (zI v)) = ob m (fset F 34 v) := (ju_jL (Nat.le_of_ble_eq_true rfl)).trans rfl
theorem obs_35 {m : Nat} {F : Int → Int} {v : Int} : ju (ob m F) 35 (.int (zI v)) = ob m (fset F 35 v) := (ju_jL (Nat.le_of_ble_eq_true rfl)).trans rfl
theorem obs_41 {m : Nat} {F : Int → Int} {v : Int} : ju (ob m F) 41 (.int (zI v)) = ob m (fset F 41 v) := (ju_jL (Nat.le_of_ble_eq_true rfl)).trans rfl
theorem obs_42 {m : Nat} {F : Int → Int} {v : Int} : ju (ob m F) 42 (.int (zI v)) = ob m (fset F 42 v) := (ju_jL (Nat.le_of_ble_eq_true rfl)).trans rfl
theorem obs_44 {m : Nat} {F : Int → Int} {v : Int} : ju (ob m F) 44 (.int (zI v)) = ob m (fset F 44 v) := (ju_jL (Nat.le_of_ble_eq_true rfl)).trans rfl
theorem obs_48 {m : Nat} {F : Int → Int} {v : Int} : ju (ob m F) 48 (.int (zI v)) = ob m (fset F 48 v) := (ju_jL (Nat.le_of_ble_eq_true rfl)).trans rfl
theorem obs_50 {m : Nat} {F : Int → Int} {v : Int} : ju (ob m F) 50 (.int (zI v)) = ob m (fset F 50 v) := (ju_jL (Nat.le_of_ble_eq_true rfl)).trans rfl
theorem obs_51 {m : Nat} {F : Int → Int} {v : Int} : ju (ob m F) 51 (.int (zI v)) = ob m (fset F 51 v) := (ju_jL (Nat.le_of_ble_eq_true rfl)).trans rfl
theorem obs_52 {m : Nat} {F : Int → Int} {v : Int} : ju (ob m F) 52 (.int (zI v)) = ob m (fset F 52 v) := (ju_jL (Nat.le_of_ble_eq_true rfl)).trans rfl
theorem obs_55 {m : Nat} {F : Int → Int} {v : Int} : ju (ob m F) 55 (.int (zI v)) = ob m (fset F 55 v) := (ju_jL (Nat.le_of_ble_eq_true rfl)).trans rfl
theorem obs_57 {m : Nat} {F : Int → Int} {v : Int} : ju (ob m F) 57 (.int (zI v)) = ob m (fset F 57 v) := (ju_jL (Nat.le_of_ble_eq_true rfl)).trans rfl
theorem obs_58 {m : Nat} {F : Int → Int} {v : Int} : ju (ob m F) 58 (.int (zI v)) = ob m (fset F 58 v) := (ju_jL (Nat.le_of_ble_eq_true rfl)).trans rfl
theorem obs_59 {m : Nat} {F : Int → Int} {v : Int} : ju (ob m F) 59 (.int (zI v)) = ob m (fset F 59 v) := (ju_jL (Nat.le_of_ble_eq_true rfl)).trans rfl
theorem obs_60 {m : Nat} {F : Int → Int} {v : Int} : ju (ob m F) 60 (.int (zI v)) = ob m (fset F 60 v) := (ju_jL (Nat.le_of_ble_eq_true rfl)).trans rfl
theorem obs_61 {m : Nat} {F : Int → Int} {v : Int} : ju (ob m F) 61 (.int (zI v)) = ob m (fset F 61 v) := (ju_jL (Nat.le_of_ble_eq_true rfl)).trans rfl
def twL : List (Nat × Nat) := [(7, 66), (1010, 940), (1000, 1420), (1000, 148), (1000, 135), (1000, 800), (1030, 40), (1030, 29), (1000, 960), (1000, 960), (1000, 960), (1000, 396), (1000, 594), (1000, 99), (1000, 1091), (1000, 4), (1000, 99), (1000, 960), (1000, 960), (1000, 960), (1000, 8728), (1000, 1091), (1000, 4), (1000, 4), (1010, 30), (1000, 4), (1000, 1091), (1000, 45), (1020, 45), (1000, 2840), (1030, 40), (1020, 2)]
def twE (m k : Nat) (F : Int → Int) : Nat → Value := if k = 0 then ob m F else if k = 6 ∨ k = 7 ∨ k = 30 then aJ F else aI F
def twc (m k : Nat) (F : Int → Int) : Cl := ((twL.getD k (0, 0)).1, (twL.getD k (0, 0)).2, twE m k F)
def tw (m : Nat) (T : Nat → Int → Int) (h : AH) : AH := (h.1, h.2.1, h.2.2.1, fun q => if m ≤ q ∧ q < m + 32 then some (twc m (q - m) (T (q - m))) else h.2.2.2 q)
theorem tw_at {m k : Nat} {T : Nat → Int → Int} {h : AH} (hk : Nat.blt k 32 = true) : jm (tw m T h) (m + k) = some (twc m k (T k)) := by
  have hk2 : k < 32 := Nat.le_of_ble_eq_true hk
  simp only [jm, tw]
  rw [if_pos (by omega), show m + k - m = k by omega]
theorem tw_out {m q : Nat} {T : Nat → Int → Int} {h : AH} (hq : q < m ∨ m + 32 ≤ q) : jm (tw m T h) q = jm h q := by
  simp only [jm, tw]
  rw [if_neg (by omega)]
theorem tw_jset {m k : Nat} {T : Nat → Int → Int} {g : Int → Int} {h : AH} (hk : Nat.blt k 32 = true) : jset (tw m T h) (m + k) (twc m k g) = tw m (tg T k g) h := by
  have hk2 : k < 32 := Nat.le_of_ble_eq_true hk
  simp only [jset, tw]
  congr 3
  funext q
  by_cases hq : q = m + k
  · subst hq
    rw [if_pos rfl, if_pos (by omega), show m + k - m = k by omega, tg_eq]
  · rw [if_neg hq]
    by_cases hm : m ≤ q ∧ q < m + 32
    · rw [if_pos hm, if_pos hm, tg_ne (by omega)]
    · rw [if_neg hm, if_neg hm]
theorem tw_0 {m : Nat} {T : Nat → Int → Int} {h : AH} : jm (tw m T h) m = some (7, 66, ob m (T 0)) := tw_at (k := 0) rfl
theorem tws_0 {m : Nat} {T : Nat → Int → Int} {g : Int → Int} {h : AH} : jset (tw m T h) m (7, 66, ob m g) = tw m (tg T 0 g) h := tw_jset (k := 0) rfl
theorem tw_1 {m : Nat} {T : Nat → Int → Int} {h : AH} : jm (tw m T h) (m + 1) = some (1010, 940, aI (T 1)) := tw_at (k := 1) rfl
theorem tws_1 {m : Nat} {T : Nat → Int → Int} {g : Int → Int} {h : AH} : jset (tw m T h) (m + 1) (1010, 940, aI g) = tw m (tg T 1 g) h := tw_jset (k := 1) rfl
theorem tw_2 {m : Nat} {T : Nat → Int → Int} {h : AH} : jm (tw m T h) (m + 2) = some (1000, 1420, aI (T 2)) := tw_at (k := 2) rfl
theorem tws_2 {m : Nat} {T : Nat → Int → Int} {g : Int → Int} {h : AH} : jset (tw m T h) (m + 2) (1000, 1420, aI g) = tw m (tg T 2 g) h := tw_jset (k := 2) rfl
theorem tw_3 {m : Nat} {T : Nat → Int → Int} {h : AH} : jm (tw m T h) (m + 3) = some (1000, 148, aI (T 3)) := tw_at (k := 3) rfl
theorem tws_3 {m : Nat} {T : Nat → Int → Int} {g : Int → Int} {h : AH} : jset (tw m T h) (m + 3) (1000, 148, aI g) = tw m (tg T 3 g) h := tw_jset (k := 3) rfl
theorem tw_4 {m : Nat} {T : Nat → Int → Int} {h : AH} : jm (tw m T h) (m + 4) = some (1000, 135, aI (T 4)) := tw_at (k := 4) rfl
theorem tws_4 {m : Nat} {T : Nat → Int → Int} {g : Int → Int} {h : AH} : jset (tw m T h) (m + 4) (1000, 135, aI g) = tw m (tg T 4 g) h := tw_jset (k := 4) rfl
theorem tw_5 {m : Nat} {T : Nat → Int → Int} {h : AH} : jm (tw m T h) (m + 5) = some (1000, 800, aI (T 5)) := tw_at (k := 5) rfl
theorem tws_5 {m : Nat} {T : Nat → Int → Int} {g : Int → Int} {h : AH} : jset (tw m T h) (m + 5) (1000, 800, aI g) = tw m (tg T 5 g) h := tw_jset (k := 5) rfl
theorem tw_6 {m : Nat} {T : Nat → Int → Int} {h : AH} : jm (tw m T h) (m + 6) = some (1030, 40, aJ (T 6)) := tw_at (k := 6) rfl
theorem tws_6 {m : Nat} {T : Nat → Int → Int} {g : Int → Int} {h : AH} : jset (tw m T h) (m + 6) (1030, 40, aJ g) = tw m (tg T 6 g) h := tw_jset (k := 6) rfl
theorem tw_7 {m : Nat} {T : Nat → Int → Int} {h : AH} : jm (tw m T h) (m + 7) = some (1030, 29, aJ (T 7)) := tw_at (k := 7) rfl
theorem tws_7 {m : Nat} {T : Nat → Int → Int} {g : Int → Int} {h : AH} : jset (tw m T h) (m + 7) (1030, 29, aJ g) = tw m (tg T 7 g) h := tw_jset (k := 7) rfl
theorem tw_8 {m : Nat} {T : Nat → Int → Int} {h : AH} : jm (tw m T h) (m + 8) = some (1000, 960, aI (T 8)) := tw_at (k := 8) rfl
theorem tws_8 {m : Nat} {T : Nat → Int → Int} {g : Int → Int} {h : AH} : jset (tw m T h) (m + 8) (1000, 960, aI g) = tw m (tg T 8 g) h := tw_jset (k := 8) rfl
theorem tw_9 {m : Nat} {T : Nat → Int → Int} {h : AH} : jm (tw m T h) (m + 9) = some (1000, 960, aI (T 9)) := tw_at (k := 9) rfl
theorem tws_9 {m : Nat} {T : Nat → Int → Int} {g : Int → Int} {h : AH} : jset (tw m T h) (m + 9) (1000, 960, aI g) = tw m (tg T 9 g) h := tw_jset (k := 9) rfl
theorem tw_10 {m : Nat} {T : Nat → Int → Int} {h : AH} : jm (tw m T h) (m + 10) = some (1000, 960, aI (T 10)) := tw_at (k := 10) rfl
theorem tws_10 {m : Nat} {T : Nat → Int → Int} {g : Int → Int} {h : AH} : jset (tw m T h) (m + 10) (1000, 960, aI g) = tw m (tg T 10 g) h := tw_jset (k := 10) rfl
theorem tw_11 {m : Nat} {T : Nat → Int → Int} {h : AH} : jm (tw m T h) (m + 11) = some (1000, 396, aI (T 11)) := tw_at (k := 11) rfl
theorem tws_11 {m : Nat} {T : Nat → Int → Int} {g : Int → Int} {h : AH} : jset (tw m T h) (m + 11) (1000, 396, aI g) = tw m (tg T 11 g) h := tw_jset (k := 11) rfl
theorem tw_12 {m : Nat} {T : Nat → Int → Int} {h : AH} : jm (tw m T h) (m + 12) = some (1000, 594, aI (T 12)) := tw_at (k := 12) rfl
theorem tws_12 {m : Nat} {T : Nat → Int → Int} {g : Int → Int} {h : AH} : jset (tw m T h) (m + 12) (1000, 594, aI g) = tw m (tg T 12 g) h := tw_jset (k := 12) rfl
theorem tw_13 {m : Nat} {T : Nat → Int → Int} {h : AH} : jm (tw m T h) (m + 13) = some (1000, 99, aI (T 13)) := tw_at (k := 13) rfl
theorem tws_13 {m : Nat} {T : Nat → Int → Int} {g : Int → Int} {h : AH} : jset (tw m T h) (m + 13) (1000, 99, aI g) = tw m (tg T 13 g) h := tw_jset (k := 13) rfl
theorem tw_14 {m : Nat} {T : Nat → Int → Int} {h : AH} : jm (tw m T h) (m + 14) = some (1000, 1091, aI (T 14)) := tw_at (k := 14) rfl
theorem tws_14 {m : Nat} {T : Nat → Int → Int} {g : Int → Int} {h : AH} : jset (tw m T h) (m + 14) (1000, 1091, aI g) = tw m (tg T 14 g) h := tw_jset (k := 14) rfl
theorem tw_15 {m : Nat} {T : Nat → Int → Int} {h : AH} : jm (tw m T h) (m + 15) = some (1000, 4, aI (T 15)) := tw_at (k := 15) rfl
theorem tws_15 {m : Nat} {T : Nat → Int → Int} {g : Int → Int} {h : AH} : jset (tw m T h) (m + 15) (1000, 4, aI g) = tw m (tg T 15 g) h := tw_jset (k := 15) rfl
theorem tw_16 {m : Nat} {T : Nat → Int → Int} {h : AH} : jm (tw m T h) (m + 16) = some (1000, 99, aI (T 16)) := tw_at (k := 16) rfl
theorem tws_16 {m : Nat} {T : Nat → Int → Int} {g : Int → Int} {h : AH} : jset (tw m T h) (m + 16) (1000, 99, aI g) = tw m (tg T 16 g) h := tw_jset (k := 16) rfl
theorem tw_17 {m : Nat} {T : Nat → Int → Int} {h : AH} : jm (tw m T h) (m + 17) = some (1000, 960, aI (T 17)) := tw_at (k := 17) rfl
theorem tws_17 {m : Nat} {T : Nat → Int → Int} {g : Int → Int} {h : AH} : jset (tw m T h) (m + 17) (1000, 960, aI g) = tw m (tg T 17 g) h := tw_jset (k := 17) rfl
theorem tw_18 {m : Nat} {T : Nat → Int → Int} {h : AH} : jm (tw m T h) (m + 18) = some (1000, 960, aI (T 18)) := tw_at (k := 18) rfl
theorem tws_18 {m : Nat} {T : Nat → Int → Int} {g : Int → Int} {h : AH} : jset (tw m T h) (m + 18) (1000, 960, aI g) = tw m (tg T 18 g) h := tw_jset (k := 18) rfl
theorem tw_19 {m : Nat} {T : Nat → Int → Int} {h : AH} : jm (tw m T h) (m + 19) = some (1000, 960, aI (T 19)) := tw_at (k := 19) rfl
theorem tws_19 {m : Nat} {T : Nat → Int → Int} {g : Int → Int} {h : AH} : jset (tw m T h) (m + 19) (1000, 960, aI g) = tw m (tg T 19 g) h := tw_jset (k := 19) rfl
theorem tw_20 {m : Nat} {T : Nat → Int → Int} {h : AH} : jm (tw m T h) (m + 20) = some (1000, 8728, aI (T 20)) := tw_at (k := 20) rfl
theorem tws_20 {m : Nat} {T : Nat → Int → Int} {g : Int → Int} {h : AH} : jset (tw m T h) (m + 20) (1000, 8728, aI g) = tw m (tg T 20 g) h := tw_jset (k := 20) rfl
theorem tw_21 {m : Nat} {T : Nat → Int → Int} {h : AH} : jm (tw m T h) (m + 21) = some (1000, 1091, aI (T 21)) := tw_at (k := 21) rfl
theorem tws_21 {m : Nat} {T : Nat → Int → Int} {g : Int → Int} {h : AH} : jset (tw m T h) (m + 21) (1000, 1091, aI g) = tw m (tg T 21 g) h := tw_jset (k := 21) rfl
theorem tw_22 {m : Nat} {T : Nat → Int → Int} {h : AH} : jm (tw m T h) (m + 22) = some (1000, 4, aI (T 22)) := tw_at (k := 22) rfl
theorem tws_22 {m : Nat} {T : Nat → Int → Int} {g : Int → Int} {h : AH} : jset (tw m T h) (m + 22) (1000, 4, aI g) = tw m (tg T 22 g) h := tw_jset (k := 22) rfl
theorem tw_23 {m : Nat} {T : Nat → Int → Int} {h : AH} : jm (tw m T h) (m + 23) = some (1000, 4, aI (T 23)) := tw_at (k := 23) rfl
theorem tws_23 {m : Nat} {T : Nat → Int → Int} {g : Int → Int} {h : AH} : jset (tw m T h) (m + 23) (1000, 4, aI g) = tw m (tg T 23 g) h := tw_jset (k := 23) rfl
theorem tw_24 {m : Nat} {T : Nat → Int → Int} {h : AH} : jm (tw m T h) (m + 24) = some (1010, 30, aI (T 24)) := tw_at (k := 24) rfl
theorem tws_24 {m : Nat} {T : Nat → Int → Int} {g : Int → Int} {h : AH} : jset (tw m T h) (m + 24) (1010, 30, aI g) = tw m (tg T 24 g) h := tw_jset (k := 24) rfl
theorem tw_25 {m : Nat} {T : Nat → Int → Int} {h : AH} : jm (tw m T h) (m + 25) = some (1000, 4, aI (T 25)) := tw_at (k := 25) rfl
theorem tws_25 {m : Nat} {T : Nat → Int → Int} {g : Int → Int} {h : AH} : jset (tw m T h) (m + 25) (1000, 4, aI g) = tw m (tg T 25 g) h := tw_jset (k := 25) rfl
theorem tw_26 {m : Nat} {T : Nat → Int → Int} {h : AH} : jm (tw m T h) (m + 26) = some (1000, 1091, aI (T 26)) := tw_at (k := 26) rfl
theorem tws_26 {m : Nat} {T : Nat → Int → Int} {g : Int → Int} {h : AH} : jset (tw m T h) (m + 26) (1000, 1091, aI g) = tw m (tg T 26 g) h := tw_jset (k := 26) rfl
theorem tw_27 {m : Nat} {T : Nat → Int → Int} {h : AH} : jm (tw m T h) (m + 27) = some (1000, 45, aI (T 27)) := tw_at (k := 27) rfl
theorem tws_27 {m : Nat} {T : Nat → Int → Int} {g : Int → Int} {h : AH} : jset (tw m T h) (m + 27) (1000, 45, aI g) = tw m (tg T 27 g) h := tw_jset (k := 27) rfl
theorem tw_28 {m : Nat} {T : Nat → Int → Int} {h : AH} : jm (tw m T h) (m + 28) = some (1020, 45, aI (T 28)) := tw_at (k := 28) rfl
theorem tws_28 {m : Nat} {T : Nat → Int → Int} {g : Int → Int} {h : AH} : jset (tw m T h) (m + 28) (1020, 45, aI g) = tw m (tg T 28 g) h := tw_jset (k := 28) rfl
theorem tw_29 {m : Nat} {T : Nat → Int → Int} {h : AH} : jm (tw m T h) (m + 29) = some (1000, 2840, aI (T 29)) := tw_at (k := 29) rfl
theorem tws_29 {m : Nat} {T : Nat → Int → Int} {g : Int → Int} {h : AH} : jset (tw m T h) (m + 29) (1000, 2840, aI g) = tw m (tg T 29 g) h := tw_jset (k := 29) rfl
theorem tw_30 {m : Nat} {T : Nat → Int → Int} {h : AH} : jm (tw m T h) (m + 30) = some (1030, 40, aJ (T 30)) := tw_at (k := 30) rfl
theorem tws_30 {m : Nat} {T : Nat → Int → Int} {g : Int → Int} {h : AH} : jset (tw m T h) (m + 30) (1030, 40, aJ g) = tw m (tg T 30 g) h := tw_jset (k := 30) rfl
theorem tw_31 {m : Nat} {T : Nat → Int → Int} {h : AH} : jm (tw m T h) (m + 31) = some (1020, 2, aI (T 31)) := tw_at (k := 31) rfl
theorem tws_31 {m : Nat} {T : Nat → Int → Int} {g : Int → Int} {h : AH} : jset (tw m T h) (m + 31) (1020, 2, aI g) = tw m (tg T 31 g) h := tw_jset (k := 31) rfl
theorem tw_recv {y m : Nat} {T : Nat → Int → Int} {h : AH} {as : List Value} (hy : (jtRecv y).elem 7 = true) : jrecv y (.ref m :: as) (tw m T h) = true := jrecv_in tw_0 hy
theorem je_tw {m : Nat} {T : Nat → Int → Int} {h : AH} : je (tw m T h) = je h := rfl
theorem jn_tw {m : Nat} {T : Nat → Int → Int} {h : AH} : jn (tw m T h) = jn h := rfl
theorem jsl_tw {m : Nat} {T : Nat → Int → Int} {h : AH} : jsl (tw m T h) = jsl h := rfl
