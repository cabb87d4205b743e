/-! the forms of objects (written by tools/objs.py): a number as a whole number, a reference as a value -/
/-- FollowingRefs: tape taped fault schema now trial plan side sentence before befores verdict violated order tag seed told kept -/
def o2 (x0 : Value) (x1 : Int) (x2 : Int) (x3 : Value) (x4 : Value) (x5 : Value) (x6 : Value) (x7 : Value) (x8 : Value) (x9 : Value) (x10 : Int) (x11 : Value) (x12 : Value) (x13 : Value) (x14 : Value) (x15 : Int) (x16 : Value) (x17 : Value) : Nat → Value := jL [x0, .int (zI x1), .int (zI x2), x3, x4, x5, x6, x7, x8, x9, .int (zI x10), x11, x12, x13, x14, .int (zI x15), x16, x17]
section
variable {x0 : Value} {x1 : Int} {x2 : Int} {x3 : Value} {x4 : Value} {x5 : Value} {x6 : Value} {x7 : Value} {x8 : Value} {x9 : Value} {x10 : Int} {x11 : Value} {x12 : Value} {x13 : Value} {x14 : Value} {x15 : Int} {x16 : Value} {x17 : Value} {y : Int} {w : Value}
theorem o2_0 : (o2 x0 x1 x2 x3 x4 x5 x6 x7 x8 x9 x10 x11 x12 x13 x14 x15 x16 x17) 0 = x0 := rfl
theorem o2s_0 : ju (o2 x0 x1 x2 x3 x4 x5 x6 x7 x8 x9 x10 x11 x12 x13 x14 x15 x16 x17) 0 (w) = o2 w x1 x2 x3 x4 x5 x6 x7 x8 x9 x10 x11 x12 x13 x14 x15 x16 x17 := (ju_jL (Nat.le_of_ble_eq_true rfl)).trans rfl
theorem o2_1 : (o2 x0 x1 x2 x3 x4 x5 x6 x7 x8 x9 x10 x11 x12 x13 x14 x15 x16 x17) 1 = .int (zI x1) := rfl
theorem o2s_1 : ju (o2 x0 x1 x2 x3 x4 x5 x6 x7 x8 x9 x10 x11 x12 x13 x14 x15 x16 x17) 1 (.int (zI y)) = o2 x0 y x2 x3 x4 x5 x6 x7 x8 x9 x10 x11 x12 x13 x14 x15 x16 x17 := (ju_jL (Nat.le_of_ble_eq_true rfl)).trans rfl
theorem o2_2 : (o2 x0 x1 x2 x3 x4 x5 x6 x7 x8 x9 x10 x11 x12 x13 x14 x15 x16 x17) 2 = .int (zI x2) := rfl
theorem o2s_2 : ju (o2 x0 x1 x2 x3 x4 x5 x6 x7 x8 x9 x10 x11 x12 x13 x14 x15 x16 x17) 2 (.int (zI y)) = o2 x0 x1 y x3 x4 x5 x6 x7 x8 x9 x10 x11 x12 x13 x14 x15 x16 x17 := (ju_jL (Nat.le_of_ble_eq_true rfl)).trans rfl
theorem o2_3 : (o2 x0 x1 x2 x3 x4 x5 x6 x7 x8 x9 x10 x11 x12 x13 x14 x15 x16 x17) 3 = x3 := rfl
theorem o2s_3 : ju (o2 x0 x1 x2 x3 x4 x5 x6 x7 x8 x9 x10 x11 x12 x13 x14 x15 x16 x17) 3 (w) = o2 x0 x1 x2 w x4 x5 x6 x7 x8 x9 x10 x11 x12 x13 x14 x15 x16 x17 := (ju_jL (Nat.le_of_ble_eq_true rfl)).trans rfl
theorem o2_4 : (o2 x0 x1 x2 x3 x4 x5 x6 x7 x8 x9 x10 x11 x12 x13 x14 x15 x16 x17) 4 = x4 := rfl
theorem o2s_4 : ju (o2 x0 x1 x2 x3 x4 x5 x6 x7 x8 x9 x10 x11 x12 x13 x14 x15 x16 x17) 4 (w) = o2 x0 x1 x2 x3 w x5 x6 x7 x8 x9 x10 x11 x12 x13 x14 x15 x16 x17 := (ju_jL (Nat.le_of_ble_eq_true rfl)).trans rfl
theorem o2_5 : (o2 x0 x1 x2 x3 x4 x5 x6 x7 x8 x9 x10 x11 x12 x13 x14 x15 x16 x17) 5 = x5 := rfl
theorem o2s_5 : ju (o2 x0 x1 x2 x3 x4 x5 x6 x7 x8 x9 x10 x11 x12 x13 x14 x15 x16 x17) 5 (w) = o2 x0 x1 x2 x3 x4 w x6 x7 x8 x9 x10 x11 x12 x13 x14 x15 x16 x17 := (ju_jL (Nat.le_of_ble_eq_true rfl)).trans rfl
theorem o2_6 : (o2 x0 x1 x2 x3 x4 x5 x6 x7 x8 x9 x10 x11 x12 x13 x14 x15 x16 x17) 6 = x6 := rfl
theorem o2s_6 : ju (o2 x0 x1 x2 x3 x4 x5 x6 x7 x8 x9 x10 x11 x12 x13 x14 x15 x16 x17) 6 (w) = o2 x0 x1 x2 x3 x4 x5 w x7 x8 x9 x10 x11 x12 x13 x14 x15 x16 x17 := (ju_jL (Nat.le_of_ble_eq_true rfl)).trans rfl
theorem o2_7 : (o2 x0 x1 x2 x3 x4 x5 x6 x7 x8 x9 x10 x11 x12 x13 x14 x15 x16 x17) 7 = x7 := rfl
theorem o2s_7 : ju (o2 x0 x1 x2 x3 x4 x5 x6 x7 x8 x9 x10 x11 x12 x13 x14 x15 x16 x17) 7 (w) = o2 x0 x1 x2 x3 x4 x5 x6 w x8 x9 x10 x11 x12 x13 x14 x15 x16 x17 := (ju_jL (Nat.le_of_ble_eq_true rfl)).trans rfl
theorem o2_8 : (o2 x0 x1 x2 x3 x4 x5 x6 x7 x8 x9 x10 x11 x12 x13 x14 x15 x16 x17) 8 = x8 := rfl
theorem o2s_8 : ju (o2 x0 x1 x2 x3 x4 x5 x6 x7 x8 x9 x10 x11 x12 x13 x14 x15 x16 x17) 8 (w) = o2 x0 x1 x2 x3 x4 x5 x6 x7 w x9 x10 x11 x12 x13 x14 x15 x16 x17 := (ju_jL (Nat.le_of_ble_eq_true rfl)).trans rfl
theorem o2_9 : (o2 x0 x1 x2 x3 x4 x5 x6 x7 x8 x9 x10 x11 x12 x13 x14 x15 x16 x17) 9 = x9 := rfl
theorem o2s_9 : ju (o2 x0 x1 x2 x3 x4 x5 x6 x7 x8 x9 x10 x11 x12 x13 x14 x15 x16 x17) 9 (w) = o2 x0 x1 x2 x3 x4 x5 x6 x7 x8 w x10 x11 x12 x13 x14 x15 x16 x17 := (ju_jL (Nat.le_of_ble_eq_true rfl)).trans rfl
theorem o2_10 : (o2 x0 x1 x2 x3 x4 x5 x6 x7 x8 x9 x10 x11 x12 x13 x14 x15 x16 x17) 10 = .int (zI x10) := rfl
theorem o2s_10 : ju (o2 x0 x1 x2 x3 x4 x5 x6 x7 x8 x9 x10 x11 x12 x13 x14 x15 x16 x17) 10 (.int (zI y)) = o2 x0 x1 x2 x3 x4 x5 x6 x7 x8 x9 y x11 x12 x13 x14 x15 x16 x17 := (ju_jL (Nat.le_of_ble_eq_true rfl)).trans rfl
theorem o2_11 : (o2 x0 x1 x2 x3 x4 x5 x6 x7 x8 x9 x10 x11 x12 x13 x14 x15 x16 x17) 11 = x11 := rfl
theorem o2s_11 : ju (o2 x0 x1 x2 x3 x4 x5 x6 x7 x8 x9 x10 x11 x12 x13 x14 x15 x16 x17) 11 (w) = o2 x0 x1 x2 x3 x4 x5 x6 x7 x8 x9 x10 w x12 x13 x14 x15 x16 x17 := (ju_jL (Nat.le_of_ble_eq_true rfl)).trans rfl
theorem o2_12 : (o2 x0 x1 x2 x3 x4 x5 x6 x7 x8 x9 x10 x11 x12 x13 x14 x15 x16 x17) 12 = x12 := rfl
theorem o2s_12 : ju (o2 x0 x1 x2 x3 x4 x5 x6 x7 x8 x9 x10 x11 x12 x13 x14 x15 x16 x17) 12 (w) = o2 x0 x1 x2 x3 x4 x5 x6 x7 x8 x9 x10 x11 w x13 x14 x15 x16 x17 := (ju_jL (Nat.le_of_ble_eq_true rfl)).trans rfl
theorem o2_13 : (o2 x0 x1 x2 x3 x4 x5 x6 x7 x8 x9 x10 x11 x12 x13 x14 x15 x16 x17) 13 = x13 := rfl
theorem o2s_13 : ju (o2 x0 x1 x2 x3 x4 x5 x6 x7 x8 x9 x10 x11 x12 x13 x14 x15 x16 x17) 13 (w) = o2 x0 x1 x2 x3 x4 x5 x6 x7 x8 x9 x10 x11 x12 w x14 x15 x16 x17 := (ju_jL (Nat.le_of_ble_eq_true rfl)).trans rfl
theorem o2_14 : (o2 x0 x1 x2 x3 x4 x5 x6 x7 x8 x9 x10 x11 x12 x13 x14 x15 x16 x17) 14 = x14 := rfl
theorem o2s_14 : ju (o2 x0 x1 x2 x3 x4 x5 x6 x7 x8 x9 x10 x11 x12 x13 x14 x15 x16 x17) 14 (w) = o2 x0 x1 x2 x3 x4 x5 x6 x7 x8 x9 x10 x11 x12 x13 w x15 x16 x17 := (ju_jL (Nat.le_of_ble_eq_true rfl)).trans rfl
theorem o2_15 : (o2 x0 x1 x2 x3 x4 x5 x6 x7 x8 x9 x10 x11 x12 x13 x14 x15 x16 x17) 15 = .int (zI x15) := rfl
theorem o2s_15 : ju (o2 x0 x1 x2 x3 x4 x5 x6 x7 x8 x9 x10 x11 x12 x13 x14 x15 x16 x17) 15 (.int (zI y)) = o2 x0 x1 x2 x3 x4 x5 x6 x7 x8 x9 x10 x11 x12 x13 x14 y x16 x17 := (ju_jL (Nat.le_of_ble_eq_true rfl)).trans rfl
theorem o2_16 : (o2 x0 x1 x2 x3 x4 x5 x6 x7 x8 x9 x10 x11 x12 x13 x14 x15 x16 x17) 16 = x16 := rfl
theorem o2s_16 : ju (o2 x0 x1 x2 x3 x4 x5 x6 x7 x8 x9 x10 x11 x12 x13 x14 x15 x16 x17) 16 (w) = o2 x0 x1 x2 x3 x4 x5 x6 x7 x8 x9 x10 x11 x12 x13 x14 x15 w x17 := (ju_jL (Nat.le_of_ble_eq_true rfl)).trans rfl
theorem o2_17 : (o2 x0 x1 x2 x3 x4 x5 x6 x7 x8 x9 x10 x11 x12 x13 x14 x15 x16 x17) 17 = x17 := rfl
theorem o2s_17 : ju (o2 x0 x1 x2 x3 x4 x5 x6 x7 x8 x9 x10 x11 x12 x13 x14 x15 x16 x17) 17 (w) = o2 x0 x1 x2 x3 x4 x5 x6 x7 x8 x9 x10 x11 x12 x13 x14 x15 x16 w := (ju_jL (Nat.le_of_ble_eq_true rfl)).trans rfl
end
theorem n2 : jL [.null, .int (zI 0), .int (zI 0), .null, .null, .null, .null, .null, .null, .null, .int (zI 0), .null, .null, .null, .null, .int (zI 0), .null, .null] = o2 .null 0 0 .null .null .null .null .null .null .null 0 .null .null .null .null 0 .null .null := rfl
/-- FollowingRefs$Schema: lines tables keys refs checks -/
def o3 (x0 : Int) (x1 : Value) (x2 : Value) (x3 : Value) (x4 : Value) : Nat → Value := jL [.int (zI x0), x1, x2, x3, x4]
section
variable {x0 : Int} {x1 : Value} {x2 : Value} {x3 : Value} {x4 : Value} {y : Int} {w : Value}
theorem o3_0 : (o3 x0 x1 x2 x3 x4) 0 = .int (zI x0) := rfl
theorem o3s_0 : ju (o3 x0 x1 x2 x3 x4) 0 (.int (zI y)) = o3 y x1 x2 x3 x4 := (ju_jL (Nat.le_of_ble_eq_true rfl)).trans rfl
theorem o3_1 : (o3 x0 x1 x2 x3 x4) 1 = x1 := rfl
theorem o3s_1 : ju (o3 x0 x1 x2 x3 x4) 1 (w) = o3 x0 w x2 x3 x4 := (ju_jL (Nat.le_of_ble_eq_true rfl)).trans rfl
theorem o3_2 : (o3 x0 x1 x2 x3 x4) 2 = x2 := rfl
theorem o3s_2 : ju (o3 x0 x1 x2 x3 x4) 2 (w) = o3 x0 x1 w x3 x4 := (ju_jL (Nat.le_of_ble_eq_true rfl)).trans rfl
theorem o3_3 : (o3 x0 x1 x2 x3 x4) 3 = x3 := rfl
theorem o3s_3 : ju (o3 x0 x1 x2 x3 x4) 3 (w) = o3 x0 x1 x2 w x4 := (ju_jL (Nat.le_of_ble_eq_true rfl)).trans rfl
theorem o3_4 : (o3 x0 x1 x2 x3 x4) 4 = x4 := rfl
theorem o3s_4 : ju (o3 x0 x1 x2 x3 x4) 4 (w) = o3 x0 x1 x2 x3 w := (ju_jL (Nat.le_of_ble_eq_true rfl)).trans rfl
end
theorem n3 : jL [.int (zI 0), .null, .null, .null, .null] = o3 0 .null .null .null .null := rfl
/-- FollowingRefs$Store: s inserted isOn rows ahead was broken -/
def o4 (x0 : Value) (x1 : Int) (x2 : Int) (x3 : Value) (x4 : Value) (x5 : Value) (x6 : Value) : Nat → Value := jL [x0, .int (zI x1), .int (zI x2), x3, x4, x5, x6]
section
variable {x0 : Value} {x1 : Int} {x2 : Int} {x3 : Value} {x4 : Value} {x5 : Value} {x6 : Value} {y : Int} {w : Value}
theorem o4_0 : (o4 x0 x1 x2 x3 x4 x5 x6) 0 = x0 := rfl
theorem o4s_0 : ju (o4 x0 x1 x2 x3 x4 x5 x6) 0 (w) = o4 w x1 x2 x3 x4 x5 x6 := (ju_jL (Nat.le_of_ble_eq_true rfl)).trans rfl
theorem o4_1 : (o4 x0 x1 x2 x3 x4 x5 x6) 1 = .int (zI x1) := rfl
theorem o4s_1 : ju (o4 x0 x1 x2 x3 x4 x5 x6) 1 (.int (zI y)) = o4 x0 y x2 x3 x4 x5 x6 := (ju_jL (Nat.le_of_ble_eq_true rfl)).trans rfl
theorem o4_2 : (o4 x0 x1 x2 x3 x4 x5 x6) 2 = .int (zI x2) := rfl
theorem o4s_2 : ju (o4 x0 x1 x2 x3 x4 x5 x6) 2 (.int (zI y)) = o4 x0 x1 y x3 x4 x5 x6 := (ju_jL (Nat.le_of_ble_eq_true rfl)).trans rfl
theorem o4_3 : (o4 x0 x1 x2 x3 x4 x5 x6) 3 = x3 := rfl
theorem o4s_3 : ju (o4 x0 x1 x2 x3 x4 x5 x6) 3 (w) = o4 x0 x1 x2 w x4 x5 x6 := (ju_jL (Nat.le_of_ble_eq_true rfl)).trans rfl
theorem o4_4 : (o4 x0 x1 x2 x3 x4 x5 x6) 4 = x4 := rfl
theorem o4s_4 : ju (o4 x0 x1 x2 x3 x4 x5 x6) 4 (w) = o4 x0 x1 x2 x3 w x5 x6 := (ju_jL (Nat.le_of_ble_eq_true rfl)).trans rfl
theorem o4_5 : (o4 x0 x1 x2 x3 x4 x5 x6) 5 = x5 := rfl
theorem o4s_5 : ju (o4 x0 x1 x2 x3 x4 x5 x6) 5 (w) = o4 x0 x1 x2 x3 x4 w x6 := (ju_jL (Nat.le_of_ble_eq_true rfl)).trans rfl
theorem o4_6 : (o4 x0 x1 x2 x3 x4 x5 x6) 6 = x6 := rfl
theorem o4s_6 : ju (o4 x0 x1 x2 x3 x4 x5 x6) 6 (w) = o4 x0 x1 x2 x3 x4 x5 w := (ju_jL (Nat.le_of_ble_eq_true rfl)).trans rfl
end
theorem n4 : jL [.null, .int (zI 0), .int (zI 0), .null, .null, .null, .null] = o4 .null 0 0 .null .null .null .null := rfl
/-- FollowingRefs$Plan: st going wanted steps clashes isMore -/
def o5 (x0 : Value) (x1 : Value) (x2 : Value) (x3 : Value) (x4 : Int) (x5 : Int) : Nat → Value := jL [x0, x1, x2, x3, .int (zI x4), .int (zI x5)]
section
variable {x0 : Value} {x1 : Value} {x2 : Value} {x3 : Value} {x4 : Int} {x5 : Int} {y : Int} {w : Value}
theorem o5_0 : (o5 x0 x1 x2 x3 x4 x5) 0 = x0 := rfl
theorem o5s_0 : ju (o5 x0 x1 x2 x3 x4 x5) 0 (w) = o5 w x1 x2 x3 x4 x5 := (ju_jL (Nat.le_of_ble_eq_true rfl)).trans rfl
theorem o5_1 : (o5 x0 x1 x2 x3 x4 x5) 1 = x1 := rfl
theorem o5s_1 : ju (o5 x0 x1 x2 x3 x4 x5) 1 (w) = o5 x0 w x2 x3 x4 x5 := (ju_jL (Nat.le_of_ble_eq_true rfl)).trans rfl
theorem o5_2 : (o5 x0 x1 x2 x3 x4 x5) 2 = x2 := rfl
theorem o5s_2 : ju (o5 x0 x1 x2 x3 x4 x5) 2 (w) = o5 x0 x1 w x3 x4 x5 := (ju_jL (Nat.le_of_ble_eq_true rfl)).trans rfl
theorem o5_3 : (o5 x0 x1 x2 x3 x4 x5) 3 = x3 := rfl
theorem o5s_3 : ju (o5 x0 x1 x2 x3 x4 x5) 3 (w) = o5 x0 x1 x2 w x4 x5 := (ju_jL (Nat.le_of_ble_eq_true rfl)).trans rfl
theorem o5_4 : (o5 x0 x1 x2 x3 x4 x5) 4 = .int (zI x4) := rfl
theorem o5s_4 : ju (o5 x0 x1 x2 x3 x4 x5) 4 (.int (zI y)) = o5 x0 x1 x2 x3 y x5 := (ju_jL (Nat.le_of_ble_eq_true rfl)).trans rfl
theorem o5_5 : (o5 x0 x1 x2 x3 x4 x5) 5 = .int (zI x5) := rfl
theorem o5s_5 : ju (o5 x0 x1 x2 x3 x4 x5) 5 (.int (zI y)) = o5 x0 x1 x2 x3 x4 y := (ju_jL (Nat.le_of_ble_eq_true rfl)).trans rfl
end
theorem n5 : jL [.null, .null, .null, .null, .int (zI 0), .int (zI 0)] = o5 .null .null .null .null 0 0 := rfl
/-- FollowingRefs$Kept: schema sentence store -/
def o6 (x0 : Value) (x1 : Value) (x2 : Value) : Nat → Value := jL [x0, x1, x2]
section
variable {x0 : Value} {x1 : Value} {x2 : Value} {y : Int} {w : Value}
theorem o6_0 : (o6 x0 x1 x2) 0 = x0 := rfl
theorem o6s_0 : ju (o6 x0 x1 x2) 0 (w) = o6 w x1 x2 := (ju_jL (Nat.le_of_ble_eq_true rfl)).trans rfl
theorem o6_1 : (o6 x0 x1 x2) 1 = x1 := rfl
theorem o6s_1 : ju (o6 x0 x1 x2) 1 (w) = o6 x0 w x2 := (ju_jL (Nat.le_of_ble_eq_true rfl)).trans rfl
theorem o6_2 : (o6 x0 x1 x2) 2 = x2 := rfl
theorem o6s_2 : ju (o6 x0 x1 x2) 2 (w) = o6 x0 x1 w := (ju_jL (Nat.le_of_ble_eq_true rfl)).trans rfl
end
theorem n6 : jL [.null, .null, .null] = o6 .null .null .null := rfl
/-- FollowingRefs$SchemaReader: tape size limit to s kind from number sign word -/
def o9 (x0 : Value) (x1 : Int) (x2 : Int) (x3 : Int) (x4 : Value) (x5 : Int) (x6 : Int) (x7 : Int) (x8 : Int) (x9 : Value) : Nat → Value := jL [x0, .int (zI x1), .int (zI x2), .int (zI x3), x4, .int (zI x5), .int (zI x6), .int (zI x7), .int (zI x8), x9]
section
variable {x0 : Value} {x1 : Int} {x2 : Int} {x3 : Int} {x4 : Value} {x5 : Int} {x6 : Int} {x7 : Int} {x8 : Int} {x9 : Value} {y : Int} {w : Value}
theorem o9_0 : (o9 x0 x1 x2 x3 x4 x5 x6 x7 x8 x9) 0 = x0 := rfl
theorem o9s_0 : ju (o9 x0 x1 x2 x3 x4 x5 x6 x7 x8 x9) 0 (w) = o9 w x1 x2 x3 x4 x5 x6 x7 x8 x9 := (ju_jL (Nat.le_of_ble_eq_true rfl)).trans rfl
theorem o9_1 : (o9 x0 x1 x2 x3 x4 x5 x6 x7 x8 x9) 1 = .int (zI x1) := rfl
theorem o9s_1 : ju (o9 x0 x1 x2 x3 x4 x5 x6 x7 x8 x9) 1 (.int (zI y)) = o9 x0 y x2 x3 x4 x5 x6 x7 x8 x9 := (ju_jL (Nat.le_of_ble_eq_true rfl)).trans rfl
theorem o9_2 : (o9 x0 x1 x2 x3 x4 x5 x6 x7 x8 x9) 2 = .int (zI x2) := rfl
theorem o9s_2 : ju (o9 x0 x1 x2 x3 x4 x5 x6 x7 x8 x9) 2 (.int (zI y)) = o9 x0 x1 y x3 x4 x5 x6 x7 x8 x9 := (ju_jL (Nat.le_of_ble_eq_true rfl)).trans rfl
theorem o9_3 : (o9 x0 x1 x2 x3 x4 x5 x6 x7 x8 x9) 3 = .int (zI x3) := rfl
theorem o9s_3 : ju (o9 x0 x1 x2 x3 x4 x5 x6 x7 x8 x9) 3 (.int (zI y)) = o9 x0 x1 x2 y x4 x5 x6 x7 x8 x9 := (ju_jL (Nat.le_of_ble_eq_true rfl)).trans rfl
theorem o9_4 : (o9 x0 x1 x2 x3 x4 x5 x6 x7 x8 x9) 4 = x4 := rfl
theorem o9s_4 : ju (o9 x0 x1 x2 x3 x4 x5 x6 x7 x8 x9) 4 (w) = o9 x0 x1 x2 x3 w x5 x6 x7 x8 x9 := (ju_jL (Nat.le_of_ble_eq_true rfl)).trans rfl
theorem o9_5 : (o9 x0 x1 x2 x3 x4 x5 x6 x7 x8 x9) 5 = .int (zI x5) := rfl
theorem o9s_5 : ju (o9 x0 x1 x2 x3 x4 x5 x6 x7 x8 x9) 5 (.int (zI y)) = o9 x0 x1 x2 x3 x4 y x6 x7 x8 x9 := (ju_jL (Nat.le_of_ble_eq_true rfl)).trans rfl
theorem o9_6 : (o9 x0 x1 x2 x3 x4 x5 x6 x7 x8 x9) 6 = .int (zI x6) := rfl
theorem o9s_6 : ju (o9 x0 x1 x2 x3 x4 x5 x6 x7 x8 x9) 6 (.int (zI y)) = o9 x0 x1 x2 x3 x4 x5 y x7 x8 x9 := (ju_jL (Nat.le_of_ble_eq_true rfl)).trans rfl
theorem o9_7 : (o9 x0 x1 x2 x3 x4 x5 x6 x7 x8 x9) 7 = .int (zI x7) := rfl
theorem o9s_7 : ju (o9 x0 x1 x2 x3 x4 x5 x6 x7 x8 x9) 7 (.int (zI y)) = o9 x0 x1 x2 x3 x4 x5 x6 y x8 x9 := (ju_jL (Nat.le_of_ble_eq_true rfl)).trans rfl
theorem o9_8 : (o9 x0 x1 x2 x3 x4 x5 x6 x7 x8 x9) 8 = .int (zI x8) := rfl
theorem o9s_8 : ju (o9 x0 x1 x2 x3 x4 x5 x6 x7 x8 x9) 8 (.int (zI y)) = o9 x0 x1 x2 x3 x4 x5 x6 x7 y x9 := (ju_jL (Nat.le_of_ble_eq_true rfl)).trans rfl
theorem o9_9 : (o9 x0 x1 x2 x3 x4 x5 x6 x7 x8 x9) 9 = x9 := rfl
theorem o9s_9 : ju (o9 x0 x1 x2 x3 x4 x5 x6 x7 x8 x9) 9 (w) = o9 x0 x1 x2 x3 x4 x5 x6 x7 x8 w := (ju_jL (Nat.le_of_ble_eq_true rfl)).trans rfl
end
theorem n9 : jL [.null, .int (zI 0), .int (zI 0), .int (zI 0), .null, .int (zI 0), .int (zI 0), .int (zI 0), .int (zI 0), .null] = o9 .null 0 0 0 .null 0 0 0 0 .null := rfl
/-- FollowingRefs$StatementReader: tape size limit to s kind from number sign word -/
def o15 (x0 : Value) (x1 : Int) (x2 : Int) (x3 : Int) (x4 : Value) (x5 : Int) (x6 : Int) (x7 : Int) (x8 : Int) (x9 : Value) : Nat → Value := jL [x0, .int (zI x1), .int (zI x2), .int (zI x3), x4, .int (zI x5), .int (zI x6), .int (zI x7), .int (zI x8), x9]
section
variable {x0 : Value} {x1 : Int} {x2 : Int} {x3 : Int} {x4 : Value} {x5 : Int} {x6 : Int} {x7 : Int} {x8 : Int} {x9 : Value} {y : Int} {w : Value}
theorem o15_0 : (o15 x0 x1 x2 x3 x4 x5 x6 x7 x8 x9) 0 = x0 := rfl
theorem o15s_0 : ju (o15 x0 x1 x2 x3 x4 x5 x6 x7 x8 x9) 0 (w) = o15 w x1 x2 x3 x4 x5 x6 x7 x8 x9 := (ju_jL (Nat.le_of_ble_eq_true rfl)).trans rfl
theorem o15_1 : (o15 x0 x1 x2 x3 x4 x5 x6 x7 x8 x9) 1 = .int (zI x1) := rfl
theorem o15s_1 : ju (o15 x0 x1 x2 x3 x4 x5 x6 x7 x8 x9) 1 (.int (zI y)) = o15 x0 y x2 x3 x4 x5 x6 x7 x8 x9 := (ju_jL (Nat.le_of_ble_eq_true rfl)).trans rfl
theorem o15_2 : (o15 x0 x1 x2 x3 x4 x5 x6 x7 x8 x9) 2 = .int (zI x2) := rfl
theorem o15s_2 : ju (o15 x0 x1 x2 x3 x4 x5 x6 x7 x8 x9) 2 (.int (zI y)) = o15 x0 x1 y x3 x4 x5 x6 x7 x8 x9 := (ju_jL (Nat.le_of_ble_eq_true rfl)).trans rfl
theorem o15_3 : (o15 x0 x1 x2 x3 x4 x5 x6 x7 x8 x9) 3 = .int (zI x3) := rfl
theorem o15s_3 : ju (o15 x0 x1 x2 x3 x4 x5 x6 x7 x8 x9) 3 (.int (zI y)) = o15 x0 x1 x2 y x4 x5 x6 x7 x8 x9 := (ju_jL (Nat.le_of_ble_eq_true rfl)).trans rfl
theorem o15_4 : (o15 x0 x1 x2 x3 x4 x5 x6 x7 x8 x9) 4 = x4 := rfl
theorem o15s_4 : ju (o15 x0 x1 x2 x3 x4 x5 x6 x7 x8 x9) 4 (w) = o15 x0 x1 x2 x3 w x5 x6 x7 x8 x9 := (ju_jL (Nat.le_of_ble_eq_true rfl)).trans rfl
theorem o15_5 : (o15 x0 x1 x2 x3 x4 x5 x6 x7 x8 x9) 5 = .int (zI x5) := rfl
theorem o15s_5 : ju (o15 x0 x1 x2 x3 x4 x5 x6 x7 x8 x9) 5 (.int (zI y)) = o15 x0 x1 x2 x3 x4 y x6 x7 x8 x9 := (ju_jL (Nat.le_of_ble_eq_true rfl)).trans rfl
theorem o15_6 : (o15 x0 x1 x2 x3 x4 x5 x6 x7 x8 x9) 6 = .int (zI x6) := rfl
theorem o15s_6 : ju (o15 x0 x1 x2 x3 x4 x5 x6 x7 x8 x9) 6 (.int (zI y)) = o15 x0 x1 x2 x3 x4 x5 y x7 x8 x9 := (ju_jL (Nat.le_of_ble_eq_true rfl)).trans rfl
theorem o15_7 : (o15 x0 x1 x2 x3 x4 x5 x6 x7 x8 x9) 7 = .int (zI x7) := rfl
theorem o15s_7 : ju (o15 x0 x1 x2 x3 x4 x5 x6 x7 x8 x9) 7 (.int (zI y)) = o15 x0 x1 x2 x3 x4 x5 x6 y x8 x9 := (ju_jL (Nat.le_of_ble_eq_true rfl)).trans rfl
theorem o15_8 : (o15 x0 x1 x2 x3 x4 x5 x6 x7 x8 x9) 8 = .int (zI x8) := rfl
theorem o15s_8 : ju (o15 x0 x1 x2 x3 x4 x5 x6 x7 x8 x9) 8 (.int (zI y)) = o15 x0 x1 x2 x3 x4 x5 x6 x7 y x9 := (ju_jL (Nat.le_of_ble_eq_true rfl)).trans rfl
theorem o15_9 : (o15 x0 x1 x2 x3 x4 x5 x6 x7 x8 x9) 9 = x9 := rfl
theorem o15s_9 : ju (o15 x0 x1 x2 x3 x4 x5 x6 x7 x8 x9) 9 (w) = o15 x0 x1 x2 x3 x4 x5 x6 x7 x8 w := (ju_jL (Nat.le_of_ble_eq_true rfl)).trans rfl
end
theorem n15 : jL [.null, .int (zI 0), .int (zI 0), .int (zI 0), .null, .int (zI 0), .int (zI 0), .int (zI 0), .int (zI 0), .null] = o15 .null 0 0 0 .null 0 0 0 0 .null := rfl
/-- FollowingRefs$BookReader: tape size limit to s kind from number sign word acts -/
def o27 (x0 : Value) (x1 : Int) (x2 : Int) (x3 : Int) (x4 : Value) (x5 : Int) (x6 : Int) (x7 : Int) (x8 : Int) (x9 : Value) (x10 : Value) : Nat → Value := jL [x0, .int (zI x1), .int (zI x2), .int (zI x3), x4, .int (zI x5), .int (zI x6), .int (zI x7), .int (zI x8), x9, x10]
section
variable {x0 : Value} {x1 : Int} {x2 : Int} {x3 : Int} {x4 : Value} {x5 : Int} {x6 : Int} {x7 : Int} {x8 : Int} {x9 : Value} {x10 : Value} {y : Int} {w : Value}
theorem o27_0 : (o27 x0 x1 x2 x3 x4 x5 x6 x7 x8 x9 x10) 0 = x0 := rfl
theorem o27s_0 : ju (o27 x0 x1 x2 x3 x4 x5 x6 x7 x8 x9 x10) 0 (w) = o27 w x1 x2 x3 x4 x5 x6 x7 x8 x9 x10 := (ju_jL (Nat.le_of_ble_eq_true rfl)).trans rfl
theorem o27_1 : (o27 x0 x1 x2 x3 x4 x5 x6 x7 x8 x9 x10) 1 = .int (zI x1) := rfl
theorem o27s_1 : ju (o27 x0 x1 x2 x3 x4 x5 x6 x7 x8 x9 x10) 1 (.int (zI y)) = o27 x0 y x2 x3 x4 x5 x6 x7 x8 x9 x10 := (ju_jL (Nat.le_of_ble_eq_true rfl)).trans rfl
theorem o27_2 : (o27 x0 x1 x2 x3 x4 x5 x6 x7 x8 x9 x10) 2 = .int (zI x2) := rfl
theorem o27s_2 : ju (o27 x0 x1 x2 x3 x4 x5 x6 x7 x8 x9 x10) 2 (.int (zI y)) = o27 x0 x1 y x3 x4 x5 x6 x7 x8 x9 x10 := (ju_jL (Nat.le_of_ble_eq_true rfl)).trans rfl
theorem o27_3 : (o27 x0 x1 x2 x3 x4 x5 x6 x7 x8 x9 x10) 3 = .int (zI x3) := rfl
theorem o27s_3 : ju (o27 x0 x1 x2 x3 x4 x5 x6 x7 x8 x9 x10) 3 (.int (zI y)) = o27 x0 x1 x2 y x4 x5 x6 x7 x8 x9 x10 := (ju_jL (Nat.le_of_ble_eq_true rfl)).trans rfl
theorem o27_4 : (o27 x0 x1 x2 x3 x4 x5 x6 x7 x8 x9 x10) 4 = x4 := rfl
theorem o27s_4 : ju (o27 x0 x1 x2 x3 x4 x5 x6 x7 x8 x9 x10) 4 (w) = o27 x0 x1 x2 x3 w x5 x6 x7 x8 x9 x10 := (ju_jL (Nat.le_of_ble_eq_true rfl)).trans rfl
theorem o27_5 : (o27 x0 x1 x2 x3 x4 x5 x6 x7 x8 x9 x10) 5 = .int (zI x5) := rfl
theorem o27s_5 : ju (o27 x0 x1 x2 x3 x4 x5 x6 x7 x8 x9 x10) 5 (.int (zI y)) = o27 x0 x1 x2 x3 x4 y x6 x7 x8 x9 x10 := (ju_jL (Nat.le_of_ble_eq_true rfl)).trans rfl
theorem o27_6 : (o27 x0 x1 x2 x3 x4 x5 x6 x7 x8 x9 x10) 6 = .int (zI x6) := rfl
theorem o27s_6 : ju (o27 x0 x1 x2 x3 x4 x5 x6 x7 x8 x9 x10) 6 (.int (zI y)) = o27 x0 x1 x2 x3 x4 x5 y x7 x8 x9 x10 := (ju_jL (Nat.le_of_ble_eq_true rfl)).trans rfl
theorem o27_7 : (o27 x0 x1 x2 x3 x4 x5 x6 x7 x8 x9 x10) 7 = .int (zI x7) := rfl
theorem o27s_7 : ju (o27 x0 x1 x2 x3 x4 x5 x6 x7 x8 x9 x10) 7 (.int (zI y)) = o27 x0 x1 x2 x3 x4 x5 x6 y x8 x9 x10 := (ju_jL (Nat.le_of_ble_eq_true rfl)).trans rfl
theorem o27_8 : (o27 x0 x1 x2 x3 x4 x5 x6 x7 x8 x9 x10) 8 = .int (zI x8) := rfl
theorem o27s_8 : ju (o27 x0 x1 x2 x3 x4 x5 x6 x7 x8 x9 x10) 8 (.int (zI y)) = o27 x0 x1 x2 x3 x4 x5 x6 x7 y x9 x10 := (ju_jL (Nat.le_of_ble_eq_true rfl)).trans rfl
theorem o27_9 : (o27 x0 x1 x2 x3 x4 x5 x6 x7 x8 x9 x10) 9 = x9 := rfl
theorem o27s_9 : ju (o27 x0 x1 x2 x3 x4 x5 x6 x7 x8 x9 x10) 9 (w) = o27 x0 x1 x2 x3 x4 x5 x6 x7 x8 w x10 := (ju_jL (Nat.le_of_ble_eq_true rfl)).trans rfl
theorem o27_10 : (o27 x0 x1 x2 x3 x4 x5 x6 x7 x8 x9 x10) 10 = x10 := rfl
theorem o27s_10 : ju (o27 x0 x1 x2 x3 x4 x5 x6 x7 x8 x9 x10) 10 (w) = o27 x0 x1 x2 x3 x4 x5 x6 x7 x8 x9 w := (ju_jL (Nat.le_of_ble_eq_true rfl)).trans rfl
end
theorem n27 : jL [.null, .int (zI 0), .int (zI 0), .int (zI 0), .null, .int (zI 0), .int (zI 0), .int (zI 0), .int (zI 0), .null, .null] = o27 .null 0 0 0 .null 0 0 0 0 .null .null := rfl
/-- FollowingRefs$SentenceReader: tape size limit to s kind from number sign word ones within -/
def o29 (x0 : Value) (x1 : Int) (x2 : Int) (x3 : Int) (x4 : Value) (x5 : Int) (x6 : Int) (x7 : Int) (x8 : Int) (x9 : Value) (x10 : Int) (x11 : Int) : Nat → Value := jL [x0, .int (zI x1), .int (zI x2), .int (zI x3), x4, .int (zI x5), .int (zI x6), .int (zI x7), .int (zI x8), x9, .int (zI x10), .int (zI x11)]
section
variable {x0 : Value} {x1 : Int} {x2 : Int} {x3 : Int} {x4 : Value} {x5 : Int} {x6 : Int} {x7 : Int} {x8 : Int} {x9 : Value} {x10 : Int} {x11 : Int} {y : Int} {w : Value}
theorem o29_0 : (o29 x0 x1 x2 x3 x4 x5 x6 x7 x8 x9 x10 x11) 0 = x0 := rfl
theorem o29s_0 : ju (o29 x0 x1 x2 x3 x4 x5 x6 x7 x8 x9 x10 x11) 0 (w) = o29 w x1 x2 x3 x4 x5 x6 x7 x8 x9 x10 x11 := (ju_jL (Nat.le_of_ble_eq_true rfl)).trans rfl
theorem o29_1 : (o29 x0 x1 x2 x3 x4 x5 x6 x7 x8 x9 x10 x11) 1 = .int (zI x1) := rfl
theorem o29s_1 : ju (o29 x0 x1 x2 x3 x4 x5 x6 x7 x8 x9 x10 x11) 1 (.int (zI y)) = o29 x0 y x2 x3 x4 x5 x6 x7 x8 x9 x10 x11 := (ju_jL (Nat.le_of_ble_eq_true rfl)).trans rfl
theorem o29_2 : (o29 x0 x1 x2 x3 x4 x5 x6 x7 x8 x9 x10 x11) 2 = .int (zI x2) := rfl
theorem o29s_2 : ju (o29 x0 x1 x2 x3 x4 x5 x6 x7 x8 x9 x10 x11) 2 (.int (zI y)) = o29 x0 x1 y x3 x4 x5 x6 x7 x8 x9 x10 x11 := (ju_jL (Nat.le_of_ble_eq_true rfl)).trans rfl
theorem o29_3 : (o29 x0 x1 x2 x3 x4 x5 x6 x7 x8 x9 x10 x11) 3 = .int (zI x3) := rfl
theorem o29s_3 : ju (o29 x0 x1 x2 x3 x4 x5 x6 x7 x8 x9 x10 x11) 3 (.int (zI y)) = o29 x0 x1 x2 y x4 x5 x6 x7 x8 x9 x10 x11 := (ju_jL (Nat.le_of_ble_eq_true rfl)).trans rfl
theorem o29_4 : (o29 x0 x1 x2 x3 x4 x5 x6 x7 x8 x9 x10 x11) 4 = x4 := rfl
theorem o29s_4 : ju (o29 x0 x1 x2 x3 x4 x5 x6 x7 x8 x9 x10 x11) 4 (w) = o29 x0 x1 x2 x3 w x5 x6 x7 x8 x9 x10 x11 := (ju_jL (Nat.le_of_ble_eq_true rfl)).trans rfl
theorem o29_5 : (o29 x0 x1 x2 x3 x4 x5 x6 x7 x8 x9 x10 x11) 5 = .int (zI x5) := rfl
theorem o29s_5 : ju (o29 x0 x1 x2 x3 x4 x5 x6 x7 x8 x9 x10 x11) 5 (.int (zI y)) = o29 x0 x1 x2 x3 x4 y x6 x7 x8 x9 x10 x11 := (ju_jL (Nat.le_of_ble_eq_true rfl)).trans rfl
theorem o29_6 : (o29 x0 x1 x2 x3 x4 x5 x6 x7 x8 x9 x10 x11) 6 = .int (zI x6) := rfl
theorem o29s_6 : ju (o29 x0 x1 x2 x3 x4 x5 x6 x7 x8 x9 x10 x11) 6 (.int (zI y)) = o29 x0 x1 x2 x3 x4 x5 y x7 x8 x9 x10 x11 := (ju_jL (Nat.le_of_ble_eq_true rfl)).trans rfl
theorem o29_7 : (o29 x0 x1 x2 x3 x4 x5 x6 x7 x8 x9 x10 x11) 7 = .int (zI x7) := rfl
theorem o29s_7 : ju (o29 x0 x1 x2 x3 x4 x5 x6 x7 x8 x9 x10 x11) 7 (.int (zI y)) = o29 x0 x1 x2 x3 x4 x5 x6 y x8 x9 x10 x11 := (ju_jL (Nat.le_of_ble_eq_true rfl)).trans rfl
theorem o29_8 : (o29 x0 x1 x2 x3 x4 x5 x6 x7 x8 x9 x10 x11) 8 = .int (zI x8) := rfl
theorem o29s_8 : ju (o29 x0 x1 x2 x3 x4 x5 x6 x7 x8 x9 x10 x11) 8 (.int (zI y)) = o29 x0 x1 x2 x3 x4 x5 x6 x7 y x9 x10 x11 := (ju_jL (Nat.le_of_ble_eq_true rfl)).trans rfl
theorem o29_9 : (o29 x0 x1 x2 x3 x4 x5 x6 x7 x8 x9 x10 x11) 9 = x9 := rfl
theorem o29s_9 : ju (o29 x0 x1 x2 x3 x4 x5 x6 x7 x8 x9 x10 x11) 9 (w) = o29 x0 x1 x2 x3 x4 x5 x6 x7 x8 w x10 x11 := (ju_jL (Nat.le_of_ble_eq_true rfl)).trans rfl
theorem o29_10 : (o29 x0 x1 x2 x3 x4 x5 x6 x7 x8 x9 x10 x11) 10 = .int (zI x10) := rfl
theorem o29s_10 : ju (o29 x0 x1 x2 x3 x4 x5 x6 x7 x8 x9 x10 x11) 10 (.int (zI y)) = o29 x0 x1 x2 x3 x4 x5 x6 x7 x8 x9 y x11 := (ju_jL (Nat.le_of_ble_eq_true rfl)).trans rfl
theorem o29_11 : (o29 x0 x1 x2 x3 x4 x5 x6 x7 x8 x9 x10 x11) 11 = .int (zI x11) := rfl
theorem o29s_11 : ju (o29 x0 x1 x2 x3 x4 x5 x6 x7 x8 x9 x10 x11) 11 (.int (zI y)) = o29 x0 x1 x2 x3 x4 x5 x6 x7 x8 x9 x10 y := (ju_jL (Nat.le_of_ble_eq_true rfl)).trans rfl
end
theorem n29 : jL [.null, .int (zI 0), .int (zI 0), .int (zI 0), .null, .int (zI 0), .int (zI 0), .int (zI 0), .int (zI 0), .null, .int (zI 0), .int (zI 0)] = o29 .null 0 0 0 .null 0 0 0 0 .null 0 0 := rfl
/-- FollowingRefs$Fault: cause stackTrace suppressedExceptions detailMessage backtrace depth kind place -/
def o10 (x0 : Value) (x1 : Value) (x2 : Value) (x3 : Value) (x4 : Value) (x5 : Int) (x6 : Int) (x7 : Int) : Nat → Value := jL [x0, x1, x2, x3, x4, .int (zI x5), .int (zI x6), .int (zI x7)]
section
variable {x0 : Value} {x1 : Value} {x2 : Value} {x3 : Value} {x4 : Value} {x5 : Int} {x6 : Int} {x7 : Int} {y : Int} {w : Value}
theorem o10_0 : (o10 x0 x1 x2 x3 x4 x5 x6 x7) 0 = x0 := rfl
theorem o10s_0 : ju (o10 x0 x1 x2 x3 x4 x5 x6 x7) 0 (w) = o10 w x1 x2 x3 x4 x5 x6 x7 := (ju_jL (Nat.le_of_ble_eq_true rfl)).trans rfl
theorem o10_1 : (o10 x0 x1 x2 x3 x4 x5 x6 x7) 1 = x1 := rfl
theorem o10s_1 : ju (o10 x0 x1 x2 x3 x4 x5 x6 x7) 1 (w) = o10 x0 w x2 x3 x4 x5 x6 x7 := (ju_jL (Nat.le_of_ble_eq_true rfl)).trans rfl
theorem o10_2 : (o10 x0 x1 x2 x3 x4 x5 x6 x7) 2 = x2 := rfl
theorem o10s_2 : ju (o10 x0 x1 x2 x3 x4 x5 x6 x7) 2 (w) = o10 x0 x1 w x3 x4 x5 x6 x7 := (ju_jL (Nat.le_of_ble_eq_true rfl)).trans rfl
theorem o10_3 : (o10 x0 x1 x2 x3 x4 x5 x6 x7) 3 = x3 := rfl
theorem o10s_3 : ju (o10 x0 x1 x2 x3 x4 x5 x6 x7) 3 (w) = o10 x0 x1 x2 w x4 x5 x6 x7 := (ju_jL (Nat.le_of_ble_eq_true rfl)).trans rfl
theorem o10_4 : (o10 x0 x1 x2 x3 x4 x5 x6 x7) 4 = x4 := rfl
theorem o10s_4 : ju (o10 x0 x1 x2 x3 x4 x5 x6 x7) 4 (w) = o10 x0 x1 x2 x3 w x5 x6 x7 := (ju_jL (Nat.le_of_ble_eq_true rfl)).trans rfl
theorem o10_5 : (o10 x0 x1 x2 x3 x4 x5 x6 x7) 5 = .int (zI x5) := rfl
theorem o10s_5 : ju (o10 x0 x1 x2 x3 x4 x5 x6 x7) 5 (.int (zI y)) = o10 x0 x1 x2 x3 x4 y x6 x7 := (ju_jL (Nat.le_of_ble_eq_true rfl)).trans rfl
theorem o10_6 : (o10 x0 x1 x2 x3 x4 x5 x6 x7) 6 = .int (zI x6) := rfl
theorem o10s_6 : ju (o10 x0 x1 x2 x3 x4 x5 x6 x7) 6 (.int (zI y)) = o10 x0 x1 x2 x3 x4 x5 y x7 := (ju_jL (Nat.le_of_ble_eq_true rfl)).trans rfl
theorem o10_7 : (o10 x0 x1 x2 x3 x4 x5 x6 x7) 7 = .int (zI x7) := rfl
theorem o10s_7 : ju (o10 x0 x1 x2 x3 x4 x5 x6 x7) 7 (.int (zI y)) = o10 x0 x1 x2 x3 x4 x5 x6 y := (ju_jL (Nat.le_of_ble_eq_true rfl)).trans rfl
end
theorem n10 : jL [.null, .null, .null, .null, .null, .int (zI 0), .int (zI 0), .int (zI 0)] = o10 .null .null .null .null .null 0 0 0 := rfl
/-- FollowingRefs$Table: name cols defaults needed -/
def o11 (x0 : Value) (x1 : Value) (x2 : Value) (x3 : Value) : Nat → Value := jL [x0, x1, x2, x3]
section
variable {x0 : Value} {x1 : Value} {x2 : Value} {x3 : Value} {y : Int} {w : Value}
theorem o11_0 : (o11 x0 x1 x2 x3) 0 = x0 := rfl
theorem o11s_0 : ju (o11 x0 x1 x2 x3) 0 (w) = o11 w x1 x2 x3 := (ju_jL (Nat.le_of_ble_eq_true rfl)).trans rfl
theorem o11_1 : (o11 x0 x1 x2 x3) 1 = x1 := rfl
theorem o11s_1 : ju (o11 x0 x1 x2 x3) 1 (w) = o11 x0 w x2 x3 := (ju_jL (Nat.le_of_ble_eq_true rfl)).trans rfl
theorem o11_2 : (o11 x0 x1 x2 x3) 2 = x2 := rfl
theorem o11s_2 : ju (o11 x0 x1 x2 x3) 2 (w) = o11 x0 x1 w x3 := (ju_jL (Nat.le_of_ble_eq_true rfl)).trans rfl
theorem o11_3 : (o11 x0 x1 x2 x3) 3 = x3 := rfl
theorem o11s_3 : ju (o11 x0 x1 x2 x3) 3 (w) = o11 x0 x1 x2 w := (ju_jL (Nat.le_of_ble_eq_true rfl)).trans rfl
end
theorem n11 : jL [.null, .null, .null, .null] = o11 .null .null .null .null := rfl
/-- FollowingRefs$Of: table cols -/
def o12 (x0 : Int) (x1 : Value) : Nat → Value := jL [.int (zI x0), x1]
section
variable {x0 : Int} {x1 : Value} {y : Int} {w : Value}
theorem o12_0 : (o12 x0 x1) 0 = .int (zI x0) := rfl
theorem o12s_0 : ju (o12 x0 x1) 0 (.int (zI y)) = o12 y x1 := (ju_jL (Nat.le_of_ble_eq_true rfl)).trans rfl
theorem o12_1 : (o12 x0 x1) 1 = x1 := rfl
theorem o12s_1 : ju (o12 x0 x1) 1 (w) = o12 x0 w := (ju_jL (Nat.le_of_ble_eq_true rfl)).trans rfl
end
theorem n12 : jL [.int (zI 0), .null] = o12 0 .null := rfl
/-- FollowingRefs$Ref: table cols key onGoing onChange full late -/
def o13 (x0 : Int) (x1 : Value) (x2 : Int) (x3 : Int) (x4 : Int) (x5 : Int) (x6 : Int) : Nat → Value := jL [.int (zI x0), x1, .int (zI x2), .int (zI x3), .int (zI x4), .int (zI x5), .int (zI x6)]
section
variable {x0 : Int} {x1 : Value} {x2 : Int} {x3 : Int} {x4 : Int} {x5 : Int} {x6 : Int} {y : Int} {w : Value}
theorem o13_0 : (o13 x0 x1 x2 x3 x4 x5 x6) 0 = .int (zI x0) := rfl
theorem o13s_0 : ju (o13 x0 x1 x2 x3 x4 x5 x6) 0 (.int (zI y)) = o13 y x1 x2 x3 x4 x5 x6 := (ju_jL (Nat.le_of_ble_eq_true rfl)).trans rfl
theorem o13_1 : (o13 x0 x1 x2 x3 x4 x5 x6) 1 = x1 := rfl
theorem o13s_1 : ju (o13 x0 x1 x2 x3 x4 x5 x6) 1 (w) = o13 x0 w x2 x3 x4 x5 x6 := (ju_jL (Nat.le_of_ble_eq_true rfl)).trans rfl
theorem o13_2 : (o13 x0 x1 x2 x3 x4 x5 x6) 2 = .int (zI x2) := rfl
theorem o13s_2 : ju (o13 x0 x1 x2 x3 x4 x5 x6) 2 (.int (zI y)) = o13 x0 x1 y x3 x4 x5 x6 := (ju_jL (Nat.le_of_ble_eq_true rfl)).trans rfl
theorem o13_3 : (o13 x0 x1 x2 x3 x4 x5 x6) 3 = .int (zI x3) := rfl
theorem o13s_3 : ju (o13 x0 x1 x2 x3 x4 x5 x6) 3 (.int (zI y)) = o13 x0 x1 x2 y x4 x5 x6 := (ju_jL (Nat.le_of_ble_eq_true rfl)).trans rfl
theorem o13_4 : (o13 x0 x1 x2 x3 x4 x5 x6) 4 = .int (zI x4) := rfl
theorem o13s_4 : ju (o13 x0 x1 x2 x3 x4 x5 x6) 4 (.int (zI y)) = o13 x0 x1 x2 x3 y x5 x6 := (ju_jL (Nat.le_of_ble_eq_true rfl)).trans rfl
theorem o13_5 : (o13 x0 x1 x2 x3 x4 x5 x6) 5 = .int (zI x5) := rfl
theorem o13s_5 : ju (o13 x0 x1 x2 x3 x4 x5 x6) 5 (.int (zI y)) = o13 x0 x1 x2 x3 x4 y x6 := (ju_jL (Nat.le_of_ble_eq_true rfl)).trans rfl
theorem o13_6 : (o13 x0 x1 x2 x3 x4 x5 x6) 6 = .int (zI x6) := rfl
theorem o13s_6 : ju (o13 x0 x1 x2 x3 x4 x5 x6) 6 (.int (zI y)) = o13 x0 x1 x2 x3 x4 x5 y := (ju_jL (Nat.le_of_ble_eq_true rfl)).trans rfl
end
theorem n13 : jL [.int (zI 0), .null, .int (zI 0), .int (zI 0), .int (zI 0), .int (zI 0), .int (zI 0)] = o13 0 .null 0 0 0 0 0 := rfl
/-- FollowingRefs$Check: table col sign other number late -/
def o14 (x0 : Int) (x1 : Int) (x2 : Int) (x3 : Int) (x4 : Int) (x5 : Int) : Nat → Value := jL [.int (zI x0), .int (zI x1), .int (zI x2), .int (zI x3), .int (zI x4), .int (zI x5)]
section
variable {x0 : Int} {x1 : Int} {x2 : Int} {x3 : Int} {x4 : Int} {x5 : Int} {y : Int} {w : Value}
theorem o14_0 : (o14 x0 x1 x2 x3 x4 x5) 0 = .int (zI x0) := rfl
theorem o14s_0 : ju (o14 x0 x1 x2 x3 x4 x5) 0 (.int (zI y)) = o14 y x1 x2 x3 x4 x5 := (ju_jL (Nat.le_of_ble_eq_true rfl)).trans rfl
theorem o14_1 : (o14 x0 x1 x2 x3 x4 x5) 1 = .int (zI x1) := rfl
theorem o14s_1 : ju (o14 x0 x1 x2 x3 x4 x5) 1 (.int (zI y)) = o14 x0 y x2 x3 x4 x5 := (ju_jL (Nat.le_of_ble_eq_true rfl)).trans rfl
theorem o14_2 : (o14 x0 x1 x2 x3 x4 x5) 2 = .int (zI x2) := rfl
theorem o14s_2 : ju (o14 x0 x1 x2 x3 x4 x5) 2 (.int (zI y)) = o14 x0 x1 y x3 x4 x5 := (ju_jL (Nat.le_of_ble_eq_true rfl)).trans rfl
theorem o14_3 : (o14 x0 x1 x2 x3 x4 x5) 3 = .int (zI x3) := rfl
theorem o14s_3 : ju (o14 x0 x1 x2 x3 x4 x5) 3 (.int (zI y)) = o14 x0 x1 x2 y x4 x5 := (ju_jL (Nat.le_of_ble_eq_true rfl)).trans rfl
theorem o14_4 : (o14 x0 x1 x2 x3 x4 x5) 4 = .int (zI x4) := rfl
theorem o14s_4 : ju (o14 x0 x1 x2 x3 x4 x5) 4 (.int (zI y)) = o14 x0 x1 x2 x3 y x5 := (ju_jL (Nat.le_of_ble_eq_true rfl)).trans rfl
theorem o14_5 : (o14 x0 x1 x2 x3 x4 x5) 5 = .int (zI x5) := rfl
theorem o14s_5 : ju (o14 x0 x1 x2 x3 x4 x5) 5 (.int (zI y)) = o14 x0 x1 x2 x3 x4 y := (ju_jL (Nat.le_of_ble_eq_true rfl)).trans rfl
end
theorem n14 : jL [.int (zI 0), .int (zI 0), .int (zI 0), .int (zI 0), .int (zI 0), .int (zI 0)] = o14 0 0 0 0 0 0 := rfl
/-- FollowingRefs$Inserts: table cells -/
def o17 (x0 : Int) (x1 : Value) : Nat → Value := jL [.int (zI x0), x1]
section
variable {x0 : Int} {x1 : Value} {y : Int} {w : Value}
theorem o17_0 : (o17 x0 x1) 0 = .int (zI x0) := rfl
theorem o17s_0 : ju (o17 x0 x1) 0 (.int (zI y)) = o17 y x1 := (ju_jL (Nat.le_of_ble_eq_true rfl)).trans rfl
theorem o17_1 : (o17 x0 x1) 1 = x1 := rfl
theorem o17s_1 : ju (o17 x0 x1) 1 (w) = o17 x0 w := (ju_jL (Nat.le_of_ble_eq_true rfl)).trans rfl
end
theorem n17 : jL [.int (zI 0), .null] = o17 0 .null := rfl
/-- FollowingRefs$Deletes: table whens -/
def o19 (x0 : Int) (x1 : Value) : Nat → Value := jL [.int (zI x0), x1]
section
variable {x0 : Int} {x1 : Value} {y : Int} {w : Value}
theorem o19_0 : (o19 x0 x1) 0 = .int (zI x0) := rfl
theorem o19s_0 : ju (o19 x0 x1) 0 (.int (zI y)) = o19 y x1 := (ju_jL (Nat.le_of_ble_eq_true rfl)).trans rfl
theorem o19_1 : (o19 x0 x1) 1 = x1 := rfl
theorem o19s_1 : ju (o19 x0 x1) 1 (w) = o19 x0 w := (ju_jL (Nat.le_of_ble_eq_true rfl)).trans rfl
end
theorem n19 : jL [.int (zI 0), .null] = o19 0 .null := rfl
/-- FollowingRefs$When: col sign value -/
def o20 (x0 : Int) (x1 : Int) (x2 : Int) : Nat → Value := jL [.int (zI x0), .int (zI x1), .int (zI x2)]
section
variable {x0 : Int} {x1 : Int} {x2 : Int} {y : Int} {w : Value}
theorem o20_0 : (o20 x0 x1 x2) 0 = .int (zI x0) := rfl
theorem o20s_0 : ju (o20 x0 x1 x2) 0 (.int (zI y)) = o20 y x1 x2 := (ju_jL (Nat.le_of_ble_eq_true rfl)).trans rfl
theorem o20_1 : (o20 x0 x1 x2) 1 = .int (zI x1) := rfl
theorem o20s_1 : ju (o20 x0 x1 x2) 1 (.int (zI y)) = o20 x0 y x2 := (ju_jL (Nat.le_of_ble_eq_true rfl)).trans rfl
theorem o20_2 : (o20 x0 x1 x2) 2 = .int (zI x2) := rfl
theorem o20s_2 : ju (o20 x0 x1 x2) 2 (.int (zI y)) = o20 x0 x1 y := (ju_jL (Nat.le_of_ble_eq_true rfl)).trans rfl
end
theorem n20 : jL [.int (zI 0), .int (zI 0), .int (zI 0)] = o20 0 0 0 := rfl
/-- FollowingRefs$Sets: table whens cols values -/
def o21 (x0 : Int) (x1 : Value) (x2 : Value) (x3 : Value) : Nat → Value := jL [.int (zI x0), x1, x2, x3]
section
variable {x0 : Int} {x1 : Value} {x2 : Value} {x3 : Value} {y : Int} {w : Value}
theorem o21_0 : (o21 x0 x1 x2 x3) 0 = .int (zI x0) := rfl
theorem o21s_0 : ju (o21 x0 x1 x2 x3) 0 (.int (zI y)) = o21 y x1 x2 x3 := (ju_jL (Nat.le_of_ble_eq_true rfl)).trans rfl
theorem o21_1 : (o21 x0 x1 x2 x3) 1 = x1 := rfl
theorem o21s_1 : ju (o21 x0 x1 x2 x3) 1 (w) = o21 x0 w x2 x3 := (ju_jL (Nat.le_of_ble_eq_true rfl)).trans rfl
theorem o21_2 : (o21 x0 x1 x2 x3) 2 = x2 := rfl
theorem o21s_2 : ju (o21 x0 x1 x2 x3) 2 (w) = o21 x0 x1 w x3 := (ju_jL (Nat.le_of_ble_eq_true rfl)).trans rfl
theorem o21_3 : (o21 x0 x1 x2 x3) 3 = x3 := rfl
theorem o21s_3 : ju (o21 x0 x1 x2 x3) 3 (w) = o21 x0 x1 x2 w := (ju_jL (Nat.le_of_ble_eq_true rfl)).trans rfl
end
theorem n21 : jL [.int (zI 0), .null, .null, .null] = o21 0 .null .null .null := rfl
/-- FollowingRefs$Verdict: why found going changed touched violations -/
def o22 (x0 : Int) (x1 : Int) (x2 : Int) (x3 : Int) (x4 : Int) (x5 : Value) : Nat → Value := jL [.int (zI x0), .int (zI x1), .int (zI x2), .int (zI x3), .int (zI x4), x5]
section
variable {x0 : Int} {x1 : Int} {x2 : Int} {x3 : Int} {x4 : Int} {x5 : Value} {y : Int} {w : Value}
theorem o22_0 : (o22 x0 x1 x2 x3 x4 x5) 0 = .int (zI x0) := rfl
theorem o22s_0 : ju (o22 x0 x1 x2 x3 x4 x5) 0 (.int (zI y)) = o22 y x1 x2 x3 x4 x5 := (ju_jL (Nat.le_of_ble_eq_true rfl)).trans rfl
theorem o22_1 : (o22 x0 x1 x2 x3 x4 x5) 1 = .int (zI x1) := rfl
theorem o22s_1 : ju (o22 x0 x1 x2 x3 x4 x5) 1 (.int (zI y)) = o22 x0 y x2 x3 x4 x5 := (ju_jL (Nat.le_of_ble_eq_true rfl)).trans rfl
theorem o22_2 : (o22 x0 x1 x2 x3 x4 x5) 2 = .int (zI x2) := rfl
theorem o22s_2 : ju (o22 x0 x1 x2 x3 x4 x5) 2 (.int (zI y)) = o22 x0 x1 y x3 x4 x5 := (ju_jL (Nat.le_of_ble_eq_true rfl)).trans rfl
theorem o22_3 : (o22 x0 x1 x2 x3 x4 x5) 3 = .int (zI x3) := rfl
theorem o22s_3 : ju (o22 x0 x1 x2 x3 x4 x5) 3 (.int (zI y)) = o22 x0 x1 x2 y x4 x5 := (ju_jL (Nat.le_of_ble_eq_true rfl)).trans rfl
theorem o22_4 : (o22 x0 x1 x2 x3 x4 x5) 4 = .int (zI x4) := rfl
theorem o22s_4 : ju (o22 x0 x1 x2 x3 x4 x5) 4 (.int (zI y)) = o22 x0 x1 x2 x3 y x5 := (ju_jL (Nat.le_of_ble_eq_true rfl)).trans rfl
theorem o22_5 : (o22 x0 x1 x2 x3 x4 x5) 5 = x5 := rfl
theorem o22s_5 : ju (o22 x0 x1 x2 x3 x4 x5) 5 (w) = o22 x0 x1 x2 x3 x4 w := (ju_jL (Nat.le_of_ble_eq_true rfl)).trans rfl
end
theorem n22 : jL [.int (zI 0), .int (zI 0), .int (zI 0), .int (zI 0), .int (zI 0), .null] = o22 0 0 0 0 0 .null := rfl
/-- FollowingRefs$Row: number table cells -/
def o23 (x0 : Int) (x1 : Int) (x2 : Value) : Nat → Value := jL [.int (zI x0), .int (zI x1), x2]
section
variable {x0 : Int} {x1 : Int} {x2 : Value} {y : Int} {w : Value}
theorem o23_0 : (o23 x0 x1 x2) 0 = .int (zI x0) := rfl
theorem o23s_0 : ju (o23 x0 x1 x2) 0 (.int (zI y)) = o23 y x1 x2 := (ju_jL (Nat.le_of_ble_eq_true rfl)).trans rfl
theorem o23_1 : (o23 x0 x1 x2) 1 = .int (zI x1) := rfl
theorem o23s_1 : ju (o23 x0 x1 x2) 1 (.int (zI y)) = o23 x0 y x2 := (ju_jL (Nat.le_of_ble_eq_true rfl)).trans rfl
theorem o23_2 : (o23 x0 x1 x2) 2 = x2 := rfl
theorem o23s_2 : ju (o23 x0 x1 x2) 2 (w) = o23 x0 x1 w := (ju_jL (Nat.le_of_ble_eq_true rfl)).trans rfl
end
theorem n23 : jL [.int (zI 0), .int (zI 0), .null] = o23 0 0 .null := rfl
/-- FollowingRefs$Violation: kind table number row -/
def o24 (x0 : Int) (x1 : Int) (x2 : Int) (x3 : Int) : Nat → Value := jL [.int (zI x0), .int (zI x1), .int (zI x2), .int (zI x3)]
section
variable {x0 : Int} {x1 : Int} {x2 : Int} {x3 : Int} {y : Int} {w : Value}
theorem o24_0 : (o24 x0 x1 x2 x3) 0 = .int (zI x0) := rfl
theorem o24s_0 : ju (o24 x0 x1 x2 x3) 0 (.int (zI y)) = o24 y x1 x2 x3 := (ju_jL (Nat.le_of_ble_eq_true rfl)).trans rfl
theorem o24_1 : (o24 x0 x1 x2 x3) 1 = .int (zI x1) := rfl
theorem o24s_1 : ju (o24 x0 x1 x2 x3) 1 (.int (zI y)) = o24 x0 y x2 x3 := (ju_jL (Nat.le_of_ble_eq_true rfl)).trans rfl
theorem o24_2 : (o24 x0 x1 x2 x3) 2 = .int (zI x2) := rfl
theorem o24s_2 : ju (o24 x0 x1 x2 x3) 2 (.int (zI y)) = o24 x0 x1 y x3 := (ju_jL (Nat.le_of_ble_eq_true rfl)).trans rfl
theorem o24_3 : (o24 x0 x1 x2 x3) 3 = .int (zI x3) := rfl
theorem o24s_3 : ju (o24 x0 x1 x2 x3) 3 (.int (zI y)) = o24 x0 x1 x2 y := (ju_jL (Nat.le_of_ble_eq_true rfl)).trans rfl
end
theorem n24 : jL [.int (zI 0), .int (zI 0), .int (zI 0), .int (zI 0)] = o24 0 0 0 0 := rfl
/-- FollowingRefs$Turns: what -/
def o26 (x0 : Int) : Nat → Value := jL [.int (zI x0)]
section
variable {x0 : Int} {y : Int} {w : Value}
theorem o26_0 : (o26 x0) 0 = .int (zI x0) := rfl
theorem o26s_0 : ju (o26 x0) 0 (.int (zI y)) = o26 y := (ju_jL (Nat.le_of_ble_eq_true rfl)).trans rfl
end
theorem n26 : jL [.int (zI 0)] = o26 0 := rfl
/-- FollowingRefs$States: s -/
def o28 (x0 : Value) : Nat → Value := jL [x0]
section
variable {x0 : Value} {y : Int} {w : Value}
theorem o28_0 : (o28 x0) 0 = x0 := rfl
theorem o28s_0 : ju (o28 x0) 0 (w) = o28 w := (ju_jL (Nat.le_of_ble_eq_true rfl)).trans rfl
end
theorem n28 : jL [.null] = o28 .null := rfl
/-- FollowingRefs$Not: c -/
def o31 (x0 : Value) : Nat → Value := jL [x0]
section
variable {x0 : Value} {y : Int} {w : Value}
theorem o31_0 : (o31 x0) 0 = x0 := rfl
theorem o31s_0 : ju (o31 x0) 0 (w) = o31 w := (ju_jL (Nat.le_of_ble_eq_true rfl)).trans rfl
end
theorem n31 : jL [.null] = o31 .null := rfl
/-- FollowingRefs$IsWhat: what -/
def o32 (x0 : Int) : Nat → Value := jL [.int (zI x0)]
section
variable {x0 : Int} {y : Int} {w : Value}
theorem o32_0 : (o32 x0) 0 = .int (zI x0) := rfl
theorem o32s_0 : ju (o32 x0) 0 (.int (zI y)) = o32 y := (ju_jL (Nat.le_of_ble_eq_true rfl)).trans rfl
end
theorem n32 : jL [.int (zI 0)] = o32 0 := rfl
/-- FollowingRefs$InTable: table -/
def o33 (x0 : Int) : Nat → Value := jL [.int (zI x0)]
section
variable {x0 : Int} {y : Int} {w : Value}
theorem o33_0 : (o33 x0) 0 = .int (zI x0) := rfl
theorem o33s_0 : ju (o33 x0) 0 (.int (zI y)) = o33 y := (ju_jL (Nat.le_of_ble_eq_true rfl)).trans rfl
end
theorem n33 : jL [.int (zI 0)] = o33 0 := rfl
/-- FollowingRefs$Than: col sign number -/
def o34 (x0 : Value) (x1 : Int) (x2 : Int) : Nat → Value := jL [x0, .int (zI x1), .int (zI x2)]
section
variable {x0 : Value} {x1 : Int} {x2 : Int} {y : Int} {w : Value}
theorem o34_0 : (o34 x0 x1 x2) 0 = x0 := rfl
theorem o34s_0 : ju (o34 x0 x1 x2) 0 (w) = o34 w x1 x2 := (ju_jL (Nat.le_of_ble_eq_true rfl)).trans rfl
theorem o34_1 : (o34 x0 x1 x2) 1 = .int (zI x1) := rfl
theorem o34s_1 : ju (o34 x0 x1 x2) 1 (.int (zI y)) = o34 x0 y x2 := (ju_jL (Nat.le_of_ble_eq_true rfl)).trans rfl
theorem o34_2 : (o34 x0 x1 x2) 2 = .int (zI x2) := rfl
theorem o34s_2 : ju (o34 x0 x1 x2) 2 (.int (zI y)) = o34 x0 x1 y := (ju_jL (Nat.le_of_ble_eq_true rfl)).trans rfl
end
theorem n34 : jL [.null, .int (zI 0), .int (zI 0)] = o34 .null 0 0 := rfl
/-- FollowingRefs$Two: one other both -/
def o35 (x0 : Value) (x1 : Value) (x2 : Int) : Nat → Value := jL [x0, x1, .int (zI x2)]
section
variable {x0 : Value} {x1 : Value} {x2 : Int} {y : Int} {w : Value}
theorem o35_0 : (o35 x0 x1 x2) 0 = x0 := rfl
theorem o35s_0 : ju (o35 x0 x1 x2) 0 (w) = o35 w x1 x2 := (ju_jL (Nat.le_of_ble_eq_true rfl)).trans rfl
theorem o35_1 : (o35 x0 x1 x2) 1 = x1 := rfl
theorem o35s_1 : ju (o35 x0 x1 x2) 1 (w) = o35 x0 w x2 := (ju_jL (Nat.le_of_ble_eq_true rfl)).trans rfl
theorem o35_2 : (o35 x0 x1 x2) 2 = .int (zI x2) := rfl
theorem o35s_2 : ju (o35 x0 x1 x2) 2 (.int (zI y)) = o35 x0 x1 y := (ju_jL (Nat.le_of_ble_eq_true rfl)).trans rfl
end
theorem n35 : jL [.null, .null, .int (zI 0)] = o35 .null .null 0 := rfl
/-- LinkedList: modCount size first last -/
def o47 (x0 : Int) (x1 : Int) (x2 : Value) (x3 : Value) : Nat → Value := jL [.int (zI x0), .int (zI x1), x2, x3]
section
variable {x0 : Int} {x1 : Int} {x2 : Value} {x3 : Value} {y : Int} {w : Value}
theorem o47_0 : (o47 x0 x1 x2 x3) 0 = .int (zI x0) := rfl
theorem o47s_0 : ju (o47 x0 x1 x2 x3) 0 (.int (zI y)) = o47 y x1 x2 x3 := (ju_jL (Nat.le_of_ble_eq_true rfl)).trans rfl
theorem o47_1 : (o47 x0 x1 x2 x3) 1 = .int (zI x1) := rfl
theorem o47s_1 : ju (o47 x0 x1 x2 x3) 1 (.int (zI y)) = o47 x0 y x2 x3 := (ju_jL (Nat.le_of_ble_eq_true rfl)).trans rfl
theorem o47_2 : (o47 x0 x1 x2 x3) 2 = x2 := rfl
theorem o47s_2 : ju (o47 x0 x1 x2 x3) 2 (w) = o47 x0 x1 w x3 := (ju_jL (Nat.le_of_ble_eq_true rfl)).trans rfl
theorem o47_3 : (o47 x0 x1 x2 x3) 3 = x3 := rfl
theorem o47s_3 : ju (o47 x0 x1 x2 x3) 3 (w) = o47 x0 x1 x2 w := (ju_jL (Nat.le_of_ble_eq_true rfl)).trans rfl
end
theorem n47 : jL [.int (zI 0), .int (zI 0), .null, .null] = o47 0 0 .null .null := rfl
/-- LinkedList$Node: item next prev -/
def o70 (x0 : Value) (x1 : Value) (x2 : Value) : Nat → Value := jL [x0, x1, x2]
section
variable {x0 : Value} {x1 : Value} {x2 : Value} {y : Int} {w : Value}
theorem o70_0 : (o70 x0 x1 x2) 0 = x0 := rfl
theorem o70s_0 : ju (o70 x0 x1 x2) 0 (w) = o70 w x1 x2 := (ju_jL (Nat.le_of_ble_eq_true rfl)).trans rfl
theorem o70_1 : (o70 x0 x1 x2) 1 = x1 := rfl
theorem o70s_1 : ju (o70 x0 x1 x2) 1 (w) = o70 x0 w x2 := (ju_jL (Nat.le_of_ble_eq_true rfl)).trans rfl
theorem o70_2 : (o70 x0 x1 x2) 2 = x2 := rfl
theorem o70s_2 : ju (o70 x0 x1 x2) 2 (w) = o70 x0 x1 w := (ju_jL (Nat.le_of_ble_eq_true rfl)).trans rfl
end
theorem n70 : jL [.null, .null, .null] = o70 .null .null .null := rfl
/-- ComparableTimSort: a minGallop tmp tmpBase tmpLen stackSize runBase runLen -/
def o72 (x0 : Value) (x1 : Int) (x2 : Value) (x3 : Int) (x4 : Int) (x5 : Int) (x6 : Value) (x7 : Value) : Nat → Value := jL [x0, .int (zI x1), x2, .int (zI x3), .int (zI x4), .int (zI x5), x6, x7]
section
variable {x0 : Value} {x1 : Int} {x2 : Value} {x3 : Int} {x4 : Int} {x5 : Int} {x6 : Value} {x7 : Value} {y : Int} {w : Value}
theorem o72_0 : (o72 x0 x1 x2 x3 x4 x5 x6 x7) 0 = x0 := rfl
theorem o72s_0 : ju (o72 x0 x1 x2 x3 x4 x5 x6 x7) 0 (w) = o72 w x1 x2 x3 x4 x5 x6 x7 := (ju_jL (Nat.le_of_ble_eq_true rfl)).trans rfl
theorem o72_1 : (o72 x0 x1 x2 x3 x4 x5 x6 x7) 1 = .int (zI x1) := rfl
theorem o72s_1 : ju (o72 x0 x1 x2 x3 x4 x5 x6 x7) 1 (.int (zI y)) = o72 x0 y x2 x3 x4 x5 x6 x7 := (ju_jL (Nat.le_of_ble_eq_true rfl)).trans rfl
theorem o72_2 : (o72 x0 x1 x2 x3 x4 x5 x6 x7) 2 = x2 := rfl
theorem o72s_2 : ju (o72 x0 x1 x2 x3 x4 x5 x6 x7) 2 (w) = o72 x0 x1 w x3 x4 x5 x6 x7 := (ju_jL (Nat.le_of_ble_eq_true rfl)).trans rfl
theorem o72_3 : (o72 x0 x1 x2 x3 x4 x5 x6 x7) 3 = .int (zI x3) := rfl
theorem o72s_3 : ju (o72 x0 x1 x2 x3 x4 x5 x6 x7) 3 (.int (zI y)) = o72 x0 x1 x2 y x4 x5 x6 x7 := (ju_jL (Nat.le_of_ble_eq_true rfl)).trans rfl
theorem o72_4 : (o72 x0 x1 x2 x3 x4 x5 x6 x7) 4 = .int (zI x4) := rfl
theorem o72s_4 : ju (o72 x0 x1 x2 x3 x4 x5 x6 x7) 4 (.int (zI y)) = o72 x0 x1 x2 x3 y x5 x6 x7 := (ju_jL (Nat.le_of_ble_eq_true rfl)).trans rfl
theorem o72_5 : (o72 x0 x1 x2 x3 x4 x5 x6 x7) 5 = .int (zI x5) := rfl
theorem o72s_5 : ju (o72 x0 x1 x2 x3 x4 x5 x6 x7) 5 (.int (zI y)) = o72 x0 x1 x2 x3 x4 y x6 x7 := (ju_jL (Nat.le_of_ble_eq_true rfl)).trans rfl
theorem o72_6 : (o72 x0 x1 x2 x3 x4 x5 x6 x7) 6 = x6 := rfl
theorem o72s_6 : ju (o72 x0 x1 x2 x3 x4 x5 x6 x7) 6 (w) = o72 x0 x1 x2 x3 x4 x5 w x7 := (ju_jL (Nat.le_of_ble_eq_true rfl)).trans rfl
theorem o72_7 : (o72 x0 x1 x2 x3 x4 x5 x6 x7) 7 = x7 := rfl
theorem o72s_7 : ju (o72 x0 x1 x2 x3 x4 x5 x6 x7) 7 (w) = o72 x0 x1 x2 x3 x4 x5 x6 w := (ju_jL (Nat.le_of_ble_eq_true rfl)).trans rfl
end
theorem n72 : jL [.null, .int (zI 0), .null, .int (zI 0), .int (zI 0), .int (zI 0), .null, .null] = o72 .null 0 .null 0 0 0 .null .null := rfl
/-- LinkedList$ListItr: lastReturned next nextIndex expectedModCount this$0 -/
def o77 (x0 : Value) (x1 : Value) (x2 : Int) (x3 : Int) (x4 : Value) : Nat → Value := jL [x0, x1, .int (zI x2), .int (zI x3), x4]
section
variable {x0 : Value} {x1 : Value} {x2 : Int} {x3 : Int} {x4 : Value} {y : Int} {w : Value}
theorem o77_0 : (o77 x0 x1 x2 x3 x4) 0 = x0 := rfl
theorem o77s_0 : ju (o77 x0 x1 x2 x3 x4) 0 (w) = o77 w x1 x2 x3 x4 := (ju_jL (Nat.le_of_ble_eq_true rfl)).trans rfl
theorem o77_1 : (o77 x0 x1 x2 x3 x4) 1 = x1 := rfl
theorem o77s_1 : ju (o77 x0 x1 x2 x3 x4) 1 (w) = o77 x0 w x2 x3 x4 := (ju_jL (Nat.le_of_ble_eq_true rfl)).trans rfl
theorem o77_2 : (o77 x0 x1 x2 x3 x4) 2 = .int (zI x2) := rfl
theorem o77s_2 : ju (o77 x0 x1 x2 x3 x4) 2 (.int (zI y)) = o77 x0 x1 y x3 x4 := (ju_jL (Nat.le_of_ble_eq_true rfl)).trans rfl
theorem o77_3 : (o77 x0 x1 x2 x3 x4) 3 = .int (zI x3) := rfl
theorem o77s_3 : ju (o77 x0 x1 x2 x3 x4) 3 (.int (zI y)) = o77 x0 x1 x2 y x4 := (ju_jL (Nat.le_of_ble_eq_true rfl)).trans rfl
theorem o77_4 : (o77 x0 x1 x2 x3 x4) 4 = x4 := rfl
theorem o77s_4 : ju (o77 x0 x1 x2 x3 x4) 4 (w) = o77 x0 x1 x2 x3 w := (ju_jL (Nat.le_of_ble_eq_true rfl)).trans rfl
end
theorem n77 : jL [.null, .null, .int (zI 0), .int (zI 0), .null] = o77 .null .null 0 0 .null := rfl
/-- Integer: value -/
def o62 (x0 : Int) : Nat → Value := jL [.int (zI x0)]
section
variable {x0 : Int} {y : Int} {w : Value}
theorem o62_0 : (o62 x0) 0 = .int (zI x0) := rfl
theorem o62s_0 : ju (o62 x0) 0 (.int (zI y)) = o62 y := (ju_jL (Nat.le_of_ble_eq_true rfl)).trans rfl
end
theorem n62 : jL [.int (zI 0)] = o62 0 := rfl
