set_option maxRecDepth 100000
/-! java/lang/Integer.numberOfLeadingZeros(I)I -/
abbrev cJ21_numberOfLeadingZeros : ByteArray := prog_44_method_47_code
def dkwJ21_numberOfLeadingZeros_3 : List UInt8 := [5, 124, 59, 27, 26, 4, 124, 100, 172]
abbrev dktJ21_numberOfLeadingZeros_3 : List UInt8 := dkwJ21_numberOfLeadingZeros_3 ++ []
def dkwJ21_numberOfLeadingZeros_2 : List UInt8 := [124, 59, 26, 16, 16, 161, 0, 10, 132, 1, 252, 26, 7, 124, 59, 26, 7, 161, 0, 10, 132, 1, 254, 26]
abbrev dktJ21_numberOfLeadingZeros_2 : List UInt8 := dkwJ21_numberOfLeadingZeros_2 ++ dktJ21_numberOfLeadingZeros_3
def dkwJ21_numberOfLeadingZeros_1 : List UInt8 := [161, 0, 11, 132, 1, 240, 26, 16, 16, 124, 59, 26, 17, 1, 0, 161, 0, 11, 132, 1, 248, 26, 16, 8]
abbrev dktJ21_numberOfLeadingZeros_1 : List UInt8 := dkwJ21_numberOfLeadingZeros_1 ++ dktJ21_numberOfLeadingZeros_2
def dkwJ21_numberOfLeadingZeros_0 : List UInt8 := [26, 157, 0, 14, 26, 154, 0, 8, 16, 32, 167, 0, 4, 3, 172, 16, 31, 60, 26, 19, 1, 8]
abbrev dktJ21_numberOfLeadingZeros_0 : List UInt8 := dkwJ21_numberOfLeadingZeros_0 ++ dktJ21_numberOfLeadingZeros_1
theorem dksJ21_numberOfLeadingZeros_0 : cJ21_numberOfLeadingZeros.data.toList.drop 0 = dktJ21_numberOfLeadingZeros_0 := by decide +kernel
theorem dksJ21_numberOfLeadingZeros_1 : cJ21_numberOfLeadingZeros.data.toList.drop 22 = dktJ21_numberOfLeadingZeros_1 := dk_seg dksJ21_numberOfLeadingZeros_0 22 rfl rfl
theorem dksJ21_numberOfLeadingZeros_2 : cJ21_numberOfLeadingZeros.data.toList.drop 46 = dktJ21_numberOfLeadingZeros_2 := dk_seg dksJ21_numberOfLeadingZeros_1 24 rfl rfl
theorem dksJ21_numberOfLeadingZeros_3 : cJ21_numberOfLeadingZeros.data.toList.drop 70 = dktJ21_numberOfLeadingZeros_3 := dk_seg dksJ21_numberOfLeadingZeros_2 24 rfl rfl
theorem dJ21_numberOfLeadingZeros_0 : decode cJ21_numberOfLeadingZeros 0 = .ok (.iload_n 0, 1) := dk_26 (dk_at dksJ21_numberOfLeadingZeros_0 0 rfl rfl)
theorem dJ21_numberOfLeadingZeros_1 : decode cJ21_numberOfLeadingZeros 1 = .ok (.ifCond .gt 14, 3) := dk_157 0 14 (dk_at dksJ21_numberOfLeadingZeros_0 1 rfl rfl)
theorem dJ21_numberOfLeadingZeros_4 : decode cJ21_numberOfLeadingZeros 4 = .ok (.iload_n 0, 1) := dk_26 (dk_at dksJ21_numberOfLeadingZeros_0 4 rfl rfl)
theorem dJ21_numberOfLeadingZeros_5 : decode cJ21_numberOfLeadingZeros 5 = .ok (.ifCond .ne 8, 3) := dk_154 0 8 (dk_at dksJ21_numberOfLeadingZeros_0 5 rfl rfl)
theorem dJ21_numberOfLeadingZeros_8 : decode cJ21_numberOfLeadingZeros 8 = .ok (.bipush 32, 2) := dk_16 32 (dk_at dksJ21_numberOfLeadingZeros_0 8 rfl rfl)
theorem dJ21_numberOfLeadingZeros_10 : decode cJ21_numberOfLeadingZeros 10 = .ok (.goto 4, 3) := dk_167 0 4 (dk_at dksJ21_numberOfLeadingZeros_0 10 rfl rfl)
theorem dJ21_numberOfLeadingZeros_13 : decode cJ21_numberOfLeadingZeros 13 = .ok (.iconst 0, 1) := dk_3 (dk_at dksJ21_numberOfLeadingZeros_0 13 rfl rfl)
theorem dJ21_numberOfLeadingZeros_14 : decode cJ21_numberOfLeadingZeros 14 = .ok (.ireturn, 1) := dk_172 (dk_at dksJ21_numberOfLeadingZeros_0 14 rfl rfl)
theorem dJ21_numberOfLeadingZeros_15 : decode cJ21_numberOfLeadingZeros 15 = .ok (.bipush 31, 2) := dk_16 31 (dk_at dksJ21_numberOfLeadingZeros_0 15 rfl rfl)
theorem dJ21_numberOfLeadingZeros_17 : decode cJ21_numberOfLeadingZeros 17 = .ok (.istore_n 1, 1) := dk_60 (dk_at dksJ21_numberOfLeadingZeros_0 17 rfl rfl)
theorem dJ21_numberOfLeadingZeros_18 : decode cJ21_numberOfLeadingZeros 18 = .ok (.iload_n 0, 1) := dk_26 (dk_at dksJ21_numberOfLeadingZeros_0 18 rfl rfl)
theorem dJ21_numberOfLeadingZeros_19 : decode cJ21_numberOfLeadingZeros 19 = .ok (.ldc_w 264, 3) := dk_19 1 8 (dk_at dksJ21_numberOfLeadingZeros_0 19 rfl rfl)
theorem dJ21_numberOfLeadingZeros_22 : decode cJ21_numberOfLeadingZeros 22 = .ok (.if_icmp .lt 11, 3) := dk_161 0 11 (dk_at dksJ21_numberOfLeadingZeros_1 0 rfl rfl)
theorem dJ21_numberOfLeadingZeros_25 : decode cJ21_numberOfLeadingZeros 25 = .ok (.iinc 1 (-16), 3) := dk_132 1 240 (dk_at dksJ21_numberOfLeadingZeros_1 3 rfl rfl)
theorem dJ21_numberOfLeadingZeros_28 : decode cJ21_numberOfLeadingZeros 28 = .ok (.iload_n 0, 1) := dk_26 (dk_at dksJ21_numberOfLeadingZeros_1 6 rfl rfl)
theorem dJ21_numberOfLeadingZeros_29 : decode cJ21_numberOfLeadingZeros 29 = .ok (.bipush 16, 2) := dk_16 16 (dk_at dksJ21_numberOfLeadingZeros_1 7 rfl rfl)
theorem dJ21_numberOfLeadingZeros_31 : decode cJ21_numberOfLeadingZeros 31 = .ok (.iushr, 1) := dk_124 (dk_at dksJ21_numberOfLeadingZeros_1 9 rfl rfl)
theorem dJ21_numberOfLeadingZeros_32 : decode cJ21_numberOfLeadingZeros 32 = .ok (.istore_n 0, 1) := dk_59 (dk_at dksJ21_numberOfLeadingZeros_1 10 rfl rfl)
theorem dJ21_numberOfLeadingZeros_33 : decode cJ21_numberOfLeadingZeros 33 = .ok (.iload_n 0, 1) := dk_26 (dk_at dksJ21_numberOfLeadingZeros_1 11 rfl rfl)
theorem dJ21_numberOfLeadingZeros_34 : decode cJ21_numberOfLeadingZeros 34 = .ok (.sipush 256, 3) := dk_17 1 0 (dk_at dksJ21_numberOfLeadingZeros_1 12 rfl rfl)
theorem dJ21_numberOfLeadingZeros_37 : decode cJ21_numberOfLeadingZeros 37 = .ok (.if_icmp .lt 11, 3) := dk_161 0 11 (dk_at dksJ21_numberOfLeadingZeros_1 15 rfl rfl)
theorem dJ21_numberOfLeadingZeros_40 : decode cJ21_numberOfLeadingZeros 40 = .ok (.iinc 1 (-8), 3) := dk_132 1 248 (dk_at dksJ21_numberOfLeadingZeros_1 18 rfl rfl)
theorem dJ21_numberOfLeadingZeros_43 : decode cJ21_numberOfLeadingZeros 43 = .ok (.iload_n 0, 1) := dk_26 (dk_at dksJ21_numberOfLeadingZeros_1 21 rfl rfl)
theorem dJ21_numberOfLeadingZeros_44 : decode cJ21_numberOfLeadingZeros 44 = .ok (.bipush 8, 2) := dk_16 8 (dk_at dksJ21_numberOfLeadingZeros_1 22 rfl rfl)
theorem dJ21_numberOfLeadingZeros_46 : decode cJ21_numberOfLeadingZeros 46 = .ok (.iushr, 1) := dk_124 (dk_at dksJ21_numberOfLeadingZeros_2 0 rfl rfl)
theorem dJ21_numberOfLeadingZeros_47 : decode cJ21_numberOfLeadingZeros 47 = .ok (.istore_n 0, 1) := dk_59 (dk_at dksJ21_numberOfLeadingZeros_2 1 rfl rfl)
theorem dJ21_numberOfLeadingZeros_48 : decode cJ21_numberOfLeadingZeros 48 = .ok (.iload_n 0, 1) := dk_26 (dk_at dksJ21_numberOfLeadingZeros_2 2 rfl rfl)
theorem dJ21_numberOfLeadingZeros_49 : decode cJ21_numberOfLeadingZeros 49 = .ok (.bipush 16, 2) := dk_16 16 (dk_at dksJ21_numberOfLeadingZeros_2 3 rfl rfl)
theorem dJ21_numberOfLeadingZeros_51 : decode cJ21_numberOfLeadingZeros 51 = .ok (.if_icmp .lt 10, 3) := dk_161 0 10 (dk_at dksJ21_numberOfLeadingZeros_2 5 rfl rfl)
theorem dJ21_numberOfLeadingZeros_54 : decode cJ21_numberOfLeadingZeros 54 = .ok (.iinc 1 (-4), 3) := dk_132 1 252 (dk_at dksJ21_numberOfLeadingZeros_2 8 rfl rfl)
theorem dJ21_numberOfLeadingZeros_57 : decode cJ21_numberOfLeadingZeros 57 = .ok (.iload_n 0, 1) := dk_26 (dk_at dksJ21_numberOfLeadingZeros_2 11 rfl rfl)
theorem dJ21_numberOfLeadingZeros_58 : decode cJ21_numberOfLeadingZeros 58 = .ok (.iconst 4, 1) := dk_7 (dk_at dksJ21_numberOfLeadingZeros_2 12 rfl rfl)
theorem dJ21_numberOfLeadingZeros_59 : decode cJ21_numberOfLeadingZeros 59 = .ok (.iushr, 1) := dk_124 (dk_at dksJ21_numberOfLeadingZeros_2 13 rfl rfl)
theorem dJ21_numberOfLeadingZeros_60 : decode cJ21_numberOfLeadingZeros 60 = .ok (.istore_n 0, 1) := dk_59 (dk_at dksJ21_numberOfLeadingZeros_2 14 rfl rfl)
theorem dJ21_numberOfLeadingZeros_61 : decode cJ21_numberOfLeadingZeros 61 = .ok (.iload_n 0, 1) := dk_26 (dk_at dksJ21_numberOfLeadingZeros_2 15 rfl rfl)
theorem dJ21_numberOfLeadingZeros_62 : decode cJ21_numberOfLeadingZeros 62 = .ok (.iconst 4, 1) := dk_7 (dk_at dksJ21_numberOfLeadingZeros_2 16 rfl rfl)
theorem dJ21_numberOfLeadingZeros_63 : decode cJ21_numberOfLeadingZeros 63 = .ok (.if_icmp .lt 10, 3) := dk_161 0 10 (dk_at dksJ21_numberOfLeadingZeros_2 17 rfl rfl)
theorem dJ21_numberOfLeadingZeros_66 : decode cJ21_numberOfLeadingZeros 66 = .ok (.iinc 1 (-2), 3) := dk_132 1 254 (dk_at dksJ21_numberOfLeadingZeros_2 20 rfl rfl)
theorem dJ21_numberOfLeadingZeros_69 : decode cJ21_numberOfLeadingZeros 69 = .ok (.iload_n 0, 1) := dk_26 (dk_at dksJ21_numberOfLeadingZeros_2 23 rfl rfl)
theorem dJ21_numberOfLeadingZeros_70 : decode cJ21_numberOfLeadingZeros 70 = .ok (.iconst 2, 1) := dk_5 (dk_at dksJ21_numberOfLeadingZeros_3 0 rfl rfl)
theorem dJ21_numberOfLeadingZeros_71 : decode cJ21_numberOfLeadingZeros 71 = .ok (.iushr, 1) := dk_124 (dk_at dksJ21_numberOfLeadingZeros_3 1 rfl rfl)
theorem dJ21_numberOfLeadingZeros_72 : decode cJ21_numberOfLeadingZeros 72 = .ok (.istore_n 0, 1) := dk_59 (dk_at dksJ21_numberOfLeadingZeros_3 2 rfl rfl)
theorem dJ21_numberOfLeadingZeros_73 : decode cJ21_numberOfLeadingZeros 73 = .ok (.iload_n 1, 1) := dk_27 (dk_at dksJ21_numberOfLeadingZeros_3 3 rfl rfl)
theorem dJ21_numberOfLeadingZeros_74 : decode cJ21_numberOfLeadingZeros 74 = .ok (.iload_n 0, 1) := dk_26 (dk_at dksJ21_numberOfLeadingZeros_3 4 rfl rfl)
theorem dJ21_numberOfLeadingZeros_75 : decode cJ21_numberOfLeadingZeros 75 = .ok (.iconst 1, 1) := dk_4 (dk_at dksJ21_numberOfLeadingZeros_3 5 rfl rfl)
theorem dJ21_numberOfLeadingZeros_76 : decode cJ21_numberOfLeadingZeros 76 = .ok (.iushr, 1) := dk_124 (dk_at dksJ21_numberOfLeadingZeros_3 6 rfl rfl)
theorem dJ21_numberOfLeadingZeros_77 : decode cJ21_numberOfLeadingZeros 77 = .ok (.isub, 1) := dk_100 (dk_at dksJ21_numberOfLeadingZeros_3 7 rfl rfl)
theorem dJ21_numberOfLeadingZeros_78 : decode cJ21_numberOfLeadingZeros 78 = .ok (.ireturn, 1) := dk_172 (dk_at dksJ21_numberOfLeadingZeros_3 8 rfl rfl)
theorem c62006 : jtCode 62006 = cJ21_numberOfLeadingZeros := rfl
theorem F62006_0 (d : Nat) (i0 : Int32) (h : AH) : G2 d 62006 0 [.int i0, jno] [] h = if 0 < i0 then (if i0 < 65536 then (G2 d 62006 33 [.int i0, .int 31] [] h) else (G2 d 62006 33 [.int ((i0.toUInt32 >>> ((16 : Int32).toUInt32 &&& Int32.toUInt32 31)).toInt32), .int (31 + (-16))] [] h)) else (if i0 = 0 then (some (.inl (some (.int 32)), h)) else (some (.inl (some (.int 0)), h))) := by
  refine (g_iload_nH c62006 dJ21_numberOfLeadingZeros_0 rfl).trans ?_
  refine (g_if_gtH (tgt := 15) c62006 dJ21_numberOfLeadingZeros_1 rfl).trans (if_cg ?_ ?_)
  · skip
    refine (g_bipushH (x := 31) c62006 dJ21_numberOfLeadingZeros_15 rfl).trans ?_
    refine (g_istore_nH (L' := [.int i0, .int 31]) c62006 dJ21_numberOfLeadingZeros_17 rfl rfl).trans ?_
    refine (g_iload_nH c62006 dJ21_numberOfLeadingZeros_18 rfl).trans ?_
    refine (g_ldcwIH (x := 65536) c62006 dJ21_numberOfLeadingZeros_19 rfl rfl).trans ?_
    refine (g_icmp_ltH (tgt := 33) c62006 dJ21_numberOfLeadingZeros_22 rfl).trans (if_cg ?_ ?_)
    · skip
      rfl
    · skip
      refine (g_iincH (c := (-16)) (L' := [.int i0, .int (31 + (-16))]) c62006 dJ21_numberOfLeadingZeros_25 rfl rfl rfl rfl).trans ?_
      refine (g_iload_nH c62006 dJ21_numberOfLeadingZeros_28 rfl).trans ?_
      refine (g_bipushH (x := 16) c62006 dJ21_numberOfLeadingZeros_29 rfl).trans ?_
      refine (g_iushrH c62006 dJ21_numberOfLeadingZeros_31).trans ?_
      refine (g_istore_nH (L' := [.int ((i0.toUInt32 >>> ((16 : Int32).toUInt32 &&& Int32.toUInt32 31)).toInt32), .int (31 + (-16))]) c62006 dJ21_numberOfLeadingZeros_32 rfl rfl).trans ?_
      rfl
  · skip
    refine (g_iload_nH c62006 dJ21_numberOfLeadingZeros_4 rfl).trans ?_
    refine (g_if_neH (tgt := 13) c62006 dJ21_numberOfLeadingZeros_5 rfl).trans (if_cg ?_ ?_)
    · skip
      refine (g_bipushH (x := 32) c62006 dJ21_numberOfLeadingZeros_8 rfl).trans ?_
      refine (g_gotoH (tgt := 14) c62006 dJ21_numberOfLeadingZeros_10 rfl).trans ?_
      exact g_ireturnH c62006 dJ21_numberOfLeadingZeros_14 rfl
    · skip
      refine (g_iconstH (x := 0) c62006 dJ21_numberOfLeadingZeros_13 rfl).trans ?_
      exact g_ireturnH c62006 dJ21_numberOfLeadingZeros_14 rfl
theorem F62006_33 (d : Nat) (i0 : Int32) (i1 : Int32) (h : AH) : G2 d 62006 33 [.int i0, .int i1] [] h = if i0 < 256 then (if i0 < 16 then (G2 d 62006 61 [.int i0, .int i1] [] h) else (G2 d 62006 61 [.int ((i0.toUInt32 >>> ((4 : Int32).toUInt32 &&& Int32.toUInt32 31)).toInt32), .int (i1 + (-4))] [] h)) else (if ((i0.toUInt32 >>> ((8 : Int32).toUInt32 &&& Int32.toUInt32 31)).toInt32) < 16 then (G2 d 62006 61 [.int ((i0.toUInt32 >>> ((8 : Int32).toUInt32 &&& Int32.toUInt32 31)).toInt32), .int (i1 + (-8))] [] h) else (G2 d 62006 61 [.int ((((i0.toUInt32 >>> ((8 : Int32).toUInt32 &&& Int32.toUInt32 31)).toInt32).toUInt32 >>> ((4 : Int32).toUInt32 &&& Int32.toUInt32 31)).toInt32), .int ((i1 + (-8)) + (-4))] [] h)) := by
  refine (g_iload_nH c62006 dJ21_numberOfLeadingZeros_33 rfl).trans ?_
  refine (g_sipushH (x := 256) c62006 dJ21_numberOfLeadingZeros_34 rfl).trans ?_
  refine (g_icmp_ltH (tgt := 48) c62006 dJ21_numberOfLeadingZeros_37 rfl).trans (if_cg ?_ ?_)
  · skip
    refine (g_iload_nH c62006 dJ21_numberOfLeadingZeros_48 rfl).trans ?_
    refine (g_bipushH (x := 16) c62006 dJ21_numberOfLeadingZeros_49 rfl).trans ?_
    refine (g_icmp_ltH (tgt := 61) c62006 dJ21_numberOfLeadingZeros_51 rfl).trans (if_cg ?_ ?_)
    · skip
      rfl
    · skip
      refine (g_iincH (c := (-4)) (L' := [.int i0, .int (i1 + (-4))]) c62006 dJ21_numberOfLeadingZeros_54 rfl rfl rfl rfl).trans ?_
      refine (g_iload_nH c62006 dJ21_numberOfLeadingZeros_57 rfl).trans ?_
      refine (g_iconstH (x := 4) c62006 dJ21_numberOfLeadingZeros_58 rfl).trans ?_
      refine (g_iushrH c62006 dJ21_numberOfLeadingZeros_59).trans ?_
      refine (g_istore_nH (L' := [.int ((i0.toUInt32 >>> ((4 : Int32).toUInt32 &&& Int32.toUInt32 31)).toInt32), .int (i1 + (-4))]) c62006 dJ21_numberOfLeadingZeros_60 rfl rfl).trans ?_
      rfl
  · skip
    refine (g_iincH (c := (-8)) (L' := [.int i0, .int (i1 + (-8))]) c62006 dJ21_numberOfLeadingZeros_40 rfl rfl rfl rfl).trans ?_
    refine (g_iload_nH c62006 dJ21_numberOfLeadingZeros_43 rfl).trans ?_
    refine (g_bipushH (x := 8) c62006 dJ21_numberOfLeadingZeros_44 rfl).trans ?_
    refine (g_iushrH c62006 dJ21_numberOfLeadingZeros_46).trans ?_
    refine (g_istore_nH (L' := [.int ((i0.toUInt32 >>> ((8 : Int32).toUInt32 &&& Int32.toUInt32 31)).toInt32), .int (i1 + (-8))]) c62006 dJ21_numberOfLeadingZeros_47 rfl rfl).trans ?_
    refine (g_iload_nH c62006 dJ21_numberOfLeadingZeros_48 rfl).trans ?_
    refine (g_bipushH (x := 16) c62006 dJ21_numberOfLeadingZeros_49 rfl).trans ?_
    refine (g_icmp_ltH (tgt := 61) c62006 dJ21_numberOfLeadingZeros_51 rfl).trans (if_cg ?_ ?_)
    · skip
      rfl
    · skip
      refine (g_iincH (c := (-4)) (L' := [.int ((i0.toUInt32 >>> ((8 : Int32).toUInt32 &&& Int32.toUInt32 31)).toInt32), .int ((i1 + (-8)) + (-4))]) c62006 dJ21_numberOfLeadingZeros_54 rfl rfl rfl rfl).trans ?_
      refine (g_iload_nH c62006 dJ21_numberOfLeadingZeros_57 rfl).trans ?_
      refine (g_iconstH (x := 4) c62006 dJ21_numberOfLeadingZeros_58 rfl).trans ?_
      refine (g_iushrH c62006 dJ21_numberOfLeadingZeros_59).trans ?_
      refine (g_istore_nH (L' := [.int ((((i0.toUInt32 >>> ((8 : Int32).toUInt32 &&& Int32.toUInt32 31)).toInt32).toUInt32 >>> ((4 : Int32).toUInt32 &&& Int32.toUInt32 31)).toInt32), .int ((i1 + (-8)) + (-4))]) c62006 dJ21_numberOfLeadingZeros_60 rfl rfl).trans ?_
      rfl
theorem F62006_61 (d : Nat) (i0 : Int32) (i1 : Int32) (h : AH) : G2 d 62006 61 [.int i0, .int i1] [] h = if i0 < 4 then (some (.inl (some (.int (i1 - ((i0.toUInt32 >>> ((1 : Int32).toUInt32 &&& Int32.toUInt32 31)).toInt32)))), h)) else (some (.inl (some (.int ((i1 + (-2)) - ((((i0.toUInt32 >>> ((2 : Int32).toUInt32 &&& Int32.toUInt32 31)).toInt32).toUInt32 >>> ((1 : Int32).toUInt32 &&& Int32.toUInt32 31)).toInt32)))), h)) := by
  refine (g_iload_nH c62006 dJ21_numberOfLeadingZeros_61 rfl).trans ?_
  refine (g_iconstH (x := 4) c62006 dJ21_numberOfLeadingZeros_62 rfl).trans ?_
  refine (g_icmp_ltH (tgt := 73) c62006 dJ21_numberOfLeadingZeros_63 rfl).trans (if_cg ?_ ?_)
  · skip
    refine (g_iload_nH c62006 dJ21_numberOfLeadingZeros_73 rfl).trans ?_
    refine (g_iload_nH c62006 dJ21_numberOfLeadingZeros_74 rfl).trans ?_
    refine (g_iconstH (x := 1) c62006 dJ21_numberOfLeadingZeros_75 rfl).trans ?_
    refine (g_iushrH c62006 dJ21_numberOfLeadingZeros_76).trans ?_
    refine (g_isubH c62006 dJ21_numberOfLeadingZeros_77).trans ?_
    exact g_ireturnH c62006 dJ21_numberOfLeadingZeros_78 rfl
  · skip
    refine (g_iincH (c := (-2)) (L' := [.int i0, .int (i1 + (-2))]) c62006 dJ21_numberOfLeadingZeros_66 rfl rfl rfl rfl).trans ?_
    refine (g_iload_nH c62006 dJ21_numberOfLeadingZeros_69 rfl).trans ?_
    refine (g_iconstH (x := 2) c62006 dJ21_numberOfLeadingZeros_70 rfl).trans ?_
    refine (g_iushrH c62006 dJ21_numberOfLeadingZeros_71).trans ?_
    refine (g_istore_nH (L' := [.int ((i0.toUInt32 >>> ((2 : Int32).toUInt32 &&& Int32.toUInt32 31)).toInt32), .int (i1 + (-2))]) c62006 dJ21_numberOfLeadingZeros_72 rfl rfl).trans ?_
    refine (g_iload_nH c62006 dJ21_numberOfLeadingZeros_73 rfl).trans ?_
    refine (g_iload_nH c62006 dJ21_numberOfLeadingZeros_74 rfl).trans ?_
    refine (g_iconstH (x := 1) c62006 dJ21_numberOfLeadingZeros_75 rfl).trans ?_
    refine (g_iushrH c62006 dJ21_numberOfLeadingZeros_76).trans ?_
    refine (g_isubH c62006 dJ21_numberOfLeadingZeros_77).trans ?_
    exact g_ireturnH c62006 dJ21_numberOfLeadingZeros_78 rfl
theorem Y62006 {d : Nat} {i0 : Int32} (h : AH) : M2 (d + 1) 62006 [.int i0] h = G2 d 62006 0 [.int i0, jno] [] h := M2_eq rfl rfl rfl rfl
