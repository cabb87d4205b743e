set_option maxRecDepth 100000
/-! java/util/AbstractCollection.isEmpty()Z -/
abbrev cJ0_isEmpty : ByteArray := prog_59_method_4_code
def dkwJ0_isEmpty_0 : List UInt8 := [42, 182, 0, 7, 154, 0, 7, 4, 167, 0, 4, 3, 172]
abbrev dktJ0_isEmpty_0 : List UInt8 := dkwJ0_isEmpty_0 ++ []
theorem dksJ0_isEmpty_0 : cJ0_isEmpty.data.toList.drop 0 = dktJ0_isEmpty_0 := by decide +kernel
theorem dJ0_isEmpty_0 : decode cJ0_isEmpty 0 = .ok (.aload_n 0, 1) := dk_42 (dk_at dksJ0_isEmpty_0 0 rfl rfl)
theorem dJ0_isEmpty_1 : decode cJ0_isEmpty 1 = .ok (.invokevirtual 7, 3) := dk_182 0 7 (dk_at dksJ0_isEmpty_0 1 rfl rfl)
theorem dJ0_isEmpty_4 : decode cJ0_isEmpty 4 = .ok (.ifCond .ne 7, 3) := dk_154 0 7 (dk_at dksJ0_isEmpty_0 4 rfl rfl)
theorem dJ0_isEmpty_7 : decode cJ0_isEmpty 7 = .ok (.iconst 1, 1) := dk_4 (dk_at dksJ0_isEmpty_0 7 rfl rfl)
theorem dJ0_isEmpty_8 : decode cJ0_isEmpty 8 = .ok (.goto 4, 3) := dk_167 0 4 (dk_at dksJ0_isEmpty_0 8 rfl rfl)
theorem dJ0_isEmpty_11 : decode cJ0_isEmpty 11 = .ok (.iconst 0, 1) := dk_3 (dk_at dksJ0_isEmpty_0 11 rfl rfl)
theorem dJ0_isEmpty_12 : decode cJ0_isEmpty 12 = .ok (.ireturn, 1) := dk_172 (dk_at dksJ0_isEmpty_0 12 rfl rfl)
theorem c41000 : jtCode 41000 = cJ0_isEmpty := rfl
theorem F41000_0 (d : Nat) (a0 : Nat) (h : AH) : G2 d 41000 0 [.ref a0] [] h = zcI (MvH d 9139 [.ref a0] h) (fun x1 h2 => if x1 = 0 then (some (.inl (some (.int 1)), h2)) else (some (.inl (some (.int 0)), h2))) () := by
  refine (g_aload_nH c41000 dJ0_isEmpty_0 rfl).trans ?_
  refine (g_virtualH (as := [.ref a0]) (rest := []) c41000 dJ0_isEmpty_1 rfl rfl rfl rfl rfl).trans ((jback_IH (κx := cX) (fun e h => jthrow_outH rfl)).trans (cI_cg fun x1 h2 => ?_))
  refine (g_if_neH (tgt := 11) c41000 dJ0_isEmpty_4 rfl).trans (if_cg ?_ ?_)
  · skip
    refine (g_iconstH (x := 1) c41000 dJ0_isEmpty_7 rfl).trans ?_
    refine (g_gotoH (tgt := 12) c41000 dJ0_isEmpty_8 rfl).trans ?_
    exact g_zreturn1H c41000 dJ0_isEmpty_12 rfl
  · skip
    refine (g_iconstH (x := 0) c41000 dJ0_isEmpty_11 rfl).trans ?_
    exact g_zreturn0H c41000 dJ0_isEmpty_12 rfl
theorem Y41000 {d : Nat} {a0 : Nat} (h : AH) (hr : jrecv 41000 [.ref a0] h = true) : M2 (d + 1) 41000 [.ref a0] h = G2 d 41000 0 [.ref a0] [] h := M2_eq rfl rfl hr rfl
/-! java/util/AbstractCollection.<init>()V -/
theorem F41900_0 (d : Nat) (a0 : Nat) (h : AH) : G2 d 41900 0 [.ref a0] [] h = zcV (M2 d 90000 [.ref a0] h) (fun h2 => some (.inl none, h2)) () := by
  refine (g_aload_nH c41900 dJ0_init_0 rfl).trans ?_
  refine (g_specialH (as := [.ref a0]) (rest := []) c41900 dJ0_init_1 rfl rfl rfl rfl rfl).trans ((jback_VH (κx := cX) (fun e h => jthrow_outH rfl)).trans (cV_cg fun h2 => ?_))
  exact g_returnH c41900 dJ0_init_4 rfl
theorem Y41900 {d : Nat} {a0 : Nat} (h : AH) (hr : jrecv 41900 [.ref a0] h = true) : M2 (d + 1) 41900 [.ref a0] h = G2 d 41900 0 [.ref a0] [] h := M2_eq rfl rfl hr rfl
/-! java/util/AbstractList.listIterator()Ljava/util/ListIterator; -/
abbrev cJ1_listIterator : ByteArray := prog_60_method_12_code
def dkwJ1_listIterator_0 : List UInt8 := [42, 3, 182, 0, 47, 176]
abbrev dktJ1_listIterator_0 : List UInt8 := dkwJ1_listIterator_0 ++ []
theorem dksJ1_listIterator_0 : cJ1_listIterator.data.toList.drop 0 = dktJ1_listIterator_0 := by decide +kernel
theorem dJ1_listIterator_0 : decode cJ1_listIterator 0 = .ok (.aload_n 0, 1) := dk_42 (dk_at dksJ1_listIterator_0 0 rfl rfl)
theorem dJ1_listIterator_1 : decode cJ1_listIterator 1 = .ok (.iconst 0, 1) := dk_3 (dk_at dksJ1_listIterator_0 1 rfl rfl)
theorem dJ1_listIterator_2 : decode cJ1_listIterator 2 = .ok (.invokevirtual 47, 3) := dk_182 0 47 (dk_at dksJ1_listIterator_0 2 rfl rfl)
theorem dJ1_listIterator_5 : decode cJ1_listIterator 5 = .ok (.areturn, 1) := dk_176 (dk_at dksJ1_listIterator_0 5 rfl rfl)
theorem c42000 : jtCode 42000 = cJ1_listIterator := rfl
theorem F42000_0 (d : Nat) (a0 : Nat) (h : AH) : G2 d 42000 0 [.ref a0] [] h = zcR (MvH d 9140 [.ref a0, .int 0] h) (fun r1 h2 => ckR r1 (some (.inl (some r1), h2))) () := by
  refine (g_aload_nH c42000 dJ1_listIterator_0 rfl).trans ?_
  refine (g_iconstH (x := 0) c42000 dJ1_listIterator_1 rfl).trans ?_
  refine (g_virtualH (as := [.ref a0, .int 0]) (rest := []) c42000 dJ1_listIterator_2 rfl rfl rfl rfl rfl).trans ((jback_RH (κx := cX) (fun e h => jthrow_outH rfl)).trans (cR_cg fun r1 h2 => ?_))
  exact g_areturnH c42000 dJ1_listIterator_5 rfl
theorem Y42000 {d : Nat} {a0 : Nat} (h : AH) (hr : jrecv 42000 [.ref a0] h = true) : M2 (d + 1) 42000 [.ref a0] h = G2 d 42000 0 [.ref a0] [] h := M2_eq rfl rfl hr rfl
/-! java/util/AbstractList.<init>()V -/
theorem F42900_0 (d : Nat) (a0 : Nat) (h : AH) : G2 d 42900 0 [.ref a0] [] h = zcV (M2 d 41900 [.ref a0] h) (fun h2 => zqF h2 (.ref a0) [43, 47] 0 0 (.int 0) (fun h3 => some (.inl none, h3)) ()) () := by
  refine (g_aload_nH c42900 dJ1_init_0 rfl).trans ?_
  refine (g_specialH (as := [.ref a0]) (rest := []) c42900 dJ1_init_1 rfl rfl rfl rfl rfl).trans ((jback_VH (κx := cX) (fun e h => jthrow_outH rfl)).trans (cV_cg fun h2 => ?_))
  refine (g_aload_nH c42900 dJ1_init_4 rfl).trans ?_
  refine (g_iconstH (x := 0) c42900 dJ1_init_5 rfl).trans ?_
  refine (g_putH c42900 dJ1_init_6 rfl).trans (pF_cg fun h3 => ?_)
  exact g_returnH c42900 dJ1_init_9 rfl
theorem Y42900 {d : Nat} {a0 : Nat} (h : AH) (hr : jrecv 42900 [.ref a0] h = true) : M2 (d + 1) 42900 [.ref a0] h = G2 d 42900 0 [.ref a0] [] h := M2_eq rfl rfl hr rfl
/-! java/util/Arrays.copyOf([Ljava/lang/Object;I)[Ljava/lang/Object; -/
theorem F45004_0 (d : Nat) (v0 : Value) (i1 : Int32) (h : AH) : G2 d 45004 0 [v0, .int i1] [] h = zkR v0 (zkR v0 (zcR (M2 d 90002 [v0] h) (fun r1 h2 => zcR (M2 d 45005 [v0, .int i1, r1] h2) (fun r3 h4 => ckR r3 (some (.inl (some r3), h4))) ()) ()) ()) () := by
  refine (g_aload_nVH c45004 dJ4_copyOf_2_0 rfl).trans (ckR_cg ?_)
  refine (g_iload_nH c45004 dJ4_copyOf_2_1 rfl).trans ?_
  refine (g_aload_nVH c45004 dJ4_copyOf_2_2 rfl).trans (ckR_cg ?_)
  refine (g_virtualH (as := [v0]) (rest := [.int i1, v0]) c45004 dJ4_copyOf_2_3 rfl rfl rfl rfl rfl).trans ((jback_RH (κx := cX) (fun e h => jthrow_outH rfl)).trans (cR_cg fun r1 h2 => ?_))
  refine (g_staticH (as := [v0, .int i1, r1]) (rest := []) c45004 dJ4_copyOf_2_6 rfl rfl rfl rfl rfl).trans ((jback_RH (κx := cX) (fun e h => jthrow_outH rfl)).trans (cR_cg fun r3 h4 => ?_))
  exact g_areturnAH c45004 dJ4_copyOf_2_9 rfl
theorem Y45004 {d : Nat} {v0 : Value} {i1 : Int32} (h : AH) (hv0 : isR v0 = true) : M2 (d + 1) 45004 [v0, .int i1] h = G2 d 45004 0 [v0, .int i1] [] h := M2_eq rfl rfl rfl (by simp only [jent, jargL_R hv0, jargL]; rfl)
/-! java/util/Arrays.copyOf([Ljava/lang/Object;ILjava/lang/Class;)[Ljava/lang/Object; -/
theorem F45005_0 (d : Nat) (v0 : Value) (i1 : Int32) (v2 : Value) (h : AH) : G2 d 45005 0 [v0, .int i1, v2, jno] [] h = zkR v2 (zpR (je h 47) (fun r1 => zkR r1 (zkR v2 (if (v2 : Value) = r1 then (zqN i1 (zqH (jpush h (1040, i1.toNatClampNeg, fun _ => .null)) (fun h2 => zkR v0 (zkR v0 (zqL h2 v0 (fun x3 => zcI (M2 d 53001 [.int x3, .int i1] h2) (fun x4 h5 => zcV (M2 d 90001 [v0, .int 0, .ref h.1, .int 0, .int x4] h5) (fun h7 => some (.inl (some (.ref h.1)), h7)) ()) ()) ()) ()) ()) ()) ()) else (zkR v2 (G2 d 45005 14 [v0, .int i1, v2, jno] [v2] h) ())) ()) ()) ()) () := by
  refine (g_aload_nVH c45005 dJ4_copyOf_3_0 rfl).trans (ckR_cg ?_)
  refine (g_ldcRH (k := 47) c45005 dJ4_copyOf_3_1 rfl rfl).trans (rR_cg fun r1 => ?_)
  refine (g_acmp_neH (tgt := 13) c45005 dJ4_copyOf_3_3 rfl).trans (ckR_cg (ckR_cg (if_cg ?_ ?_)))
  · skip
    refine (g_iload_nH c45005 dJ4_copyOf_3_6 rfl).trans ?_
    refine (g_newRH (t := 1040) c45005 dJ4_copyOf_3_7 rfl rfl).trans (nA_cg ?_)
    refine nmZ ?_
    generalize jpush h (1040, i1.toNatClampNeg, fun _ => .null) = h2
    refine (g_gotoH (tgt := 24) c45005 dJ4_copyOf_3_10 rfl).trans ?_
    refine (g_astore_nH (L' := [v0, .int i1, v2, .ref h.1]) c45005 dJ4_copyOf_3_24 rfl rfl).trans ?_
    refine (g_aload_nVH c45005 dJ4_copyOf_3_25 rfl).trans (ckR_cg ?_)
    refine (g_iconstH (x := 0) c45005 dJ4_copyOf_3_26 rfl).trans ?_
    refine (g_aload_nH c45005 dJ4_copyOf_3_27 rfl).trans ?_
    refine (g_iconstH (x := 0) c45005 dJ4_copyOf_3_28 rfl).trans ?_
    refine (g_aload_nVH c45005 dJ4_copyOf_3_29 rfl).trans (ckR_cg ?_)
    refine (g_alenH c45005 dJ4_copyOf_3_30).trans (aL_cg fun x3 => ?_)
    refine (g_iload_nH c45005 dJ4_copyOf_3_31 rfl).trans ?_
    refine (g_staticH (as := [.int x3, .int i1]) (rest := [.int 0, .ref h.1, .int 0, v0]) c45005 dJ4_copyOf_3_32 rfl rfl rfl rfl rfl).trans ((jback_IH (κx := cX) (fun e h => jthrow_outH rfl)).trans (cI_cg fun x4 h5 => ?_))
    refine (g_staticH (as := [v0, .int 0, .ref h.1, .int 0, .int x4]) (rest := []) c45005 dJ4_copyOf_3_35 rfl rfl rfl rfl rfl).trans ((jback_VH (κx := cX) (fun e h => jthrow_outH rfl)).trans (cV_cg fun h7 => ?_))
    refine (g_aload_nH c45005 dJ4_copyOf_3_38 rfl).trans ?_
    exact g_areturnA_rH c45005 dJ4_copyOf_3_39 rfl
  · skip
    refine (g_aload_nVH c45005 dJ4_copyOf_3_13 rfl).trans (ckR_cg ?_)
    rfl
theorem Y45005 {d : Nat} {v0 : Value} {i1 : Int32} {v2 : Value} (h : AH) (hv0 : isR v0 = true) (hv2 : isR v2 = true) : M2 (d + 1) 45005 [v0, .int i1, v2] h = G2 d 45005 0 [v0, .int i1, v2, jno] [] h := M2_eq rfl rfl rfl (by simp only [jent, jargL_R hv0, jargL_R hv2, jargL]; rfl)
/-! java/util/Arrays.equals([I[I)Z -/
abbrev cJ4_equals : ByteArray := prog_69_method_83_code
def dkwJ4_equals_1 : List UInt8 := [159, 0, 5, 3, 172, 42, 43, 28, 184, 0, 254, 156, 0, 7, 4, 167, 0, 4, 3, 172]
abbrev dktJ4_equals_1 : List UInt8 := dkwJ4_equals_1 ++ []
def dkwJ4_equals_0 : List UInt8 := [42, 43, 166, 0, 5, 4, 172, 42, 198, 0, 7, 43, 199, 0, 5, 3, 172, 42, 190, 61, 43, 190, 28]
abbrev dktJ4_equals_0 : List UInt8 := dkwJ4_equals_0 ++ dktJ4_equals_1
theorem dksJ4_equals_0 : cJ4_equals.data.toList.drop 0 = dktJ4_equals_0 := by decide +kernel
theorem dksJ4_equals_1 : cJ4_equals.data.toList.drop 23 = dktJ4_equals_1 := dk_seg dksJ4_equals_0 23 rfl rfl
theorem dJ4_equals_0 : decode cJ4_equals 0 = .ok (.aload_n 0, 1) := dk_42 (dk_at dksJ4_equals_0 0 rfl rfl)
theorem dJ4_equals_1 : decode cJ4_equals 1 = .ok (.aload_n 1, 1) := dk_43 (dk_at dksJ4_equals_0 1 rfl rfl)
theorem dJ4_equals_2 : decode cJ4_equals 2 = .ok (.if_acmp .ne 5, 3) := dk_166 0 5 (dk_at dksJ4_equals_0 2 rfl rfl)
theorem dJ4_equals_5 : decode cJ4_equals 5 = .ok (.iconst 1, 1) := dk_4 (dk_at dksJ4_equals_0 5 rfl rfl)
theorem dJ4_equals_6 : decode cJ4_equals 6 = .ok (.ireturn, 1) := dk_172 (dk_at dksJ4_equals_0 6 rfl rfl)
theorem dJ4_equals_7 : decode cJ4_equals 7 = .ok (.aload_n 0, 1) := dk_42 (dk_at dksJ4_equals_0 7 rfl rfl)
theorem dJ4_equals_8 : decode cJ4_equals 8 = .ok (.ifnull 7, 3) := dk_198 0 7 (dk_at dksJ4_equals_0 8 rfl rfl)
theorem dJ4_equals_11 : decode cJ4_equals 11 = .ok (.aload_n 1, 1) := dk_43 (dk_at dksJ4_equals_0 11 rfl rfl)
theorem dJ4_equals_12 : decode cJ4_equals 12 = .ok (.ifnonnull 5, 3) := dk_199 0 5 (dk_at dksJ4_equals_0 12 rfl rfl)
theorem dJ4_equals_15 : decode cJ4_equals 15 = .ok (.iconst 0, 1) := dk_3 (dk_at dksJ4_equals_0 15 rfl rfl)
theorem dJ4_equals_16 : decode cJ4_equals 16 = .ok (.ireturn, 1) := dk_172 (dk_at dksJ4_equals_0 16 rfl rfl)
theorem dJ4_equals_17 : decode cJ4_equals 17 = .ok (.aload_n 0, 1) := dk_42 (dk_at dksJ4_equals_0 17 rfl rfl)
theorem dJ4_equals_18 : decode cJ4_equals 18 = .ok (.arraylength, 1) := dk_190 (dk_at dksJ4_equals_0 18 rfl rfl)
theorem dJ4_equals_19 : decode cJ4_equals 19 = .ok (.istore_n 2, 1) := dk_61 (dk_at dksJ4_equals_0 19 rfl rfl)
theorem dJ4_equals_20 : decode cJ4_equals 20 = .ok (.aload_n 1, 1) := dk_43 (dk_at dksJ4_equals_0 20 rfl rfl)
theorem dJ4_equals_21 : decode cJ4_equals 21 = .ok (.arraylength, 1) := dk_190 (dk_at dksJ4_equals_0 21 rfl rfl)
theorem dJ4_equals_22 : decode cJ4_equals 22 = .ok (.iload_n 2, 1) := dk_28 (dk_at dksJ4_equals_0 22 rfl rfl)
theorem dJ4_equals_23 : decode cJ4_equals 23 = .ok (.if_icmp .eq 5, 3) := dk_159 0 5 (dk_at dksJ4_equals_1 0 rfl rfl)
theorem dJ4_equals_26 : decode cJ4_equals 26 = .ok (.iconst 0, 1) := dk_3 (dk_at dksJ4_equals_1 3 rfl rfl)
theorem dJ4_equals_27 : decode cJ4_equals 27 = .ok (.ireturn, 1) := dk_172 (dk_at dksJ4_equals_1 4 rfl rfl)
theorem dJ4_equals_28 : decode cJ4_equals 28 = .ok (.aload_n 0, 1) := dk_42 (dk_at dksJ4_equals_1 5 rfl rfl)
theorem dJ4_equals_29 : decode cJ4_equals 29 = .ok (.aload_n 1, 1) := dk_43 (dk_at dksJ4_equals_1 6 rfl rfl)
theorem dJ4_equals_30 : decode cJ4_equals 30 = .ok (.iload_n 2, 1) := dk_28 (dk_at dksJ4_equals_1 7 rfl rfl)
theorem dJ4_equals_31 : decode cJ4_equals 31 = .ok (.invokestatic 254, 3) := dk_184 0 254 (dk_at dksJ4_equals_1 8 rfl rfl)
theorem dJ4_equals_34 : decode cJ4_equals 34 = .ok (.ifCond .ge 7, 3) := dk_156 0 7 (dk_at dksJ4_equals_1 11 rfl rfl)
theorem dJ4_equals_37 : decode cJ4_equals 37 = .ok (.iconst 1, 1) := dk_4 (dk_at dksJ4_equals_1 14 rfl rfl)
theorem dJ4_equals_38 : decode cJ4_equals 38 = .ok (.goto 4, 3) := dk_167 0 4 (dk_at dksJ4_equals_1 15 rfl rfl)
theorem dJ4_equals_41 : decode cJ4_equals 41 = .ok (.iconst 0, 1) := dk_3 (dk_at dksJ4_equals_1 18 rfl rfl)
theorem dJ4_equals_42 : decode cJ4_equals 42 = .ok (.ireturn, 1) := dk_172 (dk_at dksJ4_equals_1 19 rfl rfl)
theorem c45007 : jtCode 45007 = cJ4_equals := rfl
theorem F45007_0 (d : Nat) (v0 : Value) (v1 : Value) (h : AH) : G2 d 45007 0 [v0, v1, jno] [] h = zkR v0 (zkR v1 (zkR v1 (zkR v0 (if (v0 : Value) = v1 then (some (.inl (some (.int 1)), h)) else (zkR v0 (zkR v0 (if (v0 : Value) = .null then (some (.inl (some (.int 0)), h)) else (zkR v1 (zkR v1 (if (v1 : Value) = .null then (some (.inl (some (.int 0)), h)) else (zkR v0 (zqL h v0 (fun x1 => zkR v1 (zqL h v1 (fun x2 => if x2 = x1 then (zkR v0 (zkR v1 (zcI (M2 d 52001 [v0, v1, .int x1] h) (fun x3 h4 => if 0 ≤ x3 then (some (.inl (some (.int 0)), h4)) else (some (.inl (some (.int 1)), h4))) ()) ()) ()) else (some (.inl (some (.int 0)), h))) ()) ()) ()) ())) ()) ())) ()) ())) ()) ()) ()) () := by
  refine (g_aload_nVH c45007 dJ4_equals_0 rfl).trans (ckR_cg ?_)
  refine (g_aload_nVH c45007 dJ4_equals_1 rfl).trans (ckR_cg ?_)
  refine (g_acmp_neH (tgt := 7) c45007 dJ4_equals_2 rfl).trans (ckR_cg (ckR_cg (if_cg ?_ ?_)))
  · skip
    refine (g_iconstH (x := 1) c45007 dJ4_equals_5 rfl).trans ?_
    exact g_zreturn1H c45007 dJ4_equals_6 rfl
  · skip
    refine (g_aload_nVH c45007 dJ4_equals_7 rfl).trans (ckR_cg ?_)
    refine (g_ifnullH (tgt := 15) c45007 dJ4_equals_8 rfl).trans (ckR_cg (if_cg ?_ ?_))
    · skip
      refine (g_iconstH (x := 0) c45007 dJ4_equals_15 rfl).trans ?_
      exact g_zreturn0H c45007 dJ4_equals_16 rfl
    · skip
      refine (g_aload_nVH c45007 dJ4_equals_11 rfl).trans (ckR_cg ?_)
      refine (g_ifnonnullH (tgt := 17) c45007 dJ4_equals_12 rfl).trans (ckR_cg (if_cg ?_ ?_))
      · skip
        refine (g_iconstH (x := 0) c45007 dJ4_equals_15 rfl).trans ?_
        exact g_zreturn0H c45007 dJ4_equals_16 rfl
      · skip
        refine (g_aload_nVH c45007 dJ4_equals_17 rfl).trans (ckR_cg ?_)
        refine (g_alenH c45007 dJ4_equals_18).trans (aL_cg fun x1 => ?_)
        refine (g_istore_nH (L' := [v0, v1, .int x1]) c45007 dJ4_equals_19 rfl rfl).trans ?_
        refine (g_aload_nVH c45007 dJ4_equals_20 rfl).trans (ckR_cg ?_)
        refine (g_alenH c45007 dJ4_equals_21).trans (aL_cg fun x2 => ?_)
        refine (g_iload_nH c45007 dJ4_equals_22 rfl).trans ?_
        refine (g_icmp_eqH (tgt := 28) c45007 dJ4_equals_23 rfl).trans (if_cg ?_ ?_)
        · skip
          refine (g_aload_nVH c45007 dJ4_equals_28 rfl).trans (ckR_cg ?_)
          refine (g_aload_nVH c45007 dJ4_equals_29 rfl).trans (ckR_cg ?_)
          refine (g_iload_nH c45007 dJ4_equals_30 rfl).trans ?_
          refine (g_staticH (as := [v0, v1, .int x1]) (rest := []) c45007 dJ4_equals_31 rfl rfl rfl rfl rfl).trans ((jback_IH (κx := cX) (fun e h => jthrow_outH rfl)).trans (cI_cg fun x3 h4 => ?_))
          refine (g_if_geH (tgt := 41) c45007 dJ4_equals_34 rfl).trans (if_cg ?_ ?_)
          · skip
            refine (g_iconstH (x := 0) c45007 dJ4_equals_41 rfl).trans ?_
            exact g_zreturn0H c45007 dJ4_equals_42 rfl
          · skip
            refine (g_iconstH (x := 1) c45007 dJ4_equals_37 rfl).trans ?_
            refine (g_gotoH (tgt := 42) c45007 dJ4_equals_38 rfl).trans ?_
            exact g_zreturn1H c45007 dJ4_equals_42 rfl
        · skip
          refine (g_iconstH (x := 0) c45007 dJ4_equals_26 rfl).trans ?_
          exact g_zreturn0H c45007 dJ4_equals_27 rfl
theorem Y45007 {d : Nat} {v0 : Value} {v1 : Value} (h : AH) (hv0 : isR v0 = true) (hv1 : isR v1 = true) : M2 (d + 1) 45007 [v0, v1] h = G2 d 45007 0 [v0, v1, jno] [] h := M2_eq rfl rfl rfl (by simp only [jent, jargL_R hv0, jargL_R hv1, jargL]; rfl)
/-! java/util/Arrays.fill([II)V -/
abbrev cJ4_fill : ByteArray := prog_69_method_103_code
def dkwJ4_fill_0 : List UInt8 := [3, 61, 42, 190, 62, 28, 29, 162, 0, 13, 42, 28, 27, 79, 132, 2, 1, 167, 255, 244, 177]
abbrev dktJ4_fill_0 : List UInt8 := dkwJ4_fill_0 ++ []
theorem dksJ4_fill_0 : cJ4_fill.data.toList.drop 0 = dktJ4_fill_0 := by decide +kernel
theorem dJ4_fill_0 : decode cJ4_fill 0 = .ok (.iconst 0, 1) := dk_3 (dk_at dksJ4_fill_0 0 rfl rfl)
theorem dJ4_fill_1 : decode cJ4_fill 1 = .ok (.istore_n 2, 1) := dk_61 (dk_at dksJ4_fill_0 1 rfl rfl)
theorem dJ4_fill_2 : decode cJ4_fill 2 = .ok (.aload_n 0, 1) := dk_42 (dk_at dksJ4_fill_0 2 rfl rfl)
theorem dJ4_fill_3 : decode cJ4_fill 3 = .ok (.arraylength, 1) := dk_190 (dk_at dksJ4_fill_0 3 rfl rfl)
theorem dJ4_fill_4 : decode cJ4_fill 4 = .ok (.istore_n 3, 1) := dk_62 (dk_at dksJ4_fill_0 4 rfl rfl)
theorem dJ4_fill_5 : decode cJ4_fill 5 = .ok (.iload_n 2, 1) := dk_28 (dk_at dksJ4_fill_0 5 rfl rfl)
theorem dJ4_fill_6 : decode cJ4_fill 6 = .ok (.iload_n 3, 1) := dk_29 (dk_at dksJ4_fill_0 6 rfl rfl)
theorem dJ4_fill_7 : decode cJ4_fill 7 = .ok (.if_icmp .ge 13, 3) := dk_162 0 13 (dk_at dksJ4_fill_0 7 rfl rfl)
theorem dJ4_fill_10 : decode cJ4_fill 10 = .ok (.aload_n 0, 1) := dk_42 (dk_at dksJ4_fill_0 10 rfl rfl)
theorem dJ4_fill_11 : decode cJ4_fill 11 = .ok (.iload_n 2, 1) := dk_28 (dk_at dksJ4_fill_0 11 rfl rfl)
theorem dJ4_fill_12 : decode cJ4_fill 12 = .ok (.iload_n 1, 1) := dk_27 (dk_at dksJ4_fill_0 12 rfl rfl)
theorem dJ4_fill_13 : decode cJ4_fill 13 = .ok (.iastore, 1) := dk_79 (dk_at dksJ4_fill_0 13 rfl rfl)
theorem dJ4_fill_14 : decode cJ4_fill 14 = .ok (.iinc 2 1, 3) := dk_132 2 1 (dk_at dksJ4_fill_0 14 rfl rfl)
theorem dJ4_fill_17 : decode cJ4_fill 17 = .ok (.goto (-12), 3) := dk_167 255 244 (dk_at dksJ4_fill_0 17 rfl rfl)
theorem dJ4_fill_20 : decode cJ4_fill 20 = .ok (.return_, 1) := dk_177 (dk_at dksJ4_fill_0 20 rfl rfl)
theorem c45008 : jtCode 45008 = cJ4_fill := rfl
theorem F45008_0 (d : Nat) (v0 : Value) (i1 : Int32) (h : AH) : G2 d 45008 0 [v0, .int i1, jno, jno] [] h = zkR v0 (zqL h v0 (fun x1 => G2 d 45008 5 [v0, .int i1, .int 0, .int x1] [] h) ()) () := by
  refine (g_iconstH (x := 0) c45008 dJ4_fill_0 rfl).trans ?_
  refine (g_istore_nH (L' := [v0, .int i1, .int 0, jno]) c45008 dJ4_fill_1 rfl rfl).trans ?_
  refine (g_aload_nVH c45008 dJ4_fill_2 rfl).trans (ckR_cg ?_)
  refine (g_alenH c45008 dJ4_fill_3).trans (aL_cg fun x1 => ?_)
  refine (g_istore_nH (L' := [v0, .int i1, .int 0, .int x1]) c45008 dJ4_fill_4 rfl rfl).trans ?_
  rfl
theorem F45008_5 (d : Nat) (v0 : Value) (i1 : Int32) (i2 : Int32) (i3 : Int32) (h : AH) : G2 d 45008 5 [v0, .int i1, .int i2, .int i3] [] h = if i3 ≤ i2 then (some (.inl none, h)) else (zkR v0 (zqS h v0 [1000] i2 (.int i1) (fun h1 => G2 d 45008 5 [v0, .int i1, .int (i2 + 1), .int i3] [] h1) ()) ()) := by
  refine (g_iload_nH c45008 dJ4_fill_5 rfl).trans ?_
  refine (g_iload_nH c45008 dJ4_fill_6 rfl).trans ?_
  refine (g_icmp_geH (tgt := 20) c45008 dJ4_fill_7 rfl).trans (if_cg ?_ ?_)
  · skip
    exact g_returnH c45008 dJ4_fill_20 rfl
  · skip
    refine (g_aload_nVH c45008 dJ4_fill_10 rfl).trans (ckR_cg ?_)
    refine (g_iload_nH c45008 dJ4_fill_11 rfl).trans ?_
    refine (g_iload_nH c45008 dJ4_fill_12 rfl).trans ?_
    refine (g_iastoreH c45008 dJ4_fill_13).trans (aS_cg fun h1 => ?_)
    refine (g_iincH (c := 1) (L' := [v0, .int i1, .int (i2 + 1), .int i3]) c45008 dJ4_fill_14 rfl rfl rfl rfl).trans ?_
    refine (g_gotoH (tgt := 5) c45008 dJ4_fill_17 rfl).trans ?_
    rfl
theorem Y45008 {d : Nat} {v0 : Value} {i1 : Int32} (h : AH) (hv0 : isR v0 = true) : M2 (d + 1) 45008 [v0, .int i1] h = G2 d 45008 0 [v0, .int i1, jno, jno] [] h := M2_eq rfl rfl rfl (by simp only [jent, jargL_R hv0, jargL]; rfl)
/-! java/util/Arrays.sort([Ljava/lang/Object;Ljava/util/Comparator;)V -/
abbrev cJ4_sort_3 : ByteArray := prog_69_method_41_code
def dkwJ4_sort_3_1 : List UInt8 := [167, 0, 14, 42, 3, 42, 190, 43, 1, 3, 3, 184, 0, 79, 177]
abbrev dktJ4_sort_3_1 : List UInt8 := dkwJ4_sort_3_1 ++ []
def dkwJ4_sort_3_0 : List UInt8 := [43, 199, 0, 10, 42, 184, 0, 156, 167, 0, 28, 178, 0, 112, 153, 0, 11, 42, 43, 184, 0, 158]
abbrev dktJ4_sort_3_0 : List UInt8 := dkwJ4_sort_3_0 ++ dktJ4_sort_3_1
theorem dksJ4_sort_3_0 : cJ4_sort_3.data.toList.drop 0 = dktJ4_sort_3_0 := by decide +kernel
theorem dksJ4_sort_3_1 : cJ4_sort_3.data.toList.drop 22 = dktJ4_sort_3_1 := dk_seg dksJ4_sort_3_0 22 rfl rfl
theorem dJ4_sort_3_0 : decode cJ4_sort_3 0 = .ok (.aload_n 1, 1) := dk_43 (dk_at dksJ4_sort_3_0 0 rfl rfl)
theorem dJ4_sort_3_1 : decode cJ4_sort_3 1 = .ok (.ifnonnull 10, 3) := dk_199 0 10 (dk_at dksJ4_sort_3_0 1 rfl rfl)
theorem dJ4_sort_3_4 : decode cJ4_sort_3 4 = .ok (.aload_n 0, 1) := dk_42 (dk_at dksJ4_sort_3_0 4 rfl rfl)
theorem dJ4_sort_3_5 : decode cJ4_sort_3 5 = .ok (.invokestatic 156, 3) := dk_184 0 156 (dk_at dksJ4_sort_3_0 5 rfl rfl)
theorem dJ4_sort_3_8 : decode cJ4_sort_3 8 = .ok (.goto 28, 3) := dk_167 0 28 (dk_at dksJ4_sort_3_0 8 rfl rfl)
theorem dJ4_sort_3_11 : decode cJ4_sort_3 11 = .ok (.getstatic 112, 3) := dk_178 0 112 (dk_at dksJ4_sort_3_0 11 rfl rfl)
theorem dJ4_sort_3_14 : decode cJ4_sort_3 14 = .ok (.ifCond .eq 11, 3) := dk_153 0 11 (dk_at dksJ4_sort_3_0 14 rfl rfl)
theorem dJ4_sort_3_17 : decode cJ4_sort_3 17 = .ok (.aload_n 0, 1) := dk_42 (dk_at dksJ4_sort_3_0 17 rfl rfl)
theorem dJ4_sort_3_18 : decode cJ4_sort_3 18 = .ok (.aload_n 1, 1) := dk_43 (dk_at dksJ4_sort_3_0 18 rfl rfl)
theorem dJ4_sort_3_19 : decode cJ4_sort_3 19 = .ok (.invokestatic 158, 3) := dk_184 0 158 (dk_at dksJ4_sort_3_0 19 rfl rfl)
theorem dJ4_sort_3_22 : decode cJ4_sort_3 22 = .ok (.goto 14, 3) := dk_167 0 14 (dk_at dksJ4_sort_3_1 0 rfl rfl)
theorem dJ4_sort_3_25 : decode cJ4_sort_3 25 = .ok (.aload_n 0, 1) := dk_42 (dk_at dksJ4_sort_3_1 3 rfl rfl)
theorem dJ4_sort_3_26 : decode cJ4_sort_3 26 = .ok (.iconst 0, 1) := dk_3 (dk_at dksJ4_sort_3_1 4 rfl rfl)
theorem dJ4_sort_3_27 : decode cJ4_sort_3 27 = .ok (.aload_n 0, 1) := dk_42 (dk_at dksJ4_sort_3_1 5 rfl rfl)
theorem dJ4_sort_3_28 : decode cJ4_sort_3 28 = .ok (.arraylength, 1) := dk_190 (dk_at dksJ4_sort_3_1 6 rfl rfl)
theorem dJ4_sort_3_29 : decode cJ4_sort_3 29 = .ok (.aload_n 1, 1) := dk_43 (dk_at dksJ4_sort_3_1 7 rfl rfl)
theorem dJ4_sort_3_30 : decode cJ4_sort_3 30 = .ok (.aconst_null, 1) := dk_1 (dk_at dksJ4_sort_3_1 8 rfl rfl)
theorem dJ4_sort_3_31 : decode cJ4_sort_3 31 = .ok (.iconst 0, 1) := dk_3 (dk_at dksJ4_sort_3_1 9 rfl rfl)
theorem dJ4_sort_3_32 : decode cJ4_sort_3 32 = .ok (.iconst 0, 1) := dk_3 (dk_at dksJ4_sort_3_1 10 rfl rfl)
theorem dJ4_sort_3_33 : decode cJ4_sort_3 33 = .ok (.invokestatic 79, 3) := dk_184 0 79 (dk_at dksJ4_sort_3_1 11 rfl rfl)
theorem dJ4_sort_3_36 : decode cJ4_sort_3 36 = .ok (.return_, 1) := dk_177 (dk_at dksJ4_sort_3_1 14 rfl rfl)
theorem c45012 : jtCode 45012 = cJ4_sort_3 := rfl
theorem F45012_0 (d : Nat) (v0 : Value) (v1 : Value) (h : AH) : G2 d 45012 0 [v0, v1] [] h = zkR v1 (zkR v1 (if (v1 : Value) = .null then (zkR v0 (zcV (M2 d 45013 [v0] h) (fun h2 => some (.inl none, h2)) ()) ()) else (if (0 : Int32) = 0 then (zkR v0 (zkR v0 (zqL h v0 (fun x3 => zkR v1 (zcV (M2 d 73003 [v0, .int 0, .int x3, v1, .null, .int 0, .int 0] h) (fun h5 => some (.inl none, h5)) ()) ()) ()) ()) ()) else (zkR v0 (zkR v1 (G2 d 45012 19 [v0, v1] [v1, v0] h) ()) ()))) ()) () := by
  refine (g_aload_nVH c45012 dJ4_sort_3_0 rfl).trans (ckR_cg ?_)
  refine (g_ifnonnullH (tgt := 11) c45012 dJ4_sort_3_1 rfl).trans (ckR_cg (if_cg ?_ ?_))
  · skip
    refine (g_aload_nVH c45012 dJ4_sort_3_4 rfl).trans (ckR_cg ?_)
    refine (g_staticH (as := [v0]) (rest := []) c45012 dJ4_sort_3_5 rfl rfl rfl rfl rfl).trans ((jback_VH (κx := cX) (fun e h => jthrow_outH rfl)).trans (cV_cg fun h2 => ?_))
    refine (g_gotoH (tgt := 36) c45012 dJ4_sort_3_8 rfl).trans ?_
    exact g_returnH c45012 dJ4_sort_3_36 rfl
  · skip
    refine (g_getsIH (x := 0) c45012 dJ4_sort_3_11 rfl rfl).trans ?_
    refine (g_if_eqH (tgt := 25) c45012 dJ4_sort_3_14 rfl).trans (if_cg ?_ ?_)
    · skip
      refine (g_aload_nVH c45012 dJ4_sort_3_25 rfl).trans (ckR_cg ?_)
      refine (g_iconstH (x := 0) c45012 dJ4_sort_3_26 rfl).trans ?_
      refine (g_aload_nVH c45012 dJ4_sort_3_27 rfl).trans (ckR_cg ?_)
      refine (g_alenH c45012 dJ4_sort_3_28).trans (aL_cg fun x3 => ?_)
      refine (g_aload_nVH c45012 dJ4_sort_3_29 rfl).trans (ckR_cg ?_)
      refine (g_aconst_nullH c45012 dJ4_sort_3_30).trans ?_
      refine (g_iconstH (x := 0) c45012 dJ4_sort_3_31 rfl).trans ?_
      refine (g_iconstH (x := 0) c45012 dJ4_sort_3_32 rfl).trans ?_
      refine (g_staticH (as := [v0, .int 0, .int x3, v1, .null, .int 0, .int 0]) (rest := []) c45012 dJ4_sort_3_33 rfl rfl rfl rfl rfl).trans ((jback_VH (κx := cX) (fun e h => jthrow_outH rfl)).trans (cV_cg fun h5 => ?_))
      exact g_returnH c45012 dJ4_sort_3_36 rfl
    · skip
      refine (g_aload_nVH c45012 dJ4_sort_3_17 rfl).trans (ckR_cg ?_)
      refine (g_aload_nVH c45012 dJ4_sort_3_18 rfl).trans (ckR_cg ?_)
      rfl
theorem Y45012 {d : Nat} {v0 : Value} {v1 : Value} (h : AH) (hv0 : isR v0 = true) (hv1 : isR v1 = true) : M2 (d + 1) 45012 [v0, v1] h = G2 d 45012 0 [v0, v1] [] h := M2_eq rfl rfl rfl (by simp only [jent, jargL_R hv0, jargL_R hv1, jargL]; rfl)
/-! java/util/Arrays.sort([Ljava/lang/Object;)V -/
abbrev cJ4_sort_4 : ByteArray := prog_69_method_35_code
def dkwJ4_sort_4_0 : List UInt8 := [178, 0, 112, 153, 0, 10, 42, 184, 0, 118, 167, 0, 13, 42, 3, 42, 190, 1, 3, 3, 184, 0, 122, 177]
abbrev dktJ4_sort_4_0 : List UInt8 := dkwJ4_sort_4_0 ++ []
theorem dksJ4_sort_4_0 : cJ4_sort_4.data.toList.drop 0 = dktJ4_sort_4_0 := by decide +kernel
theorem dJ4_sort_4_0 : decode cJ4_sort_4 0 = .ok (.getstatic 112, 3) := dk_178 0 112 (dk_at dksJ4_sort_4_0 0 rfl rfl)
theorem dJ4_sort_4_3 : decode cJ4_sort_4 3 = .ok (.ifCond .eq 10, 3) := dk_153 0 10 (dk_at dksJ4_sort_4_0 3 rfl rfl)
theorem dJ4_sort_4_6 : decode cJ4_sort_4 6 = .ok (.aload_n 0, 1) := dk_42 (dk_at dksJ4_sort_4_0 6 rfl rfl)
theorem dJ4_sort_4_7 : decode cJ4_sort_4 7 = .ok (.invokestatic 118, 3) := dk_184 0 118 (dk_at dksJ4_sort_4_0 7 rfl rfl)
theorem dJ4_sort_4_10 : decode cJ4_sort_4 10 = .ok (.goto 13, 3) := dk_167 0 13 (dk_at dksJ4_sort_4_0 10 rfl rfl)
theorem dJ4_sort_4_13 : decode cJ4_sort_4 13 = .ok (.aload_n 0, 1) := dk_42 (dk_at dksJ4_sort_4_0 13 rfl rfl)
theorem dJ4_sort_4_14 : decode cJ4_sort_4 14 = .ok (.iconst 0, 1) := dk_3 (dk_at dksJ4_sort_4_0 14 rfl rfl)
theorem dJ4_sort_4_15 : decode cJ4_sort_4 15 = .ok (.aload_n 0, 1) := dk_42 (dk_at dksJ4_sort_4_0 15 rfl rfl)
theorem dJ4_sort_4_16 : decode cJ4_sort_4 16 = .ok (.arraylength, 1) := dk_190 (dk_at dksJ4_sort_4_0 16 rfl rfl)
theorem dJ4_sort_4_17 : decode cJ4_sort_4 17 = .ok (.aconst_null, 1) := dk_1 (dk_at dksJ4_sort_4_0 17 rfl rfl)
theorem dJ4_sort_4_18 : decode cJ4_sort_4 18 = .ok (.iconst 0, 1) := dk_3 (dk_at dksJ4_sort_4_0 18 rfl rfl)
theorem dJ4_sort_4_19 : decode cJ4_sort_4 19 = .ok (.iconst 0, 1) := dk_3 (dk_at dksJ4_sort_4_0 19 rfl rfl)
theorem dJ4_sort_4_20 : decode cJ4_sort_4 20 = .ok (.invokestatic 122, 3) := dk_184 0 122 (dk_at dksJ4_sort_4_0 20 rfl rfl)
theorem dJ4_sort_4_23 : decode cJ4_sort_4 23 = .ok (.return_, 1) := dk_177 (dk_at dksJ4_sort_4_0 23 rfl rfl)
theorem c45013 : jtCode 45013 = cJ4_sort_4 := rfl
theorem F45013_0 (d : Nat) (v0 : Value) (h : AH) : G2 d 45013 0 [v0] [] h = if (0 : Int32) = 0 then (zkR v0 (zkR v0 (zqL h v0 (fun x1 => zcV (M2 d 72013 [v0, .int 0, .int x1, .null, .int 0, .int 0] h) (fun h3 => some (.inl none, h3)) ()) ()) ()) ()) else (zkR v0 (G2 d 45013 7 [v0] [v0] h) ()) := by
  refine (g_getsIH (x := 0) c45013 dJ4_sort_4_0 rfl rfl).trans ?_
  refine (g_if_eqH (tgt := 13) c45013 dJ4_sort_4_3 rfl).trans (if_cg ?_ ?_)
  · skip
    refine (g_aload_nVH c45013 dJ4_sort_4_13 rfl).trans (ckR_cg ?_)
    refine (g_iconstH (x := 0) c45013 dJ4_sort_4_14 rfl).trans ?_
    refine (g_aload_nVH c45013 dJ4_sort_4_15 rfl).trans (ckR_cg ?_)
    refine (g_alenH c45013 dJ4_sort_4_16).trans (aL_cg fun x1 => ?_)
    refine (g_aconst_nullH c45013 dJ4_sort_4_17).trans ?_
    refine (g_iconstH (x := 0) c45013 dJ4_sort_4_18 rfl).trans ?_
    refine (g_iconstH (x := 0) c45013 dJ4_sort_4_19 rfl).trans ?_
    refine (g_staticH (as := [v0, .int 0, .int x1, .null, .int 0, .int 0]) (rest := []) c45013 dJ4_sort_4_20 rfl rfl rfl rfl rfl).trans ((jback_VH (κx := cX) (fun e h => jthrow_outH rfl)).trans (cV_cg fun h3 => ?_))
    exact g_returnH c45013 dJ4_sort_4_23 rfl
  · skip
    refine (g_aload_nVH c45013 dJ4_sort_4_6 rfl).trans (ckR_cg ?_)
    rfl
theorem Y45013 {d : Nat} {v0 : Value} (h : AH) (hv0 : isR v0 = true) : M2 (d + 1) 45013 [v0] h = G2 d 45013 0 [v0] [] h := M2_eq rfl rfl rfl (by simp only [jent, jargL_R hv0, jargL]; rfl)
/-! java/util/AbstractSequentialList.<init>()V -/
abbrev cJ5_init : ByteArray := prog_63_method_1_code
theorem dJ5_init_0 : decode cJ5_init 0 = .ok (.aload_n 0, 1) := by decide +kernel
theorem dJ5_init_1 : decode cJ5_init 1 = .ok (.invokespecial 1, 3) := by decide +kernel
theorem dJ5_init_4 : decode cJ5_init 4 = .ok (.return_, 1) := by decide +kernel
theorem c46900 : jtCode 46900 = cJ5_init := rfl
theorem F46900_0 (d : Nat) (a0 : Nat) (h : AH) : G2 d 46900 0 [.ref a0] [] h = zcV (M2 d 42900 [.ref a0] h) (fun h2 => some (.inl none, h2)) () := by
  refine (g_aload_nH c46900 dJ5_init_0 rfl).trans ?_
  refine (g_specialH (as := [.ref a0]) (rest := []) c46900 dJ5_init_1 rfl rfl rfl rfl rfl).trans ((jback_VH (κx := cX) (fun e h => jthrow_outH rfl)).trans (cV_cg fun h2 => ?_))
  exact g_returnH c46900 dJ5_init_4 rfl
theorem Y46900 {d : Nat} {a0 : Nat} (h : AH) (hr : jrecv 46900 [.ref a0] h = true) : M2 (d + 1) 46900 [.ref a0] h = G2 d 46900 0 [.ref a0] [] h := M2_eq rfl rfl hr rfl
/-! java/util/LinkedList.addLast(Ljava/lang/Object;)V -/
abbrev cJ6_addLast : ByteArray := prog_79_method_14_code
def dkwJ6_addLast_0 : List UInt8 := [42, 43, 182, 0, 57, 177]
abbrev dktJ6_addLast_0 : List UInt8 := dkwJ6_addLast_0 ++ []
theorem dksJ6_addLast_0 : cJ6_addLast.data.toList.drop 0 = dktJ6_addLast_0 := by decide +kernel
theorem dJ6_addLast_0 : decode cJ6_addLast 0 = .ok (.aload_n 0, 1) := dk_42 (dk_at dksJ6_addLast_0 0 rfl rfl)
theorem dJ6_addLast_1 : decode cJ6_addLast 1 = .ok (.aload_n 1, 1) := dk_43 (dk_at dksJ6_addLast_0 1 rfl rfl)
theorem dJ6_addLast_2 : decode cJ6_addLast 2 = .ok (.invokevirtual 57, 3) := dk_182 0 57 (dk_at dksJ6_addLast_0 2 rfl rfl)
theorem dJ6_addLast_5 : decode cJ6_addLast 5 = .ok (.return_, 1) := dk_177 (dk_at dksJ6_addLast_0 5 rfl rfl)
theorem c47000 : jtCode 47000 = cJ6_addLast := rfl
theorem F47000_0 (d : Nat) (a0 : Nat) (v1 : Value) (h : AH) : G2 d 47000 0 [.ref a0, v1] [] h = zkR v1 (zcV (M2 d 47007 [.ref a0, v1] h) (fun h2 => some (.inl none, h2)) ()) () := by
  refine (g_aload_nH c47000 dJ6_addLast_0 rfl).trans ?_
  refine (g_aload_nVH c47000 dJ6_addLast_1 rfl).trans (ckR_cg ?_)
  refine (g_virtualH (as := [.ref a0, v1]) (rest := []) c47000 dJ6_addLast_2 rfl rfl rfl rfl rfl).trans ((jback_VH (κx := cX) (fun e h => jthrow_outH rfl)).trans (cV_cg fun h2 => ?_))
  exact g_returnH c47000 dJ6_addLast_5 rfl
theorem Y47000 {d : Nat} {a0 : Nat} {v1 : Value} (h : AH) (hv1 : isR v1 = true) (hr : jrecv 47000 [.ref a0, v1] h = true) : M2 (d + 1) 47000 [.ref a0, v1] h = G2 d 47000 0 [.ref a0, v1] [] h := M2_eq rfl rfl hr (by simp only [jent, jargL_R hv1, jargL]; rfl)
/-! java/util/LinkedList.checkElementIndex(I)V -/
abbrev cJ6_checkElementIndex : ByteArray := prog_79_method_29_code
def dkwJ6_checkElementIndex_0 : List UInt8 := [42, 27, 182, 0, 115, 154, 0, 16, 187, 0, 119, 89, 42, 27, 182, 0, 121, 183, 0, 125, 191, 177]
abbrev dktJ6_checkElementIndex_0 : List UInt8 := dkwJ6_checkElementIndex_0 ++ []
theorem dksJ6_checkElementIndex_0 : cJ6_checkElementIndex.data.toList.drop 0 = dktJ6_checkElementIndex_0 := by decide +kernel
theorem dJ6_checkElementIndex_0 : decode cJ6_checkElementIndex 0 = .ok (.aload_n 0, 1) := dk_42 (dk_at dksJ6_checkElementIndex_0 0 rfl rfl)
theorem dJ6_checkElementIndex_1 : decode cJ6_checkElementIndex 1 = .ok (.iload_n 1, 1) := dk_27 (dk_at dksJ6_checkElementIndex_0 1 rfl rfl)
theorem dJ6_checkElementIndex_2 : decode cJ6_checkElementIndex 2 = .ok (.invokevirtual 115, 3) := dk_182 0 115 (dk_at dksJ6_checkElementIndex_0 2 rfl rfl)
theorem dJ6_checkElementIndex_5 : decode cJ6_checkElementIndex 5 = .ok (.ifCond .ne 16, 3) := dk_154 0 16 (dk_at dksJ6_checkElementIndex_0 5 rfl rfl)
theorem dJ6_checkElementIndex_8 : decode cJ6_checkElementIndex 8 = .ok (.new 119, 3) := dk_187 0 119 (dk_at dksJ6_checkElementIndex_0 8 rfl rfl)
theorem dJ6_checkElementIndex_11 : decode cJ6_checkElementIndex 11 = .ok (.dup, 1) := dk_89 (dk_at dksJ6_checkElementIndex_0 11 rfl rfl)
theorem dJ6_checkElementIndex_12 : decode cJ6_checkElementIndex 12 = .ok (.aload_n 0, 1) := dk_42 (dk_at dksJ6_checkElementIndex_0 12 rfl rfl)
theorem dJ6_checkElementIndex_13 : decode cJ6_checkElementIndex 13 = .ok (.iload_n 1, 1) := dk_27 (dk_at dksJ6_checkElementIndex_0 13 rfl rfl)
theorem dJ6_checkElementIndex_14 : decode cJ6_checkElementIndex 14 = .ok (.invokevirtual 121, 3) := dk_182 0 121 (dk_at dksJ6_checkElementIndex_0 14 rfl rfl)
theorem dJ6_checkElementIndex_17 : decode cJ6_checkElementIndex 17 = .ok (.invokespecial 125, 3) := dk_183 0 125 (dk_at dksJ6_checkElementIndex_0 17 rfl rfl)
theorem dJ6_checkElementIndex_20 : decode cJ6_checkElementIndex 20 = .ok (.athrow, 1) := dk_191 (dk_at dksJ6_checkElementIndex_0 20 rfl rfl)
theorem dJ6_checkElementIndex_21 : decode cJ6_checkElementIndex 21 = .ok (.return_, 1) := dk_177 (dk_at dksJ6_checkElementIndex_0 21 rfl rfl)
theorem c47001 : jtCode 47001 = cJ6_checkElementIndex := rfl
theorem F47001_0 (d : Nat) (a0 : Nat) (i1 : Int32) (h : AH) : G2 d 47001 0 [.ref a0, .int i1] [] h = zcI (M2 d 47005 [.ref a0, .int i1] h) (fun x1 h2 => if x1 = 0 then (G2 d 47001 8 [.ref a0, .int i1] [] h2) else (some (.inl none, h2))) () := by
  refine (g_aload_nH c47001 dJ6_checkElementIndex_0 rfl).trans ?_
  refine (g_iload_nH c47001 dJ6_checkElementIndex_1 rfl).trans ?_
  refine (g_virtualH (as := [.ref a0, .int i1]) (rest := []) c47001 dJ6_checkElementIndex_2 rfl rfl rfl rfl rfl).trans ((jback_IH (κx := cX) (fun e h => jthrow_outH rfl)).trans (cI_cg fun x1 h2 => ?_))
  refine (g_if_neH (tgt := 21) c47001 dJ6_checkElementIndex_5 rfl).trans (if_cg ?_ ?_)
  · skip
    rfl
  · skip
    exact g_returnH c47001 dJ6_checkElementIndex_21 rfl
theorem Y47001 {d : Nat} {a0 : Nat} {i1 : Int32} (h : AH) (hr : jrecv 47001 [.ref a0, .int i1] h = true) : M2 (d + 1) 47001 [.ref a0, .int i1] h = G2 d 47001 0 [.ref a0, .int i1] [] h := M2_eq rfl rfl hr rfl
/-! java/util/LinkedList.checkPositionIndex(I)V -/
abbrev cJ6_checkPositionIndex : ByteArray := prog_79_method_30_code
def dkwJ6_checkPositionIndex_0 : List UInt8 := [42, 27, 182, 0, 128, 154, 0, 16, 187, 0, 119, 89, 42, 27, 182, 0, 121, 183, 0, 125, 191, 177]
abbrev dktJ6_checkPositionIndex_0 : List UInt8 := dkwJ6_checkPositionIndex_0 ++ []
theorem dksJ6_checkPositionIndex_0 : cJ6_checkPositionIndex.data.toList.drop 0 = dktJ6_checkPositionIndex_0 := by decide +kernel
theorem dJ6_checkPositionIndex_0 : decode cJ6_checkPositionIndex 0 = .ok (.aload_n 0, 1) := dk_42 (dk_at dksJ6_checkPositionIndex_0 0 rfl rfl)
theorem dJ6_checkPositionIndex_1 : decode cJ6_checkPositionIndex 1 = .ok (.iload_n 1, 1) := dk_27 (dk_at dksJ6_checkPositionIndex_0 1 rfl rfl)
theorem dJ6_checkPositionIndex_2 : decode cJ6_checkPositionIndex 2 = .ok (.invokevirtual 128, 3) := dk_182 0 128 (dk_at dksJ6_checkPositionIndex_0 2 rfl rfl)
theorem dJ6_checkPositionIndex_5 : decode cJ6_checkPositionIndex 5 = .ok (.ifCond .ne 16, 3) := dk_154 0 16 (dk_at dksJ6_checkPositionIndex_0 5 rfl rfl)
theorem dJ6_checkPositionIndex_8 : decode cJ6_checkPositionIndex 8 = .ok (.new 119, 3) := dk_187 0 119 (dk_at dksJ6_checkPositionIndex_0 8 rfl rfl)
theorem dJ6_checkPositionIndex_11 : decode cJ6_checkPositionIndex 11 = .ok (.dup, 1) := dk_89 (dk_at dksJ6_checkPositionIndex_0 11 rfl rfl)
theorem dJ6_checkPositionIndex_12 : decode cJ6_checkPositionIndex 12 = .ok (.aload_n 0, 1) := dk_42 (dk_at dksJ6_checkPositionIndex_0 12 rfl rfl)
theorem dJ6_checkPositionIndex_13 : decode cJ6_checkPositionIndex 13 = .ok (.iload_n 1, 1) := dk_27 (dk_at dksJ6_checkPositionIndex_0 13 rfl rfl)
theorem dJ6_checkPositionIndex_14 : decode cJ6_checkPositionIndex 14 = .ok (.invokevirtual 121, 3) := dk_182 0 121 (dk_at dksJ6_checkPositionIndex_0 14 rfl rfl)
theorem dJ6_checkPositionIndex_17 : decode cJ6_checkPositionIndex 17 = .ok (.invokespecial 125, 3) := dk_183 0 125 (dk_at dksJ6_checkPositionIndex_0 17 rfl rfl)
theorem dJ6_checkPositionIndex_20 : decode cJ6_checkPositionIndex 20 = .ok (.athrow, 1) := dk_191 (dk_at dksJ6_checkPositionIndex_0 20 rfl rfl)
theorem dJ6_checkPositionIndex_21 : decode cJ6_checkPositionIndex 21 = .ok (.return_, 1) := dk_177 (dk_at dksJ6_checkPositionIndex_0 21 rfl rfl)
theorem c47002 : jtCode 47002 = cJ6_checkPositionIndex := rfl
theorem F47002_0 (d : Nat) (a0 : Nat) (i1 : Int32) (h : AH) : G2 d 47002 0 [.ref a0, .int i1] [] h = zcI (M2 d 47006 [.ref a0, .int i1] h) (fun x1 h2 => if x1 = 0 then (G2 d 47002 8 [.ref a0, .int i1] [] h2) else (some (.inl none, h2))) () := by
  refine (g_aload_nH c47002 dJ6_checkPositionIndex_0 rfl).trans ?_
  refine (g_iload_nH c47002 dJ6_checkPositionIndex_1 rfl).trans ?_
  refine (g_virtualH (as := [.ref a0, .int i1]) (rest := []) c47002 dJ6_checkPositionIndex_2 rfl rfl rfl rfl rfl).trans ((jback_IH (κx := cX) (fun e h => jthrow_outH rfl)).trans (cI_cg fun x1 h2 => ?_))
  refine (g_if_neH (tgt := 21) c47002 dJ6_checkPositionIndex_5 rfl).trans (if_cg ?_ ?_)
  · skip
    rfl
  · skip
    exact g_returnH c47002 dJ6_checkPositionIndex_21 rfl
theorem Y47002 {d : Nat} {a0 : Nat} {i1 : Int32} (h : AH) (hr : jrecv 47002 [.ref a0, .int i1] h = true) : M2 (d + 1) 47002 [.ref a0, .int i1] h = G2 d 47002 0 [.ref a0, .int i1] [] h := M2_eq rfl rfl hr rfl
/-! java/util/LinkedList.get(I)Ljava/lang/Object; -/
abbrev cJ6_get : ByteArray := prog_79_method_22_code
def dkwJ6_get_0 : List UInt8 := [42, 27, 182, 0, 90, 42, 27, 182, 0, 86, 180, 0, 39, 176]
abbrev dktJ6_get_0 : List UInt8 := dkwJ6_get_0 ++ []
theorem dksJ6_get_0 : cJ6_get.data.toList.drop 0 = dktJ6_get_0 := by decide +kernel
theorem dJ6_get_0 : decode cJ6_get 0 = .ok (.aload_n 0, 1) := dk_42 (dk_at dksJ6_get_0 0 rfl rfl)
theorem dJ6_get_1 : decode cJ6_get 1 = .ok (.iload_n 1, 1) := dk_27 (dk_at dksJ6_get_0 1 rfl rfl)
theorem dJ6_get_2 : decode cJ6_get 2 = .ok (.invokevirtual 90, 3) := dk_182 0 90 (dk_at dksJ6_get_0 2 rfl rfl)
theorem dJ6_get_5 : decode cJ6_get 5 = .ok (.aload_n 0, 1) := dk_42 (dk_at dksJ6_get_0 5 rfl rfl)
theorem dJ6_get_6 : decode cJ6_get 6 = .ok (.iload_n 1, 1) := dk_27 (dk_at dksJ6_get_0 6 rfl rfl)
theorem dJ6_get_7 : decode cJ6_get 7 = .ok (.invokevirtual 86, 3) := dk_182 0 86 (dk_at dksJ6_get_0 7 rfl rfl)
theorem dJ6_get_10 : decode cJ6_get 10 = .ok (.getfield 39, 3) := dk_180 0 39 (dk_at dksJ6_get_0 10 rfl rfl)
theorem dJ6_get_13 : decode cJ6_get 13 = .ok (.areturn, 1) := dk_176 (dk_at dksJ6_get_0 13 rfl rfl)
theorem c47003 : jtCode 47003 = cJ6_get := rfl
theorem F47003_0 (d : Nat) (a0 : Nat) (i1 : Int32) (h : AH) : G2 d 47003 0 [.ref a0, .int i1] [] h = zcV (M2 d 47001 [.ref a0, .int i1] h) (fun h2 => zcR (M2 d 47009 [.ref a0, .int i1] h2) (fun r3 h4 => zpR (jf (jc h4 r3) [70] 0) (fun r5 => ckR r5 (some (.inl (some r5), h4))) ()) ()) () := by
  refine (g_aload_nH c47003 dJ6_get_0 rfl).trans ?_
  refine (g_iload_nH c47003 dJ6_get_1 rfl).trans ?_
  refine (g_virtualH (as := [.ref a0, .int i1]) (rest := []) c47003 dJ6_get_2 rfl rfl rfl rfl rfl).trans ((jback_VH (κx := cX) (fun e h => jthrow_outH rfl)).trans (cV_cg fun h2 => ?_))
  refine (g_aload_nH c47003 dJ6_get_5 rfl).trans ?_
  refine (g_iload_nH c47003 dJ6_get_6 rfl).trans ?_
  refine (g_virtualH (as := [.ref a0, .int i1]) (rest := []) c47003 dJ6_get_7 rfl rfl rfl rfl rfl).trans ((jback_RH (κx := cX) (fun e h => jthrow_outH rfl)).trans (cR_cg fun r3 h4 => ?_))
  refine (g_getRH c47003 dJ6_get_10 rfl).trans (rR_cg fun r5 => ?_)
  exact g_areturnH c47003 dJ6_get_13 rfl
theorem Y47003 {d : Nat} {a0 : Nat} {i1 : Int32} (h : AH) (hr : jrecv 47003 [.ref a0, .int i1] h = true) : M2 (d + 1) 47003 [.ref a0, .int i1] h = G2 d 47003 0 [.ref a0, .int i1] [] h := M2_eq rfl rfl hr rfl
/-! java/util/LinkedList.getFirst()Ljava/lang/Object; -/
abbrev cJ6_getFirst : ByteArray := prog_79_method_9_code
def dkwJ6_getFirst_0 : List UInt8 := [42, 180, 0, 18, 76, 43, 199, 0, 11, 187, 0, 43, 89, 183, 0, 45, 191, 43, 180, 0, 39, 176]
abbrev dktJ6_getFirst_0 : List UInt8 := dkwJ6_getFirst_0 ++ []
theorem dksJ6_getFirst_0 : cJ6_getFirst.data.toList.drop 0 = dktJ6_getFirst_0 := by decide +kernel
theorem dJ6_getFirst_0 : decode cJ6_getFirst 0 = .ok (.aload_n 0, 1) := dk_42 (dk_at dksJ6_getFirst_0 0 rfl rfl)
theorem dJ6_getFirst_1 : decode cJ6_getFirst 1 = .ok (.getfield 18, 3) := dk_180 0 18 (dk_at dksJ6_getFirst_0 1 rfl rfl)
theorem dJ6_getFirst_4 : decode cJ6_getFirst 4 = .ok (.astore_n 1, 1) := dk_76 (dk_at dksJ6_getFirst_0 4 rfl rfl)
theorem dJ6_getFirst_5 : decode cJ6_getFirst 5 = .ok (.aload_n 1, 1) := dk_43 (dk_at dksJ6_getFirst_0 5 rfl rfl)
theorem dJ6_getFirst_6 : decode cJ6_getFirst 6 = .ok (.ifnonnull 11, 3) := dk_199 0 11 (dk_at dksJ6_getFirst_0 6 rfl rfl)
theorem dJ6_getFirst_9 : decode cJ6_getFirst 9 = .ok (.new 43, 3) := dk_187 0 43 (dk_at dksJ6_getFirst_0 9 rfl rfl)
theorem dJ6_getFirst_12 : decode cJ6_getFirst 12 = .ok (.dup, 1) := dk_89 (dk_at dksJ6_getFirst_0 12 rfl rfl)
theorem dJ6_getFirst_13 : decode cJ6_getFirst 13 = .ok (.invokespecial 45, 3) := dk_183 0 45 (dk_at dksJ6_getFirst_0 13 rfl rfl)
theorem dJ6_getFirst_16 : decode cJ6_getFirst 16 = .ok (.athrow, 1) := dk_191 (dk_at dksJ6_getFirst_0 16 rfl rfl)
theorem dJ6_getFirst_17 : decode cJ6_getFirst 17 = .ok (.aload_n 1, 1) := dk_43 (dk_at dksJ6_getFirst_0 17 rfl rfl)
theorem dJ6_getFirst_18 : decode cJ6_getFirst 18 = .ok (.getfield 39, 3) := dk_180 0 39 (dk_at dksJ6_getFirst_0 18 rfl rfl)
theorem dJ6_getFirst_21 : decode cJ6_getFirst 21 = .ok (.areturn, 1) := dk_176 (dk_at dksJ6_getFirst_0 21 rfl rfl)
theorem c47004 : jtCode 47004 = cJ6_getFirst := rfl
theorem F47004_0 (d : Nat) (a0 : Nat) (h : AH) : G2 d 47004 0 [.ref a0, jno] [] h = zpR (jf (jc h (.ref a0)) [47] 2) (fun r1 => zkR r1 (zkR r1 (zkR r1 (if (r1 : Value) = .null then (cX h.1 (jpush h (66, 6, jL []))) else (zkR r1 (zpR (jf (jc h r1) [70] 0) (fun r2 => ckR r2 (some (.inl (some r2), h))) ()) ())) ()) ()) ()) () := by
  refine (g_aload_nH c47004 dJ6_getFirst_0 rfl).trans ?_
  refine (g_getRH c47004 dJ6_getFirst_1 rfl).trans (rR_cg fun r1 => ?_)
  refine (g_astore_nVH (L' := [.ref a0, r1]) c47004 dJ6_getFirst_4 rfl rfl).trans (ckR_cg ?_)
  refine (g_aload_nVH c47004 dJ6_getFirst_5 rfl).trans (ckR_cg ?_)
  refine (g_ifnonnullH (tgt := 17) c47004 dJ6_getFirst_6 rfl).trans (ckR_cg (if_cg ?_ ?_))
  · skip
    exact g_throwNewH (l := []) c47004 dJ6_getFirst_9 rfl rfl (by decide +kernel)
  · skip
    refine (g_aload_nVH c47004 dJ6_getFirst_17 rfl).trans (ckR_cg ?_)
    refine (g_getRH c47004 dJ6_getFirst_18 rfl).trans (rR_cg fun r2 => ?_)
    exact g_areturnH c47004 dJ6_getFirst_21 rfl
theorem Y47004 {d : Nat} {a0 : Nat} (h : AH) (hr : jrecv 47004 [.ref a0] h = true) : M2 (d + 1) 47004 [.ref a0] h = G2 d 47004 0 [.ref a0, jno] [] h := M2_eq rfl rfl hr rfl
/-! java/util/LinkedList.isElementIndex(I)Z -/
abbrev cJ6_isElementIndex : ByteArray := prog_79_method_26_code
def dkwJ6_isElementIndex_0 : List UInt8 := [27, 155, 0, 15, 27, 42, 180, 0, 7, 162, 0, 7, 4, 167, 0, 4, 3, 172]
abbrev dktJ6_isElementIndex_0 : List UInt8 := dkwJ6_isElementIndex_0 ++ []
theorem dksJ6_isElementIndex_0 : cJ6_isElementIndex.data.toList.drop 0 = dktJ6_isElementIndex_0 := by decide +kernel
theorem dJ6_isElementIndex_0 : decode cJ6_isElementIndex 0 = .ok (.iload_n 1, 1) := dk_27 (dk_at dksJ6_isElementIndex_0 0 rfl rfl)
theorem dJ6_isElementIndex_1 : decode cJ6_isElementIndex 1 = .ok (.ifCond .lt 15, 3) := dk_155 0 15 (dk_at dksJ6_isElementIndex_0 1 rfl rfl)
theorem dJ6_isElementIndex_4 : decode cJ6_isElementIndex 4 = .ok (.iload_n 1, 1) := dk_27 (dk_at dksJ6_isElementIndex_0 4 rfl rfl)
theorem dJ6_isElementIndex_5 : decode cJ6_isElementIndex 5 = .ok (.aload_n 0, 1) := dk_42 (dk_at dksJ6_isElementIndex_0 5 rfl rfl)
theorem dJ6_isElementIndex_6 : decode cJ6_isElementIndex 6 = .ok (.getfield 7, 3) := dk_180 0 7 (dk_at dksJ6_isElementIndex_0 6 rfl rfl)
theorem dJ6_isElementIndex_9 : decode cJ6_isElementIndex 9 = .ok (.if_icmp .ge 7, 3) := dk_162 0 7 (dk_at dksJ6_isElementIndex_0 9 rfl rfl)
theorem dJ6_isElementIndex_12 : decode cJ6_isElementIndex 12 = .ok (.iconst 1, 1) := dk_4 (dk_at dksJ6_isElementIndex_0 12 rfl rfl)
theorem dJ6_isElementIndex_13 : decode cJ6_isElementIndex 13 = .ok (.goto 4, 3) := dk_167 0 4 (dk_at dksJ6_isElementIndex_0 13 rfl rfl)
theorem dJ6_isElementIndex_16 : decode cJ6_isElementIndex 16 = .ok (.iconst 0, 1) := dk_3 (dk_at dksJ6_isElementIndex_0 16 rfl rfl)
theorem dJ6_isElementIndex_17 : decode cJ6_isElementIndex 17 = .ok (.ireturn, 1) := dk_172 (dk_at dksJ6_isElementIndex_0 17 rfl rfl)
theorem c47005 : jtCode 47005 = cJ6_isElementIndex := rfl
theorem F47005_0 (d : Nat) (a0 : Nat) (i1 : Int32) (h : AH) : G2 d 47005 0 [.ref a0, .int i1] [] h = if i1 < 0 then (some (.inl (some (.int 0)), h)) else (zpI (jf (jc h (.ref a0)) [47] 1) (fun x1 => if x1 ≤ i1 then (some (.inl (some (.int 0)), h)) else (some (.inl (some (.int 1)), h))) ()) := by
  refine (g_iload_nH c47005 dJ6_isElementIndex_0 rfl).trans ?_
  refine (g_if_ltH (tgt := 16) c47005 dJ6_isElementIndex_1 rfl).trans (if_cg ?_ ?_)
  · skip
    refine (g_iconstH (x := 0) c47005 dJ6_isElementIndex_16 rfl).trans ?_
    exact g_zreturn0H c47005 dJ6_isElementIndex_17 rfl
  · skip
    refine (g_iload_nH c47005 dJ6_isElementIndex_4 rfl).trans ?_
    refine (g_aload_nH c47005 dJ6_isElementIndex_5 rfl).trans ?_
    refine (g_getIH c47005 dJ6_isElementIndex_6 rfl rfl).trans (rI_cg fun x1 => ?_)
    refine (g_icmp_geH (tgt := 16) c47005 dJ6_isElementIndex_9 rfl).trans (if_cg ?_ ?_)
    · skip
      refine (g_iconstH (x := 0) c47005 dJ6_isElementIndex_16 rfl).trans ?_
      exact g_zreturn0H c47005 dJ6_isElementIndex_17 rfl
    · skip
      refine (g_iconstH (x := 1) c47005 dJ6_isElementIndex_12 rfl).trans ?_
      refine (g_gotoH (tgt := 17) c47005 dJ6_isElementIndex_13 rfl).trans ?_
      exact g_zreturn1H c47005 dJ6_isElementIndex_17 rfl
theorem Y47005 {d : Nat} {a0 : Nat} {i1 : Int32} (h : AH) (hr : jrecv 47005 [.ref a0, .int i1] h = true) : M2 (d + 1) 47005 [.ref a0, .int i1] h = G2 d 47005 0 [.ref a0, .int i1] [] h := M2_eq rfl rfl hr rfl
/-! java/util/LinkedList.isPositionIndex(I)Z -/
abbrev cJ6_isPositionIndex : ByteArray := prog_79_method_27_code
def dkwJ6_isPositionIndex_0 : List UInt8 := [27, 155, 0, 15, 27, 42, 180, 0, 7, 163, 0, 7, 4, 167, 0, 4, 3, 172]
abbrev dktJ6_isPositionIndex_0 : List UInt8 := dkwJ6_isPositionIndex_0 ++ []
theorem dksJ6_isPositionIndex_0 : cJ6_isPositionIndex.data.toList.drop 0 = dktJ6_isPositionIndex_0 := by decide +kernel
theorem dJ6_isPositionIndex_0 : decode cJ6_isPositionIndex 0 = .ok (.iload_n 1, 1) := dk_27 (dk_at dksJ6_isPositionIndex_0 0 rfl rfl)
theorem dJ6_isPositionIndex_1 : decode cJ6_isPositionIndex 1 = .ok (.ifCond .lt 15, 3) := dk_155 0 15 (dk_at dksJ6_isPositionIndex_0 1 rfl rfl)
theorem dJ6_isPositionIndex_4 : decode cJ6_isPositionIndex 4 = .ok (.iload_n 1, 1) := dk_27 (dk_at dksJ6_isPositionIndex_0 4 rfl rfl)
theorem dJ6_isPositionIndex_5 : decode cJ6_isPositionIndex 5 = .ok (.aload_n 0, 1) := dk_42 (dk_at dksJ6_isPositionIndex_0 5 rfl rfl)
theorem dJ6_isPositionIndex_6 : decode cJ6_isPositionIndex 6 = .ok (.getfield 7, 3) := dk_180 0 7 (dk_at dksJ6_isPositionIndex_0 6 rfl rfl)
theorem dJ6_isPositionIndex_9 : decode cJ6_isPositionIndex 9 = .ok (.if_icmp .gt 7, 3) := dk_163 0 7 (dk_at dksJ6_isPositionIndex_0 9 rfl rfl)
theorem dJ6_isPositionIndex_12 : decode cJ6_isPositionIndex 12 = .ok (.iconst 1, 1) := dk_4 (dk_at dksJ6_isPositionIndex_0 12 rfl rfl)
theorem dJ6_isPositionIndex_13 : decode cJ6_isPositionIndex 13 = .ok (.goto 4, 3) := dk_167 0 4 (dk_at dksJ6_isPositionIndex_0 13 rfl rfl)
theorem dJ6_isPositionIndex_16 : decode cJ6_isPositionIndex 16 = .ok (.iconst 0, 1) := dk_3 (dk_at dksJ6_isPositionIndex_0 16 rfl rfl)
theorem dJ6_isPositionIndex_17 : decode cJ6_isPositionIndex 17 = .ok (.ireturn, 1) := dk_172 (dk_at dksJ6_isPositionIndex_0 17 rfl rfl)
theorem c47006 : jtCode 47006 = cJ6_isPositionIndex := rfl
theorem F47006_0 (d : Nat) (a0 : Nat) (i1 : Int32) (h : AH) : G2 d 47006 0 [.ref a0, .int i1] [] h = if i1 < 0 then (some (.inl (some (.int 0)), h)) else (zpI (jf (jc h (.ref a0)) [47] 1) (fun x1 => if x1 < i1 then (some (.inl (some (.int 0)), h)) else (some (.inl (some (.int 1)), h))) ()) := by
  refine (g_iload_nH c47006 dJ6_isPositionIndex_0 rfl).trans ?_
  refine (g_if_ltH (tgt := 16) c47006 dJ6_isPositionIndex_1 rfl).trans (if_cg ?_ ?_)
  · skip
    refine (g_iconstH (x := 0) c47006 dJ6_isPositionIndex_16 rfl).trans ?_
    exact g_zreturn0H c47006 dJ6_isPositionIndex_17 rfl
  · skip
    refine (g_iload_nH c47006 dJ6_isPositionIndex_4 rfl).trans ?_
    refine (g_aload_nH c47006 dJ6_isPositionIndex_5 rfl).trans ?_
    refine (g_getIH c47006 dJ6_isPositionIndex_6 rfl rfl).trans (rI_cg fun x1 => ?_)
    refine (g_icmp_gtH (tgt := 16) c47006 dJ6_isPositionIndex_9 rfl).trans (if_cg ?_ ?_)
    · skip
      refine (g_iconstH (x := 0) c47006 dJ6_isPositionIndex_16 rfl).trans ?_
      exact g_zreturn0H c47006 dJ6_isPositionIndex_17 rfl
    · skip
      refine (g_iconstH (x := 1) c47006 dJ6_isPositionIndex_12 rfl).trans ?_
      refine (g_gotoH (tgt := 17) c47006 dJ6_isPositionIndex_13 rfl).trans ?_
      exact g_zreturn1H c47006 dJ6_isPositionIndex_17 rfl
theorem Y47006 {d : Nat} {a0 : Nat} {i1 : Int32} (h : AH) (hr : jrecv 47006 [.ref a0, .int i1] h = true) : M2 (d + 1) 47006 [.ref a0, .int i1] h = G2 d 47006 0 [.ref a0, .int i1] [] h := M2_eq rfl rfl hr rfl
/-! java/util/LinkedList.linkLast(Ljava/lang/Object;)V -/
abbrev cJ6_linkLast : ByteArray := prog_79_method_4_code
def dkwJ6_linkLast_2 : List UInt8 := [181, 0, 7, 42, 89, 180, 0, 33, 4, 96, 181, 0, 33, 177]
abbrev dktJ6_linkLast_2 : List UInt8 := dkwJ6_linkLast_2 ++ []
def dkwJ6_linkLast_1 : List UInt8 := [199, 0, 11, 42, 45, 181, 0, 18, 167, 0, 8, 44, 45, 181, 0, 36, 42, 89, 180, 0, 7, 4, 96]
abbrev dktJ6_linkLast_1 : List UInt8 := dkwJ6_linkLast_1 ++ dktJ6_linkLast_2
def dkwJ6_linkLast_0 : List UInt8 := [42, 180, 0, 27, 77, 187, 0, 22, 89, 44, 43, 1, 183, 0, 24, 78, 42, 45, 181, 0, 27, 44]
abbrev dktJ6_linkLast_0 : List UInt8 := dkwJ6_linkLast_0 ++ dktJ6_linkLast_1
theorem dksJ6_linkLast_0 : cJ6_linkLast.data.toList.drop 0 = dktJ6_linkLast_0 := by decide +kernel
theorem dksJ6_linkLast_1 : cJ6_linkLast.data.toList.drop 22 = dktJ6_linkLast_1 := dk_seg dksJ6_linkLast_0 22 rfl rfl
theorem dksJ6_linkLast_2 : cJ6_linkLast.data.toList.drop 45 = dktJ6_linkLast_2 := dk_seg dksJ6_linkLast_1 23 rfl rfl
theorem dJ6_linkLast_0 : decode cJ6_linkLast 0 = .ok (.aload_n 0, 1) := dk_42 (dk_at dksJ6_linkLast_0 0 rfl rfl)
theorem dJ6_linkLast_1 : decode cJ6_linkLast 1 = .ok (.getfield 27, 3) := dk_180 0 27 (dk_at dksJ6_linkLast_0 1 rfl rfl)
theorem dJ6_linkLast_4 : decode cJ6_linkLast 4 = .ok (.astore_n 2, 1) := dk_77 (dk_at dksJ6_linkLast_0 4 rfl rfl)
theorem dJ6_linkLast_5 : decode cJ6_linkLast 5 = .ok (.new 22, 3) := dk_187 0 22 (dk_at dksJ6_linkLast_0 5 rfl rfl)
theorem dJ6_linkLast_8 : decode cJ6_linkLast 8 = .ok (.dup, 1) := dk_89 (dk_at dksJ6_linkLast_0 8 rfl rfl)
theorem dJ6_linkLast_9 : decode cJ6_linkLast 9 = .ok (.aload_n 2, 1) := dk_44 (dk_at dksJ6_linkLast_0 9 rfl rfl)
theorem dJ6_linkLast_10 : decode cJ6_linkLast 10 = .ok (.aload_n 1, 1) := dk_43 (dk_at dksJ6_linkLast_0 10 rfl rfl)
theorem dJ6_linkLast_11 : decode cJ6_linkLast 11 = .ok (.aconst_null, 1) := dk_1 (dk_at dksJ6_linkLast_0 11 rfl rfl)
theorem dJ6_linkLast_12 : decode cJ6_linkLast 12 = .ok (.invokespecial 24, 3) := dk_183 0 24 (dk_at dksJ6_linkLast_0 12 rfl rfl)
theorem dJ6_linkLast_15 : decode cJ6_linkLast 15 = .ok (.astore_n 3, 1) := dk_78 (dk_at dksJ6_linkLast_0 15 rfl rfl)
theorem dJ6_linkLast_16 : decode cJ6_linkLast 16 = .ok (.aload_n 0, 1) := dk_42 (dk_at dksJ6_linkLast_0 16 rfl rfl)
theorem dJ6_linkLast_17 : decode cJ6_linkLast 17 = .ok (.aload_n 3, 1) := dk_45 (dk_at dksJ6_linkLast_0 17 rfl rfl)
theorem dJ6_linkLast_18 : decode cJ6_linkLast 18 = .ok (.putfield 27, 3) := dk_181 0 27 (dk_at dksJ6_linkLast_0 18 rfl rfl)
theorem dJ6_linkLast_21 : decode cJ6_linkLast 21 = .ok (.aload_n 2, 1) := dk_44 (dk_at dksJ6_linkLast_0 21 rfl rfl)
theorem dJ6_linkLast_22 : decode cJ6_linkLast 22 = .ok (.ifnonnull 11, 3) := dk_199 0 11 (dk_at dksJ6_linkLast_1 0 rfl rfl)
theorem dJ6_linkLast_25 : decode cJ6_linkLast 25 = .ok (.aload_n 0, 1) := dk_42 (dk_at dksJ6_linkLast_1 3 rfl rfl)
theorem dJ6_linkLast_26 : decode cJ6_linkLast 26 = .ok (.aload_n 3, 1) := dk_45 (dk_at dksJ6_linkLast_1 4 rfl rfl)
theorem dJ6_linkLast_27 : decode cJ6_linkLast 27 = .ok (.putfield 18, 3) := dk_181 0 18 (dk_at dksJ6_linkLast_1 5 rfl rfl)
theorem dJ6_linkLast_30 : decode cJ6_linkLast 30 = .ok (.goto 8, 3) := dk_167 0 8 (dk_at dksJ6_linkLast_1 8 rfl rfl)
theorem dJ6_linkLast_33 : decode cJ6_linkLast 33 = .ok (.aload_n 2, 1) := dk_44 (dk_at dksJ6_linkLast_1 11 rfl rfl)
theorem dJ6_linkLast_34 : decode cJ6_linkLast 34 = .ok (.aload_n 3, 1) := dk_45 (dk_at dksJ6_linkLast_1 12 rfl rfl)
theorem dJ6_linkLast_35 : decode cJ6_linkLast 35 = .ok (.putfield 36, 3) := dk_181 0 36 (dk_at dksJ6_linkLast_1 13 rfl rfl)
theorem dJ6_linkLast_38 : decode cJ6_linkLast 38 = .ok (.aload_n 0, 1) := dk_42 (dk_at dksJ6_linkLast_1 16 rfl rfl)
theorem dJ6_linkLast_39 : decode cJ6_linkLast 39 = .ok (.dup, 1) := dk_89 (dk_at dksJ6_linkLast_1 17 rfl rfl)
theorem dJ6_linkLast_40 : decode cJ6_linkLast 40 = .ok (.getfield 7, 3) := dk_180 0 7 (dk_at dksJ6_linkLast_1 18 rfl rfl)
theorem dJ6_linkLast_43 : decode cJ6_linkLast 43 = .ok (.iconst 1, 1) := dk_4 (dk_at dksJ6_linkLast_1 21 rfl rfl)
theorem dJ6_linkLast_44 : decode cJ6_linkLast 44 = .ok (.iadd, 1) := dk_96 (dk_at dksJ6_linkLast_1 22 rfl rfl)
theorem dJ6_linkLast_45 : decode cJ6_linkLast 45 = .ok (.putfield 7, 3) := dk_181 0 7 (dk_at dksJ6_linkLast_2 0 rfl rfl)
theorem dJ6_linkLast_48 : decode cJ6_linkLast 48 = .ok (.aload_n 0, 1) := dk_42 (dk_at dksJ6_linkLast_2 3 rfl rfl)
theorem dJ6_linkLast_49 : decode cJ6_linkLast 49 = .ok (.dup, 1) := dk_89 (dk_at dksJ6_linkLast_2 4 rfl rfl)
theorem dJ6_linkLast_50 : decode cJ6_linkLast 50 = .ok (.getfield 33, 3) := dk_180 0 33 (dk_at dksJ6_linkLast_2 5 rfl rfl)
theorem dJ6_linkLast_53 : decode cJ6_linkLast 53 = .ok (.iconst 1, 1) := dk_4 (dk_at dksJ6_linkLast_2 8 rfl rfl)
theorem dJ6_linkLast_54 : decode cJ6_linkLast 54 = .ok (.iadd, 1) := dk_96 (dk_at dksJ6_linkLast_2 9 rfl rfl)
theorem dJ6_linkLast_55 : decode cJ6_linkLast 55 = .ok (.putfield 33, 3) := dk_181 0 33 (dk_at dksJ6_linkLast_2 10 rfl rfl)
theorem dJ6_linkLast_58 : decode cJ6_linkLast 58 = .ok (.return_, 1) := dk_177 (dk_at dksJ6_linkLast_2 13 rfl rfl)
theorem c47007 : jtCode 47007 = cJ6_linkLast := rfl
theorem F47007_0 (d : Nat) (a0 : Nat) (v1 : Value) (h : AH) : G2 d 47007 0 [.ref a0, v1, jno, jno] [] h = zpR (jf (jc h (.ref a0)) [47] 3) (fun r1 => zkR r1 (zqH (jpush h (70, 3, jL [.null, .null, .null])) (fun h2 => zkR r1 (zkR v1 (zcV (M2 d 70900 [.ref h.1, r1, v1, .null] h2) (fun h4 => zqF h4 (.ref a0) [47] 3 2 (.ref h.1) (fun h5 => zkR r1 (zkR r1 (if (r1 : Value) = .null then (zqF h5 (.ref a0) [47] 2 2 (.ref h.1) (fun h6 => zpI (jf (jc h6 (.ref a0)) [47] 1) (fun x7 => zqF h6 (.ref a0) [47] 1 0 (.int (x7 + 1)) (fun h8 => zpI (jf (jc h8 (.ref a0)) [43, 47] 0) (fun x9 => zqF h8 (.ref a0) [43, 47] 0 0 (.int (x9 + 1)) (fun h10 => some (.inl none, h10)) ()) ()) ()) ()) ()) else (zkR r1 (zqF h5 r1 [70] 1 2 (.ref h.1) (fun h11 => zpI (jf (jc h11 (.ref a0)) [47] 1) (fun x12 => zqF h11 (.ref a0) [47] 1 0 (.int (x12 + 1)) (fun h13 => zpI (jf (jc h13 (.ref a0)) [43, 47] 0) (fun x14 => zqF h13 (.ref a0) [43, 47] 0 0 (.int (x14 + 1)) (fun h15 => some (.inl none, h15)) ()) ()) ()) ()) ()) ())) ()) ()) ()) ()) ()) ()) ()) ()) () := by
  refine (g_aload_nH c47007 dJ6_linkLast_0 rfl).trans ?_
  refine (g_getRH c47007 dJ6_linkLast_1 rfl).trans (rR_cg fun r1 => ?_)
  refine (g_astore_nVH (L' := [.ref a0, v1, r1, jno]) c47007 dJ6_linkLast_4 rfl rfl).trans (ckR_cg ?_)
  refine (g_newH (l := [.null, .null, .null]) c47007 dJ6_linkLast_5 rfl rfl).trans ?_
  refine nmZ ?_
  generalize jpush h (70, 3, jL [.null, .null, .null]) = h2
  refine (g_dup_rH c47007 dJ6_linkLast_8).trans ?_
  refine (g_aload_nVH c47007 dJ6_linkLast_9 rfl).trans (ckR_cg ?_)
  refine (g_aload_nVH c47007 dJ6_linkLast_10 rfl).trans (ckR_cg ?_)
  refine (g_aconst_nullH c47007 dJ6_linkLast_11).trans ?_
  refine (g_specialH (as := [.ref h.1, r1, v1, .null]) (rest := [.ref h.1]) c47007 dJ6_linkLast_12 rfl rfl rfl rfl rfl).trans ((jback_VH (κx := cX) (fun e h => jthrow_outH rfl)).trans (cV_cg fun h4 => ?_))
  refine (g_astore_nH (L' := [.ref a0, v1, r1, .ref h.1]) c47007 dJ6_linkLast_15 rfl rfl).trans ?_
  refine (g_aload_nH c47007 dJ6_linkLast_16 rfl).trans ?_
  refine (g_aload_nH c47007 dJ6_linkLast_17 rfl).trans ?_
  refine (g_putH c47007 dJ6_linkLast_18 rfl).trans (pF_cg fun h5 => ?_)
  refine (g_aload_nVH c47007 dJ6_linkLast_21 rfl).trans (ckR_cg ?_)
  refine (g_ifnonnullH (tgt := 33) c47007 dJ6_linkLast_22 rfl).trans (ckR_cg (if_cg ?_ ?_))
  · skip
    refine (g_aload_nH c47007 dJ6_linkLast_25 rfl).trans ?_
    refine (g_aload_nH c47007 dJ6_linkLast_26 rfl).trans ?_
    refine (g_putH c47007 dJ6_linkLast_27 rfl).trans (pF_cg fun h6 => ?_)
    refine (g_gotoH (tgt := 38) c47007 dJ6_linkLast_30 rfl).trans ?_
    refine (g_aload_nH c47007 dJ6_linkLast_38 rfl).trans ?_
    refine (g_dup_rH c47007 dJ6_linkLast_39).trans ?_
    refine (g_getIH c47007 dJ6_linkLast_40 rfl rfl).trans (rI_cg fun x7 => ?_)
    refine (g_iconstH (x := 1) c47007 dJ6_linkLast_43 rfl).trans ?_
    refine (g_iaddH c47007 dJ6_linkLast_44).trans ?_
    refine (g_putH c47007 dJ6_linkLast_45 rfl).trans (pF_cg fun h8 => ?_)
    refine (g_aload_nH c47007 dJ6_linkLast_48 rfl).trans ?_
    refine (g_dup_rH c47007 dJ6_linkLast_49).trans ?_
    refine (g_getIH c47007 dJ6_linkLast_50 rfl rfl).trans (rI_cg fun x9 => ?_)
    refine (g_iconstH (x := 1) c47007 dJ6_linkLast_53 rfl).trans ?_
    refine (g_iaddH c47007 dJ6_linkLast_54).trans ?_
    refine (g_putH c47007 dJ6_linkLast_55 rfl).trans (pF_cg fun h10 => ?_)
    exact g_returnH c47007 dJ6_linkLast_58 rfl
  · skip
    refine (g_aload_nVH c47007 dJ6_linkLast_33 rfl).trans (ckR_cg ?_)
    refine (g_aload_nH c47007 dJ6_linkLast_34 rfl).trans ?_
    refine (g_putH c47007 dJ6_linkLast_35 rfl).trans (pF_cg fun h11 => ?_)
    refine (g_aload_nH c47007 dJ6_linkLast_38 rfl).trans ?_
    refine (g_dup_rH c47007 dJ6_linkLast_39).trans ?_
    refine (g_getIH c47007 dJ6_linkLast_40 rfl rfl).trans (rI_cg fun x12 => ?_)
    refine (g_iconstH (x := 1) c47007 dJ6_linkLast_43 rfl).trans ?_
    refine (g_iaddH c47007 dJ6_linkLast_44).trans ?_
    refine (g_putH c47007 dJ6_linkLast_45 rfl).trans (pF_cg fun h13 => ?_)
    refine (g_aload_nH c47007 dJ6_linkLast_48 rfl).trans ?_
    refine (g_dup_rH c47007 dJ6_linkLast_49).trans ?_
    refine (g_getIH c47007 dJ6_linkLast_50 rfl rfl).trans (rI_cg fun x14 => ?_)
    refine (g_iconstH (x := 1) c47007 dJ6_linkLast_53 rfl).trans ?_
    refine (g_iaddH c47007 dJ6_linkLast_54).trans ?_
    refine (g_putH c47007 dJ6_linkLast_55 rfl).trans (pF_cg fun h15 => ?_)
    exact g_returnH c47007 dJ6_linkLast_58 rfl
theorem Y47007 {d : Nat} {a0 : Nat} {v1 : Value} (h : AH) (hv1 : isR v1 = true) (hr : jrecv 47007 [.ref a0, v1] h = true) : M2 (d + 1) 47007 [.ref a0, v1] h = G2 d 47007 0 [.ref a0, v1, jno, jno] [] h := M2_eq rfl rfl hr (by simp only [jent, jargL_R hv1, jargL]; rfl)
/-! java/util/LinkedList.listIterator(I)Ljava/util/ListIterator; -/
abbrev cJ6_listIterator : ByteArray := prog_79_method_49_code
def dkwJ6_listIterator_0 : List UInt8 := [42, 27, 182, 0, 76, 187, 0, 150, 89, 42, 27, 183, 0, 152, 176]
abbrev dktJ6_listIterator_0 : List UInt8 := dkwJ6_listIterator_0 ++ []
theorem dksJ6_listIterator_0 : cJ6_listIterator.data.toList.drop 0 = dktJ6_listIterator_0 := by decide +kernel
theorem dJ6_listIterator_0 : decode cJ6_listIterator 0 = .ok (.aload_n 0, 1) := dk_42 (dk_at dksJ6_listIterator_0 0 rfl rfl)
theorem dJ6_listIterator_1 : decode cJ6_listIterator 1 = .ok (.iload_n 1, 1) := dk_27 (dk_at dksJ6_listIterator_0 1 rfl rfl)
theorem dJ6_listIterator_2 : decode cJ6_listIterator 2 = .ok (.invokevirtual 76, 3) := dk_182 0 76 (dk_at dksJ6_listIterator_0 2 rfl rfl)
theorem dJ6_listIterator_5 : decode cJ6_listIterator 5 = .ok (.new 150, 3) := dk_187 0 150 (dk_at dksJ6_listIterator_0 5 rfl rfl)
theorem dJ6_listIterator_8 : decode cJ6_listIterator 8 = .ok (.dup, 1) := dk_89 (dk_at dksJ6_listIterator_0 8 rfl rfl)
theorem dJ6_listIterator_9 : decode cJ6_listIterator 9 = .ok (.aload_n 0, 1) := dk_42 (dk_at dksJ6_listIterator_0 9 rfl rfl)
theorem dJ6_listIterator_10 : decode cJ6_listIterator 10 = .ok (.iload_n 1, 1) := dk_27 (dk_at dksJ6_listIterator_0 10 rfl rfl)
theorem dJ6_listIterator_11 : decode cJ6_listIterator 11 = .ok (.invokespecial 152, 3) := dk_183 0 152 (dk_at dksJ6_listIterator_0 11 rfl rfl)
theorem dJ6_listIterator_14 : decode cJ6_listIterator 14 = .ok (.areturn, 1) := dk_176 (dk_at dksJ6_listIterator_0 14 rfl rfl)
theorem c47008 : jtCode 47008 = cJ6_listIterator := rfl
theorem F47008_0 (d : Nat) (a0 : Nat) (i1 : Int32) (h : AH) : G2 d 47008 0 [.ref a0, .int i1] [] h = zcV (M2 d 47002 [.ref a0, .int i1] h) (fun h2 => zqH (jpush h2 (77, 5, jL [.null, .null, .int 0, .int 0, .null])) (fun h3 => zcV (M2 d 77900 [.ref h2.1, .ref a0, .int i1] h3) (fun h5 => some (.inl (some (.ref h2.1)), h5)) ()) ()) () := by
  refine (g_aload_nH c47008 dJ6_listIterator_0 rfl).trans ?_
  refine (g_iload_nH c47008 dJ6_listIterator_1 rfl).trans ?_
  refine (g_virtualH (as := [.ref a0, .int i1]) (rest := []) c47008 dJ6_listIterator_2 rfl rfl rfl rfl rfl).trans ((jback_VH (κx := cX) (fun e h => jthrow_outH rfl)).trans (cV_cg fun h2 => ?_))
  refine (g_newH (l := [.null, .null, .int 0, .int 0, .null]) c47008 dJ6_listIterator_5 rfl rfl).trans ?_
  refine nmZ ?_
  generalize jpush h2 (77, 5, jL [.null, .null, .int 0, .int 0, .null]) = h3
  refine (g_dup_rH c47008 dJ6_listIterator_8).trans ?_
  refine (g_aload_nH c47008 dJ6_listIterator_9 rfl).trans ?_
  refine (g_iload_nH c47008 dJ6_listIterator_10 rfl).trans ?_
  refine (g_specialH (as := [.ref h2.1, .ref a0, .int i1]) (rest := [.ref h2.1]) c47008 dJ6_listIterator_11 rfl rfl rfl rfl rfl).trans ((jback_VH (κx := cX) (fun e h => jthrow_outH rfl)).trans (cV_cg fun h5 => ?_))
  exact g_areturn_rH c47008 dJ6_listIterator_14 rfl
theorem Y47008 {d : Nat} {a0 : Nat} {i1 : Int32} (h : AH) (hr : jrecv 47008 [.ref a0, .int i1] h = true) : M2 (d + 1) 47008 [.ref a0, .int i1] h = G2 d 47008 0 [.ref a0, .int i1] [] h := M2_eq rfl rfl hr rfl
/-! java/util/LinkedList.node(I)Ljava/util/LinkedList$Node; -/
abbrev cJ6_node : ByteArray := prog_79_method_31_code
def dkwJ6_node_2 : List UInt8 := [29, 27, 164, 0, 14, 44, 180, 0, 30, 77, 132, 3, 255, 167, 255, 243, 44, 176]
abbrev dktJ6_node_2 : List UInt8 := dkwJ6_node_2 ++ []
def dkwJ6_node_1 : List UInt8 := [180, 0, 36, 77, 132, 3, 1, 167, 255, 243, 44, 176, 42, 180, 0, 27, 77, 42, 180, 0, 7, 4, 100, 62]
abbrev dktJ6_node_1 : List UInt8 := dkwJ6_node_1 ++ dktJ6_node_2
def dkwJ6_node_0 : List UInt8 := [27, 42, 180, 0, 7, 4, 122, 162, 0, 28, 42, 180, 0, 18, 77, 3, 62, 29, 27, 162, 0, 14, 44]
abbrev dktJ6_node_0 : List UInt8 := dkwJ6_node_0 ++ dktJ6_node_1
theorem dksJ6_node_0 : cJ6_node.data.toList.drop 0 = dktJ6_node_0 := by decide +kernel
theorem dksJ6_node_1 : cJ6_node.data.toList.drop 23 = dktJ6_node_1 := dk_seg dksJ6_node_0 23 rfl rfl
theorem dksJ6_node_2 : cJ6_node.data.toList.drop 47 = dktJ6_node_2 := dk_seg dksJ6_node_1 24 rfl rfl
theorem dJ6_node_0 : decode cJ6_node 0 = .ok (.iload_n 1, 1) := dk_27 (dk_at dksJ6_node_0 0 rfl rfl)
theorem dJ6_node_1 : decode cJ6_node 1 = .ok (.aload_n 0, 1) := dk_42 (dk_at dksJ6_node_0 1 rfl rfl)
theorem dJ6_node_2 : decode cJ6_node 2 = .ok (.getfield 7, 3) := dk_180 0 7 (dk_at dksJ6_node_0 2 rfl rfl)
theorem dJ6_node_5 : decode cJ6_node 5 = .ok (.iconst 1, 1) := dk_4 (dk_at dksJ6_node_0 5 rfl rfl)
theorem dJ6_node_6 : decode cJ6_node 6 = .ok (.ishr, 1) := dk_122 (dk_at dksJ6_node_0 6 rfl rfl)
theorem dJ6_node_7 : decode cJ6_node 7 = .ok (.if_icmp .ge 28, 3) := dk_162 0 28 (dk_at dksJ6_node_0 7 rfl rfl)
theorem dJ6_node_10 : decode cJ6_node 10 = .ok (.aload_n 0, 1) := dk_42 (dk_at dksJ6_node_0 10 rfl rfl)
theorem dJ6_node_11 : decode cJ6_node 11 = .ok (.getfield 18, 3) := dk_180 0 18 (dk_at dksJ6_node_0 11 rfl rfl)
theorem dJ6_node_14 : decode cJ6_node 14 = .ok (.astore_n 2, 1) := dk_77 (dk_at dksJ6_node_0 14 rfl rfl)
theorem dJ6_node_15 : decode cJ6_node 15 = .ok (.iconst 0, 1) := dk_3 (dk_at dksJ6_node_0 15 rfl rfl)
theorem dJ6_node_16 : decode cJ6_node 16 = .ok (.istore_n 3, 1) := dk_62 (dk_at dksJ6_node_0 16 rfl rfl)
theorem dJ6_node_17 : decode cJ6_node 17 = .ok (.iload_n 3, 1) := dk_29 (dk_at dksJ6_node_0 17 rfl rfl)
theorem dJ6_node_18 : decode cJ6_node 18 = .ok (.iload_n 1, 1) := dk_27 (dk_at dksJ6_node_0 18 rfl rfl)
theorem dJ6_node_19 : decode cJ6_node 19 = .ok (.if_icmp .ge 14, 3) := dk_162 0 14 (dk_at dksJ6_node_0 19 rfl rfl)
theorem dJ6_node_22 : decode cJ6_node 22 = .ok (.aload_n 2, 1) := dk_44 (dk_at dksJ6_node_0 22 rfl rfl)
theorem dJ6_node_23 : decode cJ6_node 23 = .ok (.getfield 36, 3) := dk_180 0 36 (dk_at dksJ6_node_1 0 rfl rfl)
theorem dJ6_node_26 : decode cJ6_node 26 = .ok (.astore_n 2, 1) := dk_77 (dk_at dksJ6_node_1 3 rfl rfl)
theorem dJ6_node_27 : decode cJ6_node 27 = .ok (.iinc 3 1, 3) := dk_132 3 1 (dk_at dksJ6_node_1 4 rfl rfl)
theorem dJ6_node_30 : decode cJ6_node 30 = .ok (.goto (-13), 3) := dk_167 255 243 (dk_at dksJ6_node_1 7 rfl rfl)
theorem dJ6_node_33 : decode cJ6_node 33 = .ok (.aload_n 2, 1) := dk_44 (dk_at dksJ6_node_1 10 rfl rfl)
theorem dJ6_node_34 : decode cJ6_node 34 = .ok (.areturn, 1) := dk_176 (dk_at dksJ6_node_1 11 rfl rfl)
theorem dJ6_node_35 : decode cJ6_node 35 = .ok (.aload_n 0, 1) := dk_42 (dk_at dksJ6_node_1 12 rfl rfl)
theorem dJ6_node_36 : decode cJ6_node 36 = .ok (.getfield 27, 3) := dk_180 0 27 (dk_at dksJ6_node_1 13 rfl rfl)
theorem dJ6_node_39 : decode cJ6_node 39 = .ok (.astore_n 2, 1) := dk_77 (dk_at dksJ6_node_1 16 rfl rfl)
theorem dJ6_node_40 : decode cJ6_node 40 = .ok (.aload_n 0, 1) := dk_42 (dk_at dksJ6_node_1 17 rfl rfl)
theorem dJ6_node_41 : decode cJ6_node 41 = .ok (.getfield 7, 3) := dk_180 0 7 (dk_at dksJ6_node_1 18 rfl rfl)
theorem dJ6_node_44 : decode cJ6_node 44 = .ok (.iconst 1, 1) := dk_4 (dk_at dksJ6_node_1 21 rfl rfl)
theorem dJ6_node_45 : decode cJ6_node 45 = .ok (.isub, 1) := dk_100 (dk_at dksJ6_node_1 22 rfl rfl)
theorem dJ6_node_46 : decode cJ6_node 46 = .ok (.istore_n 3, 1) := dk_62 (dk_at dksJ6_node_1 23 rfl rfl)
theorem dJ6_node_47 : decode cJ6_node 47 = .ok (.iload_n 3, 1) := dk_29 (dk_at dksJ6_node_2 0 rfl rfl)
theorem dJ6_node_48 : decode cJ6_node 48 = .ok (.iload_n 1, 1) := dk_27 (dk_at dksJ6_node_2 1 rfl rfl)
theorem dJ6_node_49 : decode cJ6_node 49 = .ok (.if_icmp .le 14, 3) := dk_164 0 14 (dk_at dksJ6_node_2 2 rfl rfl)
theorem dJ6_node_52 : decode cJ6_node 52 = .ok (.aload_n 2, 1) := dk_44 (dk_at dksJ6_node_2 5 rfl rfl)
theorem dJ6_node_53 : decode cJ6_node 53 = .ok (.getfield 30, 3) := dk_180 0 30 (dk_at dksJ6_node_2 6 rfl rfl)
theorem dJ6_node_56 : decode cJ6_node 56 = .ok (.astore_n 2, 1) := dk_77 (dk_at dksJ6_node_2 9 rfl rfl)
theorem dJ6_node_57 : decode cJ6_node 57 = .ok (.iinc 3 (-1), 3) := dk_132 3 255 (dk_at dksJ6_node_2 10 rfl rfl)
theorem dJ6_node_60 : decode cJ6_node 60 = .ok (.goto (-13), 3) := dk_167 255 243 (dk_at dksJ6_node_2 13 rfl rfl)
theorem dJ6_node_63 : decode cJ6_node 63 = .ok (.aload_n 2, 1) := dk_44 (dk_at dksJ6_node_2 16 rfl rfl)
theorem dJ6_node_64 : decode cJ6_node 64 = .ok (.areturn, 1) := dk_176 (dk_at dksJ6_node_2 17 rfl rfl)
theorem c47009 : jtCode 47009 = cJ6_node := rfl
theorem F47009_0 (d : Nat) (a0 : Nat) (i1 : Int32) (h : AH) : G2 d 47009 0 [.ref a0, .int i1, jno, jno] [] h = zpI (jf (jc h (.ref a0)) [47] 1) (fun x1 => if (x1 >>> ((1 : Int32) &&& 31)) ≤ i1 then (zpR (jf (jc h (.ref a0)) [47] 3) (fun r2 => zkR r2 (zpI (jf (jc h (.ref a0)) [47] 1) (fun x3 => G2 d 47009 47 [.ref a0, .int i1, r2, .int (x3 - 1)] [] h) ()) ()) ()) else (zpR (jf (jc h (.ref a0)) [47] 2) (fun r4 => zkR r4 (G2 d 47009 17 [.ref a0, .int i1, r4, .int 0] [] h) ()) ())) () := by
  refine (g_iload_nH c47009 dJ6_node_0 rfl).trans ?_
  refine (g_aload_nH c47009 dJ6_node_1 rfl).trans ?_
  refine (g_getIH c47009 dJ6_node_2 rfl rfl).trans (rI_cg fun x1 => ?_)
  refine (g_iconstH (x := 1) c47009 dJ6_node_5 rfl).trans ?_
  refine (g_ishrH c47009 dJ6_node_6).trans ?_
  refine (g_icmp_geH (tgt := 35) c47009 dJ6_node_7 rfl).trans (if_cg ?_ ?_)
  · skip
    refine (g_aload_nH c47009 dJ6_node_35 rfl).trans ?_
    refine (g_getRH c47009 dJ6_node_36 rfl).trans (rR_cg fun r2 => ?_)
    refine (g_astore_nVH (L' := [.ref a0, .int i1, r2, jno]) c47009 dJ6_node_39 rfl rfl).trans (ckR_cg ?_)
    refine (g_aload_nH c47009 dJ6_node_40 rfl).trans ?_
    refine (g_getIH c47009 dJ6_node_41 rfl rfl).trans (rI_cg fun x3 => ?_)
    refine (g_iconstH (x := 1) c47009 dJ6_node_44 rfl).trans ?_
    refine (g_isubH c47009 dJ6_node_45).trans ?_
    refine (g_istore_nH (L' := [.ref a0, .int i1, r2, .int (x3 - 1)]) c47009 dJ6_node_46 rfl rfl).trans ?_
    rfl
  · skip
    refine (g_aload_nH c47009 dJ6_node_10 rfl).trans ?_
    refine (g_getRH c47009 dJ6_node_11 rfl).trans (rR_cg fun r4 => ?_)
    refine (g_astore_nVH (L' := [.ref a0, .int i1, r4, jno]) c47009 dJ6_node_14 rfl rfl).trans (ckR_cg ?_)
    refine (g_iconstH (x := 0) c47009 dJ6_node_15 rfl).trans ?_
    refine (g_istore_nH (L' := [.ref a0, .int i1, r4, .int 0]) c47009 dJ6_node_16 rfl rfl).trans ?_
    rfl
theorem F47009_17 (d : Nat) (a0 : Nat) (i1 : Int32) (v2 : Value) (i3 : Int32) (h : AH) : G2 d 47009 17 [.ref a0, .int i1, v2, .int i3] [] h = if i1 ≤ i3 then (zkR v2 (ckR v2 (some (.inl (some v2), h))) ()) else (zkR v2 (zpR (jf (jc h v2) [70] 1) (fun r1 => zkR r1 (G2 d 47009 17 [.ref a0, .int i1, r1, .int (i3 + 1)] [] h) ()) ()) ()) := by
  refine (g_iload_nH c47009 dJ6_node_17 rfl).trans ?_
  refine (g_iload_nH c47009 dJ6_node_18 rfl).trans ?_
  refine (g_icmp_geH (tgt := 33) c47009 dJ6_node_19 rfl).trans (if_cg ?_ ?_)
  · skip
    refine (g_aload_nVH c47009 dJ6_node_33 rfl).trans (ckR_cg ?_)
    exact g_areturnH c47009 dJ6_node_34 rfl
  · skip
    refine (g_aload_nVH c47009 dJ6_node_22 rfl).trans (ckR_cg ?_)
    refine (g_getRH c47009 dJ6_node_23 rfl).trans (rR_cg fun r1 => ?_)
    refine (g_astore_nVH (L' := [.ref a0, .int i1, r1, .int i3]) c47009 dJ6_node_26 rfl rfl).trans (ckR_cg ?_)
    refine (g_iincH (c := 1) (L' := [.ref a0, .int i1, r1, .int (i3 + 1)]) c47009 dJ6_node_27 rfl rfl rfl rfl).trans ?_
    refine (g_gotoH (tgt := 17) c47009 dJ6_node_30 rfl).trans ?_
    rfl
theorem F47009_47 (d : Nat) (a0 : Nat) (i1 : Int32) (v2 : Value) (i3 : Int32) (h : AH) : G2 d 47009 47 [.ref a0, .int i1, v2, .int i3] [] h = if i3 ≤ i1 then (zkR v2 (ckR v2 (some (.inl (some v2), h))) ()) else (zkR v2 (zpR (jf (jc h v2) [70] 2) (fun r1 => zkR r1 (G2 d 47009 47 [.ref a0, .int i1, r1, .int (i3 + (-1))] [] h) ()) ()) ()) := by
  refine (g_iload_nH c47009 dJ6_node_47 rfl).trans ?_
  refine (g_iload_nH c47009 dJ6_node_48 rfl).trans ?_
  refine (g_icmp_leH (tgt := 63) c47009 dJ6_node_49 rfl).trans (if_cg ?_ ?_)
  · skip
    refine (g_aload_nVH c47009 dJ6_node_63 rfl).trans (ckR_cg ?_)
    exact g_areturnH c47009 dJ6_node_64 rfl
  · skip
    refine (g_aload_nVH c47009 dJ6_node_52 rfl).trans (ckR_cg ?_)
    refine (g_getRH c47009 dJ6_node_53 rfl).trans (rR_cg fun r1 => ?_)
    refine (g_astore_nVH (L' := [.ref a0, .int i1, r1, .int i3]) c47009 dJ6_node_56 rfl rfl).trans (ckR_cg ?_)
    refine (g_iincH (c := (-1)) (L' := [.ref a0, .int i1, r1, .int (i3 + (-1))]) c47009 dJ6_node_57 rfl rfl rfl rfl).trans ?_
    refine (g_gotoH (tgt := 47) c47009 dJ6_node_60 rfl).trans ?_
    rfl
theorem Y47009 {d : Nat} {a0 : Nat} {i1 : Int32} (h : AH) (hr : jrecv 47009 [.ref a0, .int i1] h = true) : M2 (d + 1) 47009 [.ref a0, .int i1] h = G2 d 47009 0 [.ref a0, .int i1, jno, jno] [] h := M2_eq rfl rfl hr rfl
/-! java/util/LinkedList.removeFirst()Ljava/lang/Object; -/
abbrev cJ6_removeFirst : ByteArray := prog_79_method_11_code
def dkwJ6_removeFirst_0 : List UInt8 := [42, 180, 0, 18, 76, 43, 199, 0, 11, 187, 0, 43, 89, 183, 0, 45, 191, 42, 43, 182, 0, 46, 176]
abbrev dktJ6_removeFirst_0 : List UInt8 := dkwJ6_removeFirst_0 ++ []
theorem dksJ6_removeFirst_0 : cJ6_removeFirst.data.toList.drop 0 = dktJ6_removeFirst_0 := by decide +kernel
theorem dJ6_removeFirst_0 : decode cJ6_removeFirst 0 = .ok (.aload_n 0, 1) := dk_42 (dk_at dksJ6_removeFirst_0 0 rfl rfl)
theorem dJ6_removeFirst_1 : decode cJ6_removeFirst 1 = .ok (.getfield 18, 3) := dk_180 0 18 (dk_at dksJ6_removeFirst_0 1 rfl rfl)
theorem dJ6_removeFirst_4 : decode cJ6_removeFirst 4 = .ok (.astore_n 1, 1) := dk_76 (dk_at dksJ6_removeFirst_0 4 rfl rfl)
theorem dJ6_removeFirst_5 : decode cJ6_removeFirst 5 = .ok (.aload_n 1, 1) := dk_43 (dk_at dksJ6_removeFirst_0 5 rfl rfl)
theorem dJ6_removeFirst_6 : decode cJ6_removeFirst 6 = .ok (.ifnonnull 11, 3) := dk_199 0 11 (dk_at dksJ6_removeFirst_0 6 rfl rfl)
theorem dJ6_removeFirst_9 : decode cJ6_removeFirst 9 = .ok (.new 43, 3) := dk_187 0 43 (dk_at dksJ6_removeFirst_0 9 rfl rfl)
theorem dJ6_removeFirst_12 : decode cJ6_removeFirst 12 = .ok (.dup, 1) := dk_89 (dk_at dksJ6_removeFirst_0 12 rfl rfl)
theorem dJ6_removeFirst_13 : decode cJ6_removeFirst 13 = .ok (.invokespecial 45, 3) := dk_183 0 45 (dk_at dksJ6_removeFirst_0 13 rfl rfl)
theorem dJ6_removeFirst_16 : decode cJ6_removeFirst 16 = .ok (.athrow, 1) := dk_191 (dk_at dksJ6_removeFirst_0 16 rfl rfl)
theorem dJ6_removeFirst_17 : decode cJ6_removeFirst 17 = .ok (.aload_n 0, 1) := dk_42 (dk_at dksJ6_removeFirst_0 17 rfl rfl)
theorem dJ6_removeFirst_18 : decode cJ6_removeFirst 18 = .ok (.aload_n 1, 1) := dk_43 (dk_at dksJ6_removeFirst_0 18 rfl rfl)
theorem dJ6_removeFirst_19 : decode cJ6_removeFirst 19 = .ok (.invokevirtual 46, 3) := dk_182 0 46 (dk_at dksJ6_removeFirst_0 19 rfl rfl)
theorem dJ6_removeFirst_22 : decode cJ6_removeFirst 22 = .ok (.areturn, 1) := dk_176 (dk_at dksJ6_removeFirst_0 22 rfl rfl)
theorem c47011 : jtCode 47011 = cJ6_removeFirst := rfl
theorem F47011_0 (d : Nat) (a0 : Nat) (h : AH) : G2 d 47011 0 [.ref a0, jno] [] h = zpR (jf (jc h (.ref a0)) [47] 2) (fun r1 => zkR r1 (zkR r1 (zkR r1 (if (r1 : Value) = .null then (cX h.1 (jpush h (66, 6, jL []))) else (zkR r1 (zcR (M2 d 47016 [.ref a0, r1] h) (fun r2 h3 => ckR r2 (some (.inl (some r2), h3))) ()) ())) ()) ()) ()) () := by
  refine (g_aload_nH c47011 dJ6_removeFirst_0 rfl).trans ?_
  refine (g_getRH c47011 dJ6_removeFirst_1 rfl).trans (rR_cg fun r1 => ?_)
  refine (g_astore_nVH (L' := [.ref a0, r1]) c47011 dJ6_removeFirst_4 rfl rfl).trans (ckR_cg ?_)
  refine (g_aload_nVH c47011 dJ6_removeFirst_5 rfl).trans (ckR_cg ?_)
  refine (g_ifnonnullH (tgt := 17) c47011 dJ6_removeFirst_6 rfl).trans (ckR_cg (if_cg ?_ ?_))
  · skip
    exact g_throwNewH (l := []) c47011 dJ6_removeFirst_9 rfl rfl (by decide +kernel)
  · skip
    refine (g_aload_nH c47011 dJ6_removeFirst_17 rfl).trans ?_
    refine (g_aload_nVH c47011 dJ6_removeFirst_18 rfl).trans (ckR_cg ?_)
    refine (g_virtualH (as := [.ref a0, r1]) (rest := []) c47011 dJ6_removeFirst_19 rfl rfl rfl rfl rfl).trans ((jback_RH (κx := cX) (fun e h => jthrow_outH rfl)).trans (cR_cg fun r2 h3 => ?_))
    exact g_areturnH c47011 dJ6_removeFirst_22 rfl
theorem Y47011 {d : Nat} {a0 : Nat} (h : AH) (hr : jrecv 47011 [.ref a0] h = true) : M2 (d + 1) 47011 [.ref a0] h = G2 d 47011 0 [.ref a0, jno] [] h := M2_eq rfl rfl hr rfl
/-! java/util/LinkedList.size()I -/
abbrev cJ6_size : ByteArray := prog_79_method_16_code
theorem dJ6_size_0 : decode cJ6_size 0 = .ok (.aload_n 0, 1) := by decide +kernel
theorem dJ6_size_1 : decode cJ6_size 1 = .ok (.getfield 7, 3) := by decide +kernel
theorem dJ6_size_4 : decode cJ6_size 4 = .ok (.ireturn, 1) := by decide +kernel
theorem c47013 : jtCode 47013 = cJ6_size := rfl
theorem F47013_0 (d : Nat) (a0 : Nat) (h : AH) : G2 d 47013 0 [.ref a0] [] h = zpI (jf (jc h (.ref a0)) [47] 1) (fun x1 => some (.inl (some (.int x1)), h)) () := by
  refine (g_aload_nH c47013 dJ6_size_0 rfl).trans ?_
  refine (g_getIH c47013 dJ6_size_1 rfl rfl).trans (rI_cg fun x1 => ?_)
  exact g_ireturnH c47013 dJ6_size_4 rfl
theorem Y47013 {d : Nat} {a0 : Nat} (h : AH) (hr : jrecv 47013 [.ref a0] h = true) : M2 (d + 1) 47013 [.ref a0] h = G2 d 47013 0 [.ref a0] [] h := M2_eq rfl rfl hr rfl
/-! java/util/LinkedList.toArray()[Ljava/lang/Object; -/
abbrev cJ6_toArray : ByteArray := prog_79_method_53_code
def dkwJ6_toArray_1 : List UInt8 := [45, 180, 0, 39, 83, 45, 180, 0, 36, 78, 167, 255, 237, 43, 176]
abbrev dktJ6_toArray_1 : List UInt8 := dkwJ6_toArray_1 ++ []
def dkwJ6_toArray_0 : List UInt8 := [42, 180, 0, 7, 189, 0, 68, 76, 3, 61, 42, 180, 0, 18, 78, 45, 198, 0, 21, 43, 28, 132, 2, 1]
abbrev dktJ6_toArray_0 : List UInt8 := dkwJ6_toArray_0 ++ dktJ6_toArray_1
theorem dksJ6_toArray_0 : cJ6_toArray.data.toList.drop 0 = dktJ6_toArray_0 := by decide +kernel
theorem dksJ6_toArray_1 : cJ6_toArray.data.toList.drop 24 = dktJ6_toArray_1 := dk_seg dksJ6_toArray_0 24 rfl rfl
theorem dJ6_toArray_0 : decode cJ6_toArray 0 = .ok (.aload_n 0, 1) := dk_42 (dk_at dksJ6_toArray_0 0 rfl rfl)
theorem dJ6_toArray_1 : decode cJ6_toArray 1 = .ok (.getfield 7, 3) := dk_180 0 7 (dk_at dksJ6_toArray_0 1 rfl rfl)
theorem dJ6_toArray_4 : decode cJ6_toArray 4 = .ok (.anewarray 68, 3) := dk_189 0 68 (dk_at dksJ6_toArray_0 4 rfl rfl)
theorem dJ6_toArray_7 : decode cJ6_toArray 7 = .ok (.astore_n 1, 1) := dk_76 (dk_at dksJ6_toArray_0 7 rfl rfl)
theorem dJ6_toArray_8 : decode cJ6_toArray 8 = .ok (.iconst 0, 1) := dk_3 (dk_at dksJ6_toArray_0 8 rfl rfl)
theorem dJ6_toArray_9 : decode cJ6_toArray 9 = .ok (.istore_n 2, 1) := dk_61 (dk_at dksJ6_toArray_0 9 rfl rfl)
theorem dJ6_toArray_10 : decode cJ6_toArray 10 = .ok (.aload_n 0, 1) := dk_42 (dk_at dksJ6_toArray_0 10 rfl rfl)
theorem dJ6_toArray_11 : decode cJ6_toArray 11 = .ok (.getfield 18, 3) := dk_180 0 18 (dk_at dksJ6_toArray_0 11 rfl rfl)
theorem dJ6_toArray_14 : decode cJ6_toArray 14 = .ok (.astore_n 3, 1) := dk_78 (dk_at dksJ6_toArray_0 14 rfl rfl)
theorem dJ6_toArray_15 : decode cJ6_toArray 15 = .ok (.aload_n 3, 1) := dk_45 (dk_at dksJ6_toArray_0 15 rfl rfl)
theorem dJ6_toArray_16 : decode cJ6_toArray 16 = .ok (.ifnull 21, 3) := dk_198 0 21 (dk_at dksJ6_toArray_0 16 rfl rfl)
theorem dJ6_toArray_19 : decode cJ6_toArray 19 = .ok (.aload_n 1, 1) := dk_43 (dk_at dksJ6_toArray_0 19 rfl rfl)
theorem dJ6_toArray_20 : decode cJ6_toArray 20 = .ok (.iload_n 2, 1) := dk_28 (dk_at dksJ6_toArray_0 20 rfl rfl)
theorem dJ6_toArray_21 : decode cJ6_toArray 21 = .ok (.iinc 2 1, 3) := dk_132 2 1 (dk_at dksJ6_toArray_0 21 rfl rfl)
theorem dJ6_toArray_24 : decode cJ6_toArray 24 = .ok (.aload_n 3, 1) := dk_45 (dk_at dksJ6_toArray_1 0 rfl rfl)
theorem dJ6_toArray_25 : decode cJ6_toArray 25 = .ok (.getfield 39, 3) := dk_180 0 39 (dk_at dksJ6_toArray_1 1 rfl rfl)
theorem dJ6_toArray_28 : decode cJ6_toArray 28 = .ok (.aastore, 1) := dk_83 (dk_at dksJ6_toArray_1 4 rfl rfl)
theorem dJ6_toArray_29 : decode cJ6_toArray 29 = .ok (.aload_n 3, 1) := dk_45 (dk_at dksJ6_toArray_1 5 rfl rfl)
theorem dJ6_toArray_30 : decode cJ6_toArray 30 = .ok (.getfield 36, 3) := dk_180 0 36 (dk_at dksJ6_toArray_1 6 rfl rfl)
theorem dJ6_toArray_33 : decode cJ6_toArray 33 = .ok (.astore_n 3, 1) := dk_78 (dk_at dksJ6_toArray_1 9 rfl rfl)
theorem dJ6_toArray_34 : decode cJ6_toArray 34 = .ok (.goto (-19), 3) := dk_167 255 237 (dk_at dksJ6_toArray_1 10 rfl rfl)
theorem dJ6_toArray_37 : decode cJ6_toArray 37 = .ok (.aload_n 1, 1) := dk_43 (dk_at dksJ6_toArray_1 13 rfl rfl)
theorem dJ6_toArray_38 : decode cJ6_toArray 38 = .ok (.areturn, 1) := dk_176 (dk_at dksJ6_toArray_1 14 rfl rfl)
theorem c47014 : jtCode 47014 = cJ6_toArray := rfl
theorem F47014_0 (d : Nat) (a0 : Nat) (h : AH) : G2 d 47014 0 [.ref a0, jno, jno, jno] [] h = zpI (jf (jc h (.ref a0)) [47] 1) (fun x1 => zqN x1 (zqH (jpush h (1040, x1.toNatClampNeg, fun _ => .null)) (fun h2 => zpR (jf (jc h2 (.ref a0)) [47] 2) (fun r3 => zkR r3 (G2 d 47014 15 [.ref a0, .ref h.1, .int 0, r3] [] h2) ()) ()) ()) ()) () := by
  refine (g_aload_nH c47014 dJ6_toArray_0 rfl).trans ?_
  refine (g_getIH c47014 dJ6_toArray_1 rfl rfl).trans (rI_cg fun x1 => ?_)
  refine (g_newRH (t := 1040) c47014 dJ6_toArray_4 rfl rfl).trans (nA_cg ?_)
  refine nmZ ?_
  generalize jpush h (1040, x1.toNatClampNeg, fun _ => .null) = h2
  refine (g_astore_nH (L' := [.ref a0, .ref h.1, jno, jno]) c47014 dJ6_toArray_7 rfl rfl).trans ?_
  refine (g_iconstH (x := 0) c47014 dJ6_toArray_8 rfl).trans ?_
  refine (g_istore_nH (L' := [.ref a0, .ref h.1, .int 0, jno]) c47014 dJ6_toArray_9 rfl rfl).trans ?_
  refine (g_aload_nH c47014 dJ6_toArray_10 rfl).trans ?_
  refine (g_getRH c47014 dJ6_toArray_11 rfl).trans (rR_cg fun r3 => ?_)
  refine (g_astore_nVH (L' := [.ref a0, .ref h.1, .int 0, r3]) c47014 dJ6_toArray_14 rfl rfl).trans (ckR_cg ?_)
  rfl
theorem F47014_15 (d : Nat) (a0 : Nat) (a1 : Nat) (i2 : Int32) (v3 : Value) (h : AH) : G2 d 47014 15 [.ref a0, .ref a1, .int i2, v3] [] h = zkR v3 (zkR v3 (if (v3 : Value) = .null then (some (.inl (some (.ref a1)), h)) else (zkR v3 (zpR (jf (jc h v3) [70] 0) (fun r1 => zqA h (.ref a1) r1 i2 (fun h2 => zkR v3 (zpR (jf (jc h2 v3) [70] 1) (fun r3 => zkR r3 (G2 d 47014 15 [.ref a0, .ref a1, .int (i2 + 1), r3] [] h2) ()) ()) ()) ()) ()) ())) ()) () := by
  refine (g_aload_nVH c47014 dJ6_toArray_15 rfl).trans (ckR_cg ?_)
  refine (g_ifnullH (tgt := 37) c47014 dJ6_toArray_16 rfl).trans (ckR_cg (if_cg ?_ ?_))
  · skip
    refine (g_aload_nH c47014 dJ6_toArray_37 rfl).trans ?_
    exact g_areturnA_rH c47014 dJ6_toArray_38 rfl
  · skip
    refine (g_aload_nH c47014 dJ6_toArray_19 rfl).trans ?_
    refine (g_iload_nH c47014 dJ6_toArray_20 rfl).trans ?_
    refine (g_iincH (c := 1) (L' := [.ref a0, .ref a1, .int (i2 + 1), v3]) c47014 dJ6_toArray_21 rfl rfl rfl rfl).trans ?_
    refine (g_aload_nVH c47014 dJ6_toArray_24 rfl).trans (ckR_cg ?_)
    refine (g_getRH c47014 dJ6_toArray_25 rfl).trans (rR_cg fun r1 => ?_)
    refine (g_aastoreH c47014 dJ6_toArray_28).trans (aSr_cg fun h2 => ?_)
    refine (g_aload_nVH c47014 dJ6_toArray_29 rfl).trans (ckR_cg ?_)
    refine (g_getRH c47014 dJ6_toArray_30 rfl).trans (rR_cg fun r3 => ?_)
    refine (g_astore_nVH (L' := [.ref a0, .ref a1, .int (i2 + 1), r3]) c47014 dJ6_toArray_33 rfl rfl).trans (ckR_cg ?_)
    refine (g_gotoH (tgt := 15) c47014 dJ6_toArray_34 rfl).trans ?_
    rfl
theorem Y47014 {d : Nat} {a0 : Nat} (h : AH) (hr : jrecv 47014 [.ref a0] h = true) : M2 (d + 1) 47014 [.ref a0] h = G2 d 47014 0 [.ref a0, jno, jno, jno] [] h := M2_eq rfl rfl hr rfl
/-! java/util/LinkedList.unlink(Ljava/util/LinkedList$Node;)Ljava/lang/Object; -/
abbrev cJ6_unlink : ByteArray := prog_79_method_8_code
def dkwJ6_unlink_3 : List UInt8 := [180, 0, 7, 4, 100, 181, 0, 7, 42, 89, 180, 0, 33, 4, 96, 181, 0, 33, 44, 176]
abbrev dktJ6_unlink_3 : List UInt8 := dkwJ6_unlink_3 ++ []
def dkwJ6_unlink_2 : List UInt8 := [181, 0, 27, 167, 0, 14, 45, 25, 4, 181, 0, 30, 43, 1, 181, 0, 36, 43, 1, 181, 0, 39, 42, 89]
abbrev dktJ6_unlink_2 : List UInt8 := dkwJ6_unlink_2 ++ dktJ6_unlink_3
def dkwJ6_unlink_1 : List UInt8 := [181, 0, 18, 167, 0, 14, 25, 4, 45, 181, 0, 36, 43, 1, 181, 0, 30, 45, 199, 0, 12, 42, 25, 4]
abbrev dktJ6_unlink_1 : List UInt8 := dkwJ6_unlink_1 ++ dktJ6_unlink_2
def dkwJ6_unlink_0 : List UInt8 := [43, 180, 0, 39, 77, 43, 180, 0, 36, 78, 43, 180, 0, 30, 58, 4, 25, 4, 199, 0, 11, 42, 45]
abbrev dktJ6_unlink_0 : List UInt8 := dkwJ6_unlink_0 ++ dktJ6_unlink_1
theorem dksJ6_unlink_0 : cJ6_unlink.data.toList.drop 0 = dktJ6_unlink_0 := by decide +kernel
theorem dksJ6_unlink_1 : cJ6_unlink.data.toList.drop 23 = dktJ6_unlink_1 := dk_seg dksJ6_unlink_0 23 rfl rfl
theorem dksJ6_unlink_2 : cJ6_unlink.data.toList.drop 47 = dktJ6_unlink_2 := dk_seg dksJ6_unlink_1 24 rfl rfl
theorem dksJ6_unlink_3 : cJ6_unlink.data.toList.drop 71 = dktJ6_unlink_3 := dk_seg dksJ6_unlink_2 24 rfl rfl
theorem dJ6_unlink_0 : decode cJ6_unlink 0 = .ok (.aload_n 1, 1) := dk_43 (dk_at dksJ6_unlink_0 0 rfl rfl)
theorem dJ6_unlink_1 : decode cJ6_unlink 1 = .ok (.getfield 39, 3) := dk_180 0 39 (dk_at dksJ6_unlink_0 1 rfl rfl)
theorem dJ6_unlink_4 : decode cJ6_unlink 4 = .ok (.astore_n 2, 1) := dk_77 (dk_at dksJ6_unlink_0 4 rfl rfl)
theorem dJ6_unlink_5 : decode cJ6_unlink 5 = .ok (.aload_n 1, 1) := dk_43 (dk_at dksJ6_unlink_0 5 rfl rfl)
theorem dJ6_unlink_6 : decode cJ6_unlink 6 = .ok (.getfield 36, 3) := dk_180 0 36 (dk_at dksJ6_unlink_0 6 rfl rfl)
theorem dJ6_unlink_9 : decode cJ6_unlink 9 = .ok (.astore_n 3, 1) := dk_78 (dk_at dksJ6_unlink_0 9 rfl rfl)
theorem dJ6_unlink_10 : decode cJ6_unlink 10 = .ok (.aload_n 1, 1) := dk_43 (dk_at dksJ6_unlink_0 10 rfl rfl)
theorem dJ6_unlink_11 : decode cJ6_unlink 11 = .ok (.getfield 30, 3) := dk_180 0 30 (dk_at dksJ6_unlink_0 11 rfl rfl)
theorem dJ6_unlink_14 : decode cJ6_unlink 14 = .ok (.astore 4, 2) := dk_58 4 (dk_at dksJ6_unlink_0 14 rfl rfl)
theorem dJ6_unlink_16 : decode cJ6_unlink 16 = .ok (.aload 4, 2) := dk_25 4 (dk_at dksJ6_unlink_0 16 rfl rfl)
theorem dJ6_unlink_18 : decode cJ6_unlink 18 = .ok (.ifnonnull 11, 3) := dk_199 0 11 (dk_at dksJ6_unlink_0 18 rfl rfl)
theorem dJ6_unlink_21 : decode cJ6_unlink 21 = .ok (.aload_n 0, 1) := dk_42 (dk_at dksJ6_unlink_0 21 rfl rfl)
theorem dJ6_unlink_22 : decode cJ6_unlink 22 = .ok (.aload_n 3, 1) := dk_45 (dk_at dksJ6_unlink_0 22 rfl rfl)
theorem dJ6_unlink_23 : decode cJ6_unlink 23 = .ok (.putfield 18, 3) := dk_181 0 18 (dk_at dksJ6_unlink_1 0 rfl rfl)
theorem dJ6_unlink_26 : decode cJ6_unlink 26 = .ok (.goto 14, 3) := dk_167 0 14 (dk_at dksJ6_unlink_1 3 rfl rfl)
theorem dJ6_unlink_29 : decode cJ6_unlink 29 = .ok (.aload 4, 2) := dk_25 4 (dk_at dksJ6_unlink_1 6 rfl rfl)
theorem dJ6_unlink_31 : decode cJ6_unlink 31 = .ok (.aload_n 3, 1) := dk_45 (dk_at dksJ6_unlink_1 8 rfl rfl)
theorem dJ6_unlink_32 : decode cJ6_unlink 32 = .ok (.putfield 36, 3) := dk_181 0 36 (dk_at dksJ6_unlink_1 9 rfl rfl)
theorem dJ6_unlink_35 : decode cJ6_unlink 35 = .ok (.aload_n 1, 1) := dk_43 (dk_at dksJ6_unlink_1 12 rfl rfl)
theorem dJ6_unlink_36 : decode cJ6_unlink 36 = .ok (.aconst_null, 1) := dk_1 (dk_at dksJ6_unlink_1 13 rfl rfl)
theorem dJ6_unlink_37 : decode cJ6_unlink 37 = .ok (.putfield 30, 3) := dk_181 0 30 (dk_at dksJ6_unlink_1 14 rfl rfl)
theorem dJ6_unlink_40 : decode cJ6_unlink 40 = .ok (.aload_n 3, 1) := dk_45 (dk_at dksJ6_unlink_1 17 rfl rfl)
theorem dJ6_unlink_41 : decode cJ6_unlink 41 = .ok (.ifnonnull 12, 3) := dk_199 0 12 (dk_at dksJ6_unlink_1 18 rfl rfl)
theorem dJ6_unlink_44 : decode cJ6_unlink 44 = .ok (.aload_n 0, 1) := dk_42 (dk_at dksJ6_unlink_1 21 rfl rfl)
theorem dJ6_unlink_45 : decode cJ6_unlink 45 = .ok (.aload 4, 2) := dk_25 4 (dk_at dksJ6_unlink_1 22 rfl rfl)
theorem dJ6_unlink_47 : decode cJ6_unlink 47 = .ok (.putfield 27, 3) := dk_181 0 27 (dk_at dksJ6_unlink_2 0 rfl rfl)
theorem dJ6_unlink_50 : decode cJ6_unlink 50 = .ok (.goto 14, 3) := dk_167 0 14 (dk_at dksJ6_unlink_2 3 rfl rfl)
theorem dJ6_unlink_53 : decode cJ6_unlink 53 = .ok (.aload_n 3, 1) := dk_45 (dk_at dksJ6_unlink_2 6 rfl rfl)
theorem dJ6_unlink_54 : decode cJ6_unlink 54 = .ok (.aload 4, 2) := dk_25 4 (dk_at dksJ6_unlink_2 7 rfl rfl)
theorem dJ6_unlink_56 : decode cJ6_unlink 56 = .ok (.putfield 30, 3) := dk_181 0 30 (dk_at dksJ6_unlink_2 9 rfl rfl)
theorem dJ6_unlink_59 : decode cJ6_unlink 59 = .ok (.aload_n 1, 1) := dk_43 (dk_at dksJ6_unlink_2 12 rfl rfl)
theorem dJ6_unlink_60 : decode cJ6_unlink 60 = .ok (.aconst_null, 1) := dk_1 (dk_at dksJ6_unlink_2 13 rfl rfl)
theorem dJ6_unlink_61 : decode cJ6_unlink 61 = .ok (.putfield 36, 3) := dk_181 0 36 (dk_at dksJ6_unlink_2 14 rfl rfl)
theorem dJ6_unlink_64 : decode cJ6_unlink 64 = .ok (.aload_n 1, 1) := dk_43 (dk_at dksJ6_unlink_2 17 rfl rfl)
theorem dJ6_unlink_65 : decode cJ6_unlink 65 = .ok (.aconst_null, 1) := dk_1 (dk_at dksJ6_unlink_2 18 rfl rfl)
theorem dJ6_unlink_66 : decode cJ6_unlink 66 = .ok (.putfield 39, 3) := dk_181 0 39 (dk_at dksJ6_unlink_2 19 rfl rfl)
theorem dJ6_unlink_69 : decode cJ6_unlink 69 = .ok (.aload_n 0, 1) := dk_42 (dk_at dksJ6_unlink_2 22 rfl rfl)
theorem dJ6_unlink_70 : decode cJ6_unlink 70 = .ok (.dup, 1) := dk_89 (dk_at dksJ6_unlink_2 23 rfl rfl)
theorem dJ6_unlink_71 : decode cJ6_unlink 71 = .ok (.getfield 7, 3) := dk_180 0 7 (dk_at dksJ6_unlink_3 0 rfl rfl)
theorem dJ6_unlink_74 : decode cJ6_unlink 74 = .ok (.iconst 1, 1) := dk_4 (dk_at dksJ6_unlink_3 3 rfl rfl)
theorem dJ6_unlink_75 : decode cJ6_unlink 75 = .ok (.isub, 1) := dk_100 (dk_at dksJ6_unlink_3 4 rfl rfl)
theorem dJ6_unlink_76 : decode cJ6_unlink 76 = .ok (.putfield 7, 3) := dk_181 0 7 (dk_at dksJ6_unlink_3 5 rfl rfl)
theorem dJ6_unlink_79 : decode cJ6_unlink 79 = .ok (.aload_n 0, 1) := dk_42 (dk_at dksJ6_unlink_3 8 rfl rfl)
theorem dJ6_unlink_80 : decode cJ6_unlink 80 = .ok (.dup, 1) := dk_89 (dk_at dksJ6_unlink_3 9 rfl rfl)
theorem dJ6_unlink_81 : decode cJ6_unlink 81 = .ok (.getfield 33, 3) := dk_180 0 33 (dk_at dksJ6_unlink_3 10 rfl rfl)
theorem dJ6_unlink_84 : decode cJ6_unlink 84 = .ok (.iconst 1, 1) := dk_4 (dk_at dksJ6_unlink_3 13 rfl rfl)
theorem dJ6_unlink_85 : decode cJ6_unlink 85 = .ok (.iadd, 1) := dk_96 (dk_at dksJ6_unlink_3 14 rfl rfl)
theorem dJ6_unlink_86 : decode cJ6_unlink 86 = .ok (.putfield 33, 3) := dk_181 0 33 (dk_at dksJ6_unlink_3 15 rfl rfl)
theorem dJ6_unlink_89 : decode cJ6_unlink 89 = .ok (.aload_n 2, 1) := dk_44 (dk_at dksJ6_unlink_3 18 rfl rfl)
theorem dJ6_unlink_90 : decode cJ6_unlink 90 = .ok (.areturn, 1) := dk_176 (dk_at dksJ6_unlink_3 19 rfl rfl)
theorem c47015 : jtCode 47015 = cJ6_unlink := rfl
theorem F47015_0 (d : Nat) (a0 : Nat) (v1 : Value) (h : AH) : G2 d 47015 0 [.ref a0, v1, jno, jno, jno] [] h = zkR v1 (zpR (jf (jc h v1) [70] 0) (fun r1 => zkR r1 (zkR v1 (zpR (jf (jc h v1) [70] 1) (fun r2 => zkR r2 (zkR v1 (zpR (jf (jc h v1) [70] 2) (fun r3 => zkR r3 (zkR r3 (zkR r3 (if (r3 : Value) = .null then (zkR r2 (zqF h (.ref a0) [47] 2 2 r2 (fun h4 => zkR r2 (zkR r2 (if (r2 : Value) = .null then (zkR r3 (zqF h4 (.ref a0) [47] 3 2 r3 (fun h5 => G2 d 47015 64 [.ref a0, v1, r1, r2, r3] [] h5) ()) ()) else (zkR r2 (zkR r3 (zqF h4 r2 [70] 2 2 r3 (fun h6 => zkR v1 (zqF h6 v1 [70] 1 2 .null (fun h7 => G2 d 47015 64 [.ref a0, v1, r1, r2, r3] [] h7) ()) ()) ()) ()) ())) ()) ()) ()) ()) else (zkR r3 (zkR r2 (zqF h r3 [70] 1 2 r2 (fun h8 => zkR v1 (zqF h8 v1 [70] 2 2 .null (fun h9 => zkR r2 (zkR r2 (if (r2 : Value) = .null then (zkR r3 (zqF h9 (.ref a0) [47] 3 2 r3 (fun h10 => G2 d 47015 64 [.ref a0, v1, r1, r2, r3] [] h10) ()) ()) else (zkR r2 (zkR r3 (zqF h9 r2 [70] 2 2 r3 (fun h11 => zkR v1 (zqF h11 v1 [70] 1 2 .null (fun h12 => G2 d 47015 64 [.ref a0, v1, r1, r2, r3] [] h12) ()) ()) ()) ()) ())) ()) ()) ()) ()) ()) ()) ())) ()) ()) ()) ()) ()) ()) ()) ()) ()) ()) () := by
  refine (g_aload_nVH c47015 dJ6_unlink_0 rfl).trans (ckR_cg ?_)
  refine (g_getRH c47015 dJ6_unlink_1 rfl).trans (rR_cg fun r1 => ?_)
  refine (g_astore_nVH (L' := [.ref a0, v1, r1, jno, jno]) c47015 dJ6_unlink_4 rfl rfl).trans (ckR_cg ?_)
  refine (g_aload_nVH c47015 dJ6_unlink_5 rfl).trans (ckR_cg ?_)
  refine (g_getRH c47015 dJ6_unlink_6 rfl).trans (rR_cg fun r2 => ?_)
  refine (g_astore_nVH (L' := [.ref a0, v1, r1, r2, jno]) c47015 dJ6_unlink_9 rfl rfl).trans (ckR_cg ?_)
  refine (g_aload_nVH c47015 dJ6_unlink_10 rfl).trans (ckR_cg ?_)
  refine (g_getRH c47015 dJ6_unlink_11 rfl).trans (rR_cg fun r3 => ?_)
  refine (g_astoreVH (L' := [.ref a0, v1, r1, r2, r3]) c47015 dJ6_unlink_14 rfl rfl).trans (ckR_cg ?_)
  refine (g_aloadVH c47015 dJ6_unlink_16 rfl).trans (ckR_cg ?_)
  refine (g_ifnonnullH (tgt := 29) c47015 dJ6_unlink_18 rfl).trans (ckR_cg (if_cg ?_ ?_))
  · skip
    refine (g_aload_nH c47015 dJ6_unlink_21 rfl).trans ?_
    refine (g_aload_nVH c47015 dJ6_unlink_22 rfl).trans (ckR_cg ?_)
    refine (g_putH c47015 dJ6_unlink_23 rfl).trans (pF_cg fun h4 => ?_)
    refine (g_gotoH (tgt := 40) c47015 dJ6_unlink_26 rfl).trans ?_
    refine (g_aload_nVH c47015 dJ6_unlink_40 rfl).trans (ckR_cg ?_)
    refine (g_ifnonnullH (tgt := 53) c47015 dJ6_unlink_41 rfl).trans (ckR_cg (if_cg ?_ ?_))
    · skip
      refine (g_aload_nH c47015 dJ6_unlink_44 rfl).trans ?_
      refine (g_aloadVH c47015 dJ6_unlink_45 rfl).trans (ckR_cg ?_)
      refine (g_putH c47015 dJ6_unlink_47 rfl).trans (pF_cg fun h5 => ?_)
      refine (g_gotoH (tgt := 64) c47015 dJ6_unlink_50 rfl).trans ?_
      rfl
    · skip
      refine (g_aload_nVH c47015 dJ6_unlink_53 rfl).trans (ckR_cg ?_)
      refine (g_aloadVH c47015 dJ6_unlink_54 rfl).trans (ckR_cg ?_)
      refine (g_putH c47015 dJ6_unlink_56 rfl).trans (pF_cg fun h6 => ?_)
      refine (g_aload_nVH c47015 dJ6_unlink_59 rfl).trans (ckR_cg ?_)
      refine (g_aconst_nullH c47015 dJ6_unlink_60).trans ?_
      refine (g_putH c47015 dJ6_unlink_61 rfl).trans (pF_cg fun h7 => ?_)
      rfl
  · skip
    refine (g_aloadVH c47015 dJ6_unlink_29 rfl).trans (ckR_cg ?_)
    refine (g_aload_nVH c47015 dJ6_unlink_31 rfl).trans (ckR_cg ?_)
    refine (g_putH c47015 dJ6_unlink_32 rfl).trans (pF_cg fun h8 => ?_)
    refine (g_aload_nVH c47015 dJ6_unlink_35 rfl).trans (ckR_cg ?_)
    refine (g_aconst_nullH c47015 dJ6_unlink_36).trans ?_
    refine (g_putH c47015 dJ6_unlink_37 rfl).trans (pF_cg fun h9 => ?_)
    refine (g_aload_nVH c47015 dJ6_unlink_40 rfl).trans (ckR_cg ?_)
    refine (g_ifnonnullH (tgt := 53) c47015 dJ6_unlink_41 rfl).trans (ckR_cg (if_cg ?_ ?_))
    · skip
      refine (g_aload_nH c47015 dJ6_unlink_44 rfl).trans ?_
      refine (g_aloadVH c47015 dJ6_unlink_45 rfl).trans (ckR_cg ?_)
      refine (g_putH c47015 dJ6_unlink_47 rfl).trans (pF_cg fun h10 => ?_)
      refine (g_gotoH (tgt := 64) c47015 dJ6_unlink_50 rfl).trans ?_
      rfl
    · skip
      refine (g_aload_nVH c47015 dJ6_unlink_53 rfl).trans (ckR_cg ?_)
      refine (g_aloadVH c47015 dJ6_unlink_54 rfl).trans (ckR_cg ?_)
      refine (g_putH c47015 dJ6_unlink_56 rfl).trans (pF_cg fun h11 => ?_)
      refine (g_aload_nVH c47015 dJ6_unlink_59 rfl).trans (ckR_cg ?_)
      refine (g_aconst_nullH c47015 dJ6_unlink_60).trans ?_
      refine (g_putH c47015 dJ6_unlink_61 rfl).trans (pF_cg fun h12 => ?_)
      rfl
theorem F47015_64 (d : Nat) (a0 : Nat) (v1 : Value) (v2 : Value) (v3 : Value) (v4 : Value) (h : AH) : G2 d 47015 64 [.ref a0, v1, v2, v3, v4] [] h = zkR v1 (zqF h v1 [70] 0 2 .null (fun h1 => zpI (jf (jc h1 (.ref a0)) [47] 1) (fun x2 => zqF h1 (.ref a0) [47] 1 0 (.int (x2 - 1)) (fun h3 => zpI (jf (jc h3 (.ref a0)) [43, 47] 0) (fun x4 => zqF h3 (.ref a0) [43, 47] 0 0 (.int (x4 + 1)) (fun h5 => zkR v2 (ckR v2 (some (.inl (some v2), h5))) ()) ()) ()) ()) ()) ()) () := by
  refine (g_aload_nVH c47015 dJ6_unlink_64 rfl).trans (ckR_cg ?_)
  refine (g_aconst_nullH c47015 dJ6_unlink_65).trans ?_
  refine (g_putH c47015 dJ6_unlink_66 rfl).trans (pF_cg fun h1 => ?_)
  refine (g_aload_nH c47015 dJ6_unlink_69 rfl).trans ?_
  refine (g_dup_rH c47015 dJ6_unlink_70).trans ?_
  refine (g_getIH c47015 dJ6_unlink_71 rfl rfl).trans (rI_cg fun x2 => ?_)
  refine (g_iconstH (x := 1) c47015 dJ6_unlink_74 rfl).trans ?_
  refine (g_isubH c47015 dJ6_unlink_75).trans ?_
  refine (g_putH c47015 dJ6_unlink_76 rfl).trans (pF_cg fun h3 => ?_)
  refine (g_aload_nH c47015 dJ6_unlink_79 rfl).trans ?_
  refine (g_dup_rH c47015 dJ6_unlink_80).trans ?_
  refine (g_getIH c47015 dJ6_unlink_81 rfl rfl).trans (rI_cg fun x4 => ?_)
  refine (g_iconstH (x := 1) c47015 dJ6_unlink_84 rfl).trans ?_
  refine (g_iaddH c47015 dJ6_unlink_85).trans ?_
  refine (g_putH c47015 dJ6_unlink_86 rfl).trans (pF_cg fun h5 => ?_)
  refine (g_aload_nVH c47015 dJ6_unlink_89 rfl).trans (ckR_cg ?_)
  exact g_areturnH c47015 dJ6_unlink_90 rfl
theorem Y47015 {d : Nat} {a0 : Nat} {v1 : Value} (h : AH) (hv1 : isR v1 = true) (hr : jrecv 47015 [.ref a0, v1] h = true) : M2 (d + 1) 47015 [.ref a0, v1] h = G2 d 47015 0 [.ref a0, v1, jno, jno, jno] [] h := M2_eq rfl rfl hr (by simp only [jent, jargL_R hv1, jargL]; rfl)
/-! java/util/LinkedList.unlinkFirst(Ljava/util/LinkedList$Node;)Ljava/lang/Object; -/
abbrev cJ6_unlinkFirst : ByteArray := prog_79_method_6_code
def dkwJ6_unlinkFirst_2 : List UInt8 := [180, 0, 7, 4, 100, 181, 0, 7, 42, 89, 180, 0, 33, 4, 96, 181, 0, 33, 44, 176]
abbrev dktJ6_unlinkFirst_2 : List UInt8 := dkwJ6_unlinkFirst_2 ++ []
def dkwJ6_unlinkFirst_1 : List UInt8 := [181, 0, 18, 45, 199, 0, 11, 42, 1, 181, 0, 27, 167, 0, 8, 45, 1, 181, 0, 30, 42, 89]
abbrev dktJ6_unlinkFirst_1 : List UInt8 := dkwJ6_unlinkFirst_1 ++ dktJ6_unlinkFirst_2
def dkwJ6_unlinkFirst_0 : List UInt8 := [43, 180, 0, 39, 77, 43, 180, 0, 36, 78, 43, 1, 181, 0, 39, 43, 1, 181, 0, 36, 42, 45]
abbrev dktJ6_unlinkFirst_0 : List UInt8 := dkwJ6_unlinkFirst_0 ++ dktJ6_unlinkFirst_1
theorem dksJ6_unlinkFirst_0 : cJ6_unlinkFirst.data.toList.drop 0 = dktJ6_unlinkFirst_0 := by decide +kernel
theorem dksJ6_unlinkFirst_1 : cJ6_unlinkFirst.data.toList.drop 22 = dktJ6_unlinkFirst_1 := dk_seg dksJ6_unlinkFirst_0 22 rfl rfl
theorem dksJ6_unlinkFirst_2 : cJ6_unlinkFirst.data.toList.drop 44 = dktJ6_unlinkFirst_2 := dk_seg dksJ6_unlinkFirst_1 22 rfl rfl
theorem dJ6_unlinkFirst_0 : decode cJ6_unlinkFirst 0 = .ok (.aload_n 1, 1) := dk_43 (dk_at dksJ6_unlinkFirst_0 0 rfl rfl)
theorem dJ6_unlinkFirst_1 : decode cJ6_unlinkFirst 1 = .ok (.getfield 39, 3) := dk_180 0 39 (dk_at dksJ6_unlinkFirst_0 1 rfl rfl)
theorem dJ6_unlinkFirst_4 : decode cJ6_unlinkFirst 4 = .ok (.astore_n 2, 1) := dk_77 (dk_at dksJ6_unlinkFirst_0 4 rfl rfl)
theorem dJ6_unlinkFirst_5 : decode cJ6_unlinkFirst 5 = .ok (.aload_n 1, 1) := dk_43 (dk_at dksJ6_unlinkFirst_0 5 rfl rfl)
theorem dJ6_unlinkFirst_6 : decode cJ6_unlinkFirst 6 = .ok (.getfield 36, 3) := dk_180 0 36 (dk_at dksJ6_unlinkFirst_0 6 rfl rfl)
theorem dJ6_unlinkFirst_9 : decode cJ6_unlinkFirst 9 = .ok (.astore_n 3, 1) := dk_78 (dk_at dksJ6_unlinkFirst_0 9 rfl rfl)
theorem dJ6_unlinkFirst_10 : decode cJ6_unlinkFirst 10 = .ok (.aload_n 1, 1) := dk_43 (dk_at dksJ6_unlinkFirst_0 10 rfl rfl)
theorem dJ6_unlinkFirst_11 : decode cJ6_unlinkFirst 11 = .ok (.aconst_null, 1) := dk_1 (dk_at dksJ6_unlinkFirst_0 11 rfl rfl)
theorem dJ6_unlinkFirst_12 : decode cJ6_unlinkFirst 12 = .ok (.putfield 39, 3) := dk_181 0 39 (dk_at dksJ6_unlinkFirst_0 12 rfl rfl)
theorem dJ6_unlinkFirst_15 : decode cJ6_unlinkFirst 15 = .ok (.aload_n 1, 1) := dk_43 (dk_at dksJ6_unlinkFirst_0 15 rfl rfl)
theorem dJ6_unlinkFirst_16 : decode cJ6_unlinkFirst 16 = .ok (.aconst_null, 1) := dk_1 (dk_at dksJ6_unlinkFirst_0 16 rfl rfl)
theorem dJ6_unlinkFirst_17 : decode cJ6_unlinkFirst 17 = .ok (.putfield 36, 3) := dk_181 0 36 (dk_at dksJ6_unlinkFirst_0 17 rfl rfl)
theorem dJ6_unlinkFirst_20 : decode cJ6_unlinkFirst 20 = .ok (.aload_n 0, 1) := dk_42 (dk_at dksJ6_unlinkFirst_0 20 rfl rfl)
theorem dJ6_unlinkFirst_21 : decode cJ6_unlinkFirst 21 = .ok (.aload_n 3, 1) := dk_45 (dk_at dksJ6_unlinkFirst_0 21 rfl rfl)
theorem dJ6_unlinkFirst_22 : decode cJ6_unlinkFirst 22 = .ok (.putfield 18, 3) := dk_181 0 18 (dk_at dksJ6_unlinkFirst_1 0 rfl rfl)
theorem dJ6_unlinkFirst_25 : decode cJ6_unlinkFirst 25 = .ok (.aload_n 3, 1) := dk_45 (dk_at dksJ6_unlinkFirst_1 3 rfl rfl)
theorem dJ6_unlinkFirst_26 : decode cJ6_unlinkFirst 26 = .ok (.ifnonnull 11, 3) := dk_199 0 11 (dk_at dksJ6_unlinkFirst_1 4 rfl rfl)
theorem dJ6_unlinkFirst_29 : decode cJ6_unlinkFirst 29 = .ok (.aload_n 0, 1) := dk_42 (dk_at dksJ6_unlinkFirst_1 7 rfl rfl)
theorem dJ6_unlinkFirst_30 : decode cJ6_unlinkFirst 30 = .ok (.aconst_null, 1) := dk_1 (dk_at dksJ6_unlinkFirst_1 8 rfl rfl)
theorem dJ6_unlinkFirst_31 : decode cJ6_unlinkFirst 31 = .ok (.putfield 27, 3) := dk_181 0 27 (dk_at dksJ6_unlinkFirst_1 9 rfl rfl)
theorem dJ6_unlinkFirst_34 : decode cJ6_unlinkFirst 34 = .ok (.goto 8, 3) := dk_167 0 8 (dk_at dksJ6_unlinkFirst_1 12 rfl rfl)
theorem dJ6_unlinkFirst_37 : decode cJ6_unlinkFirst 37 = .ok (.aload_n 3, 1) := dk_45 (dk_at dksJ6_unlinkFirst_1 15 rfl rfl)
theorem dJ6_unlinkFirst_38 : decode cJ6_unlinkFirst 38 = .ok (.aconst_null, 1) := dk_1 (dk_at dksJ6_unlinkFirst_1 16 rfl rfl)
theorem dJ6_unlinkFirst_39 : decode cJ6_unlinkFirst 39 = .ok (.putfield 30, 3) := dk_181 0 30 (dk_at dksJ6_unlinkFirst_1 17 rfl rfl)
theorem dJ6_unlinkFirst_42 : decode cJ6_unlinkFirst 42 = .ok (.aload_n 0, 1) := dk_42 (dk_at dksJ6_unlinkFirst_1 20 rfl rfl)
theorem dJ6_unlinkFirst_43 : decode cJ6_unlinkFirst 43 = .ok (.dup, 1) := dk_89 (dk_at dksJ6_unlinkFirst_1 21 rfl rfl)
theorem dJ6_unlinkFirst_44 : decode cJ6_unlinkFirst 44 = .ok (.getfield 7, 3) := dk_180 0 7 (dk_at dksJ6_unlinkFirst_2 0 rfl rfl)
theorem dJ6_unlinkFirst_47 : decode cJ6_unlinkFirst 47 = .ok (.iconst 1, 1) := dk_4 (dk_at dksJ6_unlinkFirst_2 3 rfl rfl)
theorem dJ6_unlinkFirst_48 : decode cJ6_unlinkFirst 48 = .ok (.isub, 1) := dk_100 (dk_at dksJ6_unlinkFirst_2 4 rfl rfl)
theorem dJ6_unlinkFirst_49 : decode cJ6_unlinkFirst 49 = .ok (.putfield 7, 3) := dk_181 0 7 (dk_at dksJ6_unlinkFirst_2 5 rfl rfl)
theorem dJ6_unlinkFirst_52 : decode cJ6_unlinkFirst 52 = .ok (.aload_n 0, 1) := dk_42 (dk_at dksJ6_unlinkFirst_2 8 rfl rfl)
theorem dJ6_unlinkFirst_53 : decode cJ6_unlinkFirst 53 = .ok (.dup, 1) := dk_89 (dk_at dksJ6_unlinkFirst_2 9 rfl rfl)
theorem dJ6_unlinkFirst_54 : decode cJ6_unlinkFirst 54 = .ok (.getfield 33, 3) := dk_180 0 33 (dk_at dksJ6_unlinkFirst_2 10 rfl rfl)
theorem dJ6_unlinkFirst_57 : decode cJ6_unlinkFirst 57 = .ok (.iconst 1, 1) := dk_4 (dk_at dksJ6_unlinkFirst_2 13 rfl rfl)
theorem dJ6_unlinkFirst_58 : decode cJ6_unlinkFirst 58 = .ok (.iadd, 1) := dk_96 (dk_at dksJ6_unlinkFirst_2 14 rfl rfl)
theorem dJ6_unlinkFirst_59 : decode cJ6_unlinkFirst 59 = .ok (.putfield 33, 3) := dk_181 0 33 (dk_at dksJ6_unlinkFirst_2 15 rfl rfl)
theorem dJ6_unlinkFirst_62 : decode cJ6_unlinkFirst 62 = .ok (.aload_n 2, 1) := dk_44 (dk_at dksJ6_unlinkFirst_2 18 rfl rfl)
theorem dJ6_unlinkFirst_63 : decode cJ6_unlinkFirst 63 = .ok (.areturn, 1) := dk_176 (dk_at dksJ6_unlinkFirst_2 19 rfl rfl)
theorem c47016 : jtCode 47016 = cJ6_unlinkFirst := rfl
theorem F47016_0 (d : Nat) (a0 : Nat) (v1 : Value) (h : AH) : G2 d 47016 0 [.ref a0, v1, jno, jno] [] h = zkR v1 (zpR (jf (jc h v1) [70] 0) (fun r1 => zkR r1 (zkR v1 (zpR (jf (jc h v1) [70] 1) (fun r2 => zkR r2 (zkR v1 (zqF h v1 [70] 0 2 .null (fun h3 => zkR v1 (zqF h3 v1 [70] 1 2 .null (fun h4 => zkR r2 (zqF h4 (.ref a0) [47] 2 2 r2 (fun h5 => zkR r2 (zkR r2 (if (r2 : Value) = .null then (zqF h5 (.ref a0) [47] 3 2 .null (fun h6 => zpI (jf (jc h6 (.ref a0)) [47] 1) (fun x7 => zqF h6 (.ref a0) [47] 1 0 (.int (x7 - 1)) (fun h8 => zpI (jf (jc h8 (.ref a0)) [43, 47] 0) (fun x9 => zqF h8 (.ref a0) [43, 47] 0 0 (.int (x9 + 1)) (fun h10 => zkR r1 (ckR r1 (some (.inl (some r1), h10))) ()) ()) ()) ()) ()) ()) else (zkR r2 (zqF h5 r2 [70] 2 2 .null (fun h11 => zpI (jf (jc h11 (.ref a0)) [47] 1) (fun x12 => zqF h11 (.ref a0) [47] 1 0 (.int (x12 - 1)) (fun h13 => zpI (jf (jc h13 (.ref a0)) [43, 47] 0) (fun x14 => zqF h13 (.ref a0) [43, 47] 0 0 (.int (x14 + 1)) (fun h15 => zkR r1 (ckR r1 (some (.inl (some r1), h15))) ()) ()) ()) ()) ()) ()) ())) ()) ()) ()) ()) ()) ()) ()) ()) ()) ()) ()) ()) ()) () := by
  refine (g_aload_nVH c47016 dJ6_unlinkFirst_0 rfl).trans (ckR_cg ?_)
  refine (g_getRH c47016 dJ6_unlinkFirst_1 rfl).trans (rR_cg fun r1 => ?_)
  refine (g_astore_nVH (L' := [.ref a0, v1, r1, jno]) c47016 dJ6_unlinkFirst_4 rfl rfl).trans (ckR_cg ?_)
  refine (g_aload_nVH c47016 dJ6_unlinkFirst_5 rfl).trans (ckR_cg ?_)
  refine (g_getRH c47016 dJ6_unlinkFirst_6 rfl).trans (rR_cg fun r2 => ?_)
  refine (g_astore_nVH (L' := [.ref a0, v1, r1, r2]) c47016 dJ6_unlinkFirst_9 rfl rfl).trans (ckR_cg ?_)
  refine (g_aload_nVH c47016 dJ6_unlinkFirst_10 rfl).trans (ckR_cg ?_)
  refine (g_aconst_nullH c47016 dJ6_unlinkFirst_11).trans ?_
  refine (g_putH c47016 dJ6_unlinkFirst_12 rfl).trans (pF_cg fun h3 => ?_)
  refine (g_aload_nVH c47016 dJ6_unlinkFirst_15 rfl).trans (ckR_cg ?_)
  refine (g_aconst_nullH c47016 dJ6_unlinkFirst_16).trans ?_
  refine (g_putH c47016 dJ6_unlinkFirst_17 rfl).trans (pF_cg fun h4 => ?_)
  refine (g_aload_nH c47016 dJ6_unlinkFirst_20 rfl).trans ?_
  refine (g_aload_nVH c47016 dJ6_unlinkFirst_21 rfl).trans (ckR_cg ?_)
  refine (g_putH c47016 dJ6_unlinkFirst_22 rfl).trans (pF_cg fun h5 => ?_)
  refine (g_aload_nVH c47016 dJ6_unlinkFirst_25 rfl).trans (ckR_cg ?_)
  refine (g_ifnonnullH (tgt := 37) c47016 dJ6_unlinkFirst_26 rfl).trans (ckR_cg (if_cg ?_ ?_))
  · skip
    refine (g_aload_nH c47016 dJ6_unlinkFirst_29 rfl).trans ?_
    refine (g_aconst_nullH c47016 dJ6_unlinkFirst_30).trans ?_
    refine (g_putH c47016 dJ6_unlinkFirst_31 rfl).trans (pF_cg fun h6 => ?_)
    refine (g_gotoH (tgt := 42) c47016 dJ6_unlinkFirst_34 rfl).trans ?_
    refine (g_aload_nH c47016 dJ6_unlinkFirst_42 rfl).trans ?_
    refine (g_dup_rH c47016 dJ6_unlinkFirst_43).trans ?_
    refine (g_getIH c47016 dJ6_unlinkFirst_44 rfl rfl).trans (rI_cg fun x7 => ?_)
    refine (g_iconstH (x := 1) c47016 dJ6_unlinkFirst_47 rfl).trans ?_
    refine (g_isubH c47016 dJ6_unlinkFirst_48).trans ?_
    refine (g_putH c47016 dJ6_unlinkFirst_49 rfl).trans (pF_cg fun h8 => ?_)
    refine (g_aload_nH c47016 dJ6_unlinkFirst_52 rfl).trans ?_
    refine (g_dup_rH c47016 dJ6_unlinkFirst_53).trans ?_
    refine (g_getIH c47016 dJ6_unlinkFirst_54 rfl rfl).trans (rI_cg fun x9 => ?_)
    refine (g_iconstH (x := 1) c47016 dJ6_unlinkFirst_57 rfl).trans ?_
    refine (g_iaddH c47016 dJ6_unlinkFirst_58).trans ?_
    refine (g_putH c47016 dJ6_unlinkFirst_59 rfl).trans (pF_cg fun h10 => ?_)
    refine (g_aload_nVH c47016 dJ6_unlinkFirst_62 rfl).trans (ckR_cg ?_)
    exact g_areturnH c47016 dJ6_unlinkFirst_63 rfl
  · skip
    refine (g_aload_nVH c47016 dJ6_unlinkFirst_37 rfl).trans (ckR_cg ?_)
    refine (g_aconst_nullH c47016 dJ6_unlinkFirst_38).trans ?_
    refine (g_putH c47016 dJ6_unlinkFirst_39 rfl).trans (pF_cg fun h11 => ?_)
    refine (g_aload_nH c47016 dJ6_unlinkFirst_42 rfl).trans ?_
    refine (g_dup_rH c47016 dJ6_unlinkFirst_43).trans ?_
    refine (g_getIH c47016 dJ6_unlinkFirst_44 rfl rfl).trans (rI_cg fun x12 => ?_)
    refine (g_iconstH (x := 1) c47016 dJ6_unlinkFirst_47 rfl).trans ?_
    refine (g_isubH c47016 dJ6_unlinkFirst_48).trans ?_
    refine (g_putH c47016 dJ6_unlinkFirst_49 rfl).trans (pF_cg fun h13 => ?_)
    refine (g_aload_nH c47016 dJ6_unlinkFirst_52 rfl).trans ?_
    refine (g_dup_rH c47016 dJ6_unlinkFirst_53).trans ?_
    refine (g_getIH c47016 dJ6_unlinkFirst_54 rfl rfl).trans (rI_cg fun x14 => ?_)
    refine (g_iconstH (x := 1) c47016 dJ6_unlinkFirst_57 rfl).trans ?_
    refine (g_iaddH c47016 dJ6_unlinkFirst_58).trans ?_
    refine (g_putH c47016 dJ6_unlinkFirst_59 rfl).trans (pF_cg fun h15 => ?_)
    refine (g_aload_nVH c47016 dJ6_unlinkFirst_62 rfl).trans (ckR_cg ?_)
    exact g_areturnH c47016 dJ6_unlinkFirst_63 rfl
theorem Y47016 {d : Nat} {a0 : Nat} {v1 : Value} (h : AH) (hv1 : isR v1 = true) (hr : jrecv 47016 [.ref a0, v1] h = true) : M2 (d + 1) 47016 [.ref a0, v1] h = G2 d 47016 0 [.ref a0, v1, jno, jno] [] h := M2_eq rfl rfl hr (by simp only [jent, jargL_R hv1, jargL]; rfl)
/-! java/util/LinkedList.<init>()V -/
abbrev cJ6_init : ByteArray := prog_79_method_1_code
def dkwJ6_init_0 : List UInt8 := [42, 183, 0, 1, 42, 3, 181, 0, 7, 177]
abbrev dktJ6_init_0 : List UInt8 := dkwJ6_init_0 ++ []
theorem dksJ6_init_0 : cJ6_init.data.toList.drop 0 = dktJ6_init_0 := by decide +kernel
theorem dJ6_init_0 : decode cJ6_init 0 = .ok (.aload_n 0, 1) := dk_42 (dk_at dksJ6_init_0 0 rfl rfl)
theorem dJ6_init_1 : decode cJ6_init 1 = .ok (.invokespecial 1, 3) := dk_183 0 1 (dk_at dksJ6_init_0 1 rfl rfl)
theorem dJ6_init_4 : decode cJ6_init 4 = .ok (.aload_n 0, 1) := dk_42 (dk_at dksJ6_init_0 4 rfl rfl)
theorem dJ6_init_5 : decode cJ6_init 5 = .ok (.iconst 0, 1) := dk_3 (dk_at dksJ6_init_0 5 rfl rfl)
theorem dJ6_init_6 : decode cJ6_init 6 = .ok (.putfield 7, 3) := dk_181 0 7 (dk_at dksJ6_init_0 6 rfl rfl)
theorem dJ6_init_9 : decode cJ6_init 9 = .ok (.return_, 1) := dk_177 (dk_at dksJ6_init_0 9 rfl rfl)
theorem c47900 : jtCode 47900 = cJ6_init := rfl
theorem F47900_0 (d : Nat) (a0 : Nat) (h : AH) : G2 d 47900 0 [.ref a0] [] h = zcV (M2 d 46900 [.ref a0] h) (fun h2 => zqF h2 (.ref a0) [47] 1 0 (.int 0) (fun h3 => some (.inl none, h3)) ()) () := by
  refine (g_aload_nH c47900 dJ6_init_0 rfl).trans ?_
  refine (g_specialH (as := [.ref a0]) (rest := []) c47900 dJ6_init_1 rfl rfl rfl rfl rfl).trans ((jback_VH (κx := cX) (fun e h => jthrow_outH rfl)).trans (cV_cg fun h2 => ?_))
  refine (g_aload_nH c47900 dJ6_init_4 rfl).trans ?_
  refine (g_iconstH (x := 0) c47900 dJ6_init_5 rfl).trans ?_
  refine (g_putH c47900 dJ6_init_6 rfl).trans (pF_cg fun h3 => ?_)
  exact g_returnH c47900 dJ6_init_9 rfl
theorem Y47900 {d : Nat} {a0 : Nat} (h : AH) (hr : jrecv 47900 [.ref a0] h = true) : M2 (d + 1) 47900 [.ref a0] h = G2 d 47900 0 [.ref a0] [] h := M2_eq rfl rfl hr rfl
/-! java/lang/AbstractStringBuilder.isLatin1()Z -/
theorem F48009_0 (d : Nat) (a0 : Nat) (h : AH) : G2 d 48009 0 [.ref a0] [] h = if (1 : Int32) = 0 then (some (.inl (some (.int 0)), h)) else (zpI (jf (jc h (.ref a0)) [49] 1) (fun x1 => if x1 = 0 then (some (.inl (some (.int 1)), h)) else (some (.inl (some (.int 0)), h))) ()) := by
  refine (g_getsIH (x := 1) c48009 dJ7_isLatin1_0 rfl rfl).trans ?_
  refine (g_if_eqH (tgt := 17) c48009 dJ7_isLatin1_3 rfl).trans (if_cg ?_ ?_)
  · skip
    refine (g_iconstH (x := 0) c48009 dJ7_isLatin1_17 rfl).trans ?_
    exact g_zreturn0H c48009 dJ7_isLatin1_18 rfl
  · skip
    refine (g_aload_nH c48009 dJ7_isLatin1_6 rfl).trans ?_
    refine (g_getIH c48009 dJ7_isLatin1_7 rfl rfl).trans (rI_cg fun x1 => ?_)
    refine (g_if_neH (tgt := 17) c48009 dJ7_isLatin1_10 rfl).trans (if_cg ?_ ?_)
    · skip
      refine (g_iconstH (x := 1) c48009 dJ7_isLatin1_13 rfl).trans ?_
      refine (g_gotoH (tgt := 18) c48009 dJ7_isLatin1_14 rfl).trans ?_
      exact g_zreturn1H c48009 dJ7_isLatin1_18 rfl
    · skip
      refine (g_iconstH (x := 0) c48009 dJ7_isLatin1_17 rfl).trans ?_
      exact g_zreturn0H c48009 dJ7_isLatin1_18 rfl
theorem Y48009 {d : Nat} {a0 : Nat} (h : AH) (hr : jrecv 48009 [.ref a0] h = true) : M2 (d + 1) 48009 [.ref a0] h = G2 d 48009 0 [.ref a0] [] h := M2_eq rfl rfl hr rfl
/-! java/lang/String.charAt(I)C -/
abbrev cJ9_charAt : ByteArray := prog_51_method_56_code
def dkwJ9_charAt_1 : List UInt8 := [172]
abbrev dktJ9_charAt_1 : List UInt8 := dkwJ9_charAt_1 ++ []
def dkwJ9_charAt_0 : List UInt8 := [42, 182, 1, 236, 153, 0, 12, 42, 180, 0, 9, 27, 184, 1, 239, 172, 42, 180, 0, 9, 27, 184, 1, 242]
abbrev dktJ9_charAt_0 : List UInt8 := dkwJ9_charAt_0 ++ dktJ9_charAt_1
theorem dksJ9_charAt_0 : cJ9_charAt.data.toList.drop 0 = dktJ9_charAt_0 := by decide +kernel
theorem dksJ9_charAt_1 : cJ9_charAt.data.toList.drop 24 = dktJ9_charAt_1 := dk_seg dksJ9_charAt_0 24 rfl rfl
theorem dJ9_charAt_0 : decode cJ9_charAt 0 = .ok (.aload_n 0, 1) := dk_42 (dk_at dksJ9_charAt_0 0 rfl rfl)
theorem dJ9_charAt_1 : decode cJ9_charAt 1 = .ok (.invokevirtual 492, 3) := dk_182 1 236 (dk_at dksJ9_charAt_0 1 rfl rfl)
theorem dJ9_charAt_4 : decode cJ9_charAt 4 = .ok (.ifCond .eq 12, 3) := dk_153 0 12 (dk_at dksJ9_charAt_0 4 rfl rfl)
theorem dJ9_charAt_7 : decode cJ9_charAt 7 = .ok (.aload_n 0, 1) := dk_42 (dk_at dksJ9_charAt_0 7 rfl rfl)
theorem dJ9_charAt_8 : decode cJ9_charAt 8 = .ok (.getfield 9, 3) := dk_180 0 9 (dk_at dksJ9_charAt_0 8 rfl rfl)
theorem dJ9_charAt_11 : decode cJ9_charAt 11 = .ok (.iload_n 1, 1) := dk_27 (dk_at dksJ9_charAt_0 11 rfl rfl)
theorem dJ9_charAt_12 : decode cJ9_charAt 12 = .ok (.invokestatic 495, 3) := dk_184 1 239 (dk_at dksJ9_charAt_0 12 rfl rfl)
theorem dJ9_charAt_15 : decode cJ9_charAt 15 = .ok (.ireturn, 1) := dk_172 (dk_at dksJ9_charAt_0 15 rfl rfl)
theorem dJ9_charAt_16 : decode cJ9_charAt 16 = .ok (.aload_n 0, 1) := dk_42 (dk_at dksJ9_charAt_0 16 rfl rfl)
theorem dJ9_charAt_17 : decode cJ9_charAt 17 = .ok (.getfield 9, 3) := dk_180 0 9 (dk_at dksJ9_charAt_0 17 rfl rfl)
theorem dJ9_charAt_20 : decode cJ9_charAt 20 = .ok (.iload_n 1, 1) := dk_27 (dk_at dksJ9_charAt_0 20 rfl rfl)
theorem dJ9_charAt_21 : decode cJ9_charAt 21 = .ok (.invokestatic 498, 3) := dk_184 1 242 (dk_at dksJ9_charAt_0 21 rfl rfl)
theorem dJ9_charAt_24 : decode cJ9_charAt 24 = .ok (.ireturn, 1) := dk_172 (dk_at dksJ9_charAt_1 0 rfl rfl)
theorem c50000 : jtCode 50000 = cJ9_charAt := rfl
theorem F50000_0 (d : Nat) (a0 : Nat) (i1 : Int32) (h : AH) : G2 d 50000 0 [.ref a0, .int i1] [] h = zcI (M2 d 50011 [.ref a0] h) (fun x1 h2 => if x1 = 0 then (zpR (jf (jc h2 (.ref a0)) [50, 150] 0) (fun r3 => zcI (M2 d 51000 [r3, .int i1] h2) (fun x4 h5 => okC x4 (some (.inl (some (.int x4)), h5))) ()) ()) else (zpR (jf (jc h2 (.ref a0)) [50, 150] 0) (fun r6 => zcI (M2 d 54001 [r6, .int i1] h2) (fun x7 h8 => okC x7 (some (.inl (some (.int x7)), h8))) ()) ())) () := by
  refine (g_aload_nH c50000 dJ9_charAt_0 rfl).trans ?_
  refine (g_virtualH (as := [.ref a0]) (rest := []) c50000 dJ9_charAt_1 rfl rfl rfl rfl rfl).trans ((jback_IH (κx := cX) (fun e h => jthrow_outH rfl)).trans (cI_cg fun x1 h2 => ?_))
  refine (g_if_eqH (tgt := 16) c50000 dJ9_charAt_4 rfl).trans (if_cg ?_ ?_)
  · skip
    refine (g_aload_nH c50000 dJ9_charAt_16 rfl).trans ?_
    refine (g_getRH c50000 dJ9_charAt_17 rfl).trans (rR_cg fun r3 => ?_)
    refine (g_iload_nH c50000 dJ9_charAt_20 rfl).trans ?_
    refine (g_staticH (as := [r3, .int i1]) (rest := []) c50000 dJ9_charAt_21 rfl rfl rfl rfl rfl).trans ((jback_IH (κx := cX) (fun e h => jthrow_outH rfl)).trans (cI_cg fun x4 h5 => ?_))
    exact g_creturnH c50000 dJ9_charAt_24 rfl
  · skip
    refine (g_aload_nH c50000 dJ9_charAt_7 rfl).trans ?_
    refine (g_getRH c50000 dJ9_charAt_8 rfl).trans (rR_cg fun r6 => ?_)
    refine (g_iload_nH c50000 dJ9_charAt_11 rfl).trans ?_
    refine (g_staticH (as := [r6, .int i1]) (rest := []) c50000 dJ9_charAt_12 rfl rfl rfl rfl rfl).trans ((jback_IH (κx := cX) (fun e h => jthrow_outH rfl)).trans (cI_cg fun x7 h8 => ?_))
    exact g_creturnH c50000 dJ9_charAt_15 rfl
theorem Y50000 {d : Nat} {a0 : Nat} {i1 : Int32} (h : AH) (hr : jrecv 50000 [.ref a0, .int i1] h = true) : M2 (d + 1) 50000 [.ref a0, .int i1] h = G2 d 50000 0 [.ref a0, .int i1] [] h := M2_eq rfl rfl hr rfl
/-! java/lang/String.checkIndex(II)V -/
theorem F50003_0 (d : Nat) (i0 : Int32) (i1 : Int32) (h : AH) : G2 d 50003 0 [.int i0, .int i1] [] h = zpR (je h 2) (fun r1 => zcI (M2 d 55002 [.int i0, .int i1, r1] h) (fun x2 h3 => some (.inl none, h3)) ()) () := by
  refine (g_iload_nH c50003 dJ9_checkIndex_0 rfl).trans ?_
  refine (g_iload_nH c50003 dJ9_checkIndex_1 rfl).trans ?_
  refine (g_getsRH (k := 2) c50003 dJ9_checkIndex_2 rfl rfl).trans (rR_cg fun r1 => ?_)
  refine (g_staticH (as := [.int i0, .int i1, r1]) (rest := []) c50003 dJ9_checkIndex_5 rfl rfl rfl rfl rfl).trans ((jback_IH (κx := cX) (fun e h => jthrow_outH rfl)).trans (cI_cg fun x2 h3 => ?_))
  refine (g_pop_iH c50003 dJ9_checkIndex_8).trans ?_
  exact g_returnH c50003 dJ9_checkIndex_9 rfl
theorem Y50003 {d : Nat} {i0 : Int32} {i1 : Int32} (h : AH) : M2 (d + 1) 50003 [.int i0, .int i1] h = G2 d 50003 0 [.int i0, .int i1] [] h := M2_eq rfl rfl rfl rfl
/-! java/lang/String.checkOffset(II)V -/
abbrev cJ9_checkOffset : ByteArray := prog_51_method_156_code
def dkwJ9_checkOffset_0 : List UInt8 := [26, 27, 27, 178, 4, 29, 184, 4, 38, 87, 177]
abbrev dktJ9_checkOffset_0 : List UInt8 := dkwJ9_checkOffset_0 ++ []
theorem dksJ9_checkOffset_0 : cJ9_checkOffset.data.toList.drop 0 = dktJ9_checkOffset_0 := by decide +kernel
theorem dJ9_checkOffset_0 : decode cJ9_checkOffset 0 = .ok (.iload_n 0, 1) := dk_26 (dk_at dksJ9_checkOffset_0 0 rfl rfl)
theorem dJ9_checkOffset_1 : decode cJ9_checkOffset 1 = .ok (.iload_n 1, 1) := dk_27 (dk_at dksJ9_checkOffset_0 1 rfl rfl)
theorem dJ9_checkOffset_2 : decode cJ9_checkOffset 2 = .ok (.iload_n 1, 1) := dk_27 (dk_at dksJ9_checkOffset_0 2 rfl rfl)
theorem dJ9_checkOffset_3 : decode cJ9_checkOffset 3 = .ok (.getstatic 1053, 3) := dk_178 4 29 (dk_at dksJ9_checkOffset_0 3 rfl rfl)
theorem dJ9_checkOffset_6 : decode cJ9_checkOffset 6 = .ok (.invokestatic 1062, 3) := dk_184 4 38 (dk_at dksJ9_checkOffset_0 6 rfl rfl)
theorem dJ9_checkOffset_9 : decode cJ9_checkOffset 9 = .ok (.pop, 1) := dk_87 (dk_at dksJ9_checkOffset_0 9 rfl rfl)
theorem dJ9_checkOffset_10 : decode cJ9_checkOffset 10 = .ok (.return_, 1) := dk_177 (dk_at dksJ9_checkOffset_0 10 rfl rfl)
theorem c50004 : jtCode 50004 = cJ9_checkOffset := rfl
theorem F50004_0 (d : Nat) (i0 : Int32) (i1 : Int32) (h : AH) : G2 d 50004 0 [.int i0, .int i1] [] h = zpR (je h 2) (fun r1 => zcI (M2 d 55001 [.int i0, .int i1, .int i1, r1] h) (fun x2 h3 => some (.inl none, h3)) ()) () := by
  refine (g_iload_nH c50004 dJ9_checkOffset_0 rfl).trans ?_
  refine (g_iload_nH c50004 dJ9_checkOffset_1 rfl).trans ?_
  refine (g_iload_nH c50004 dJ9_checkOffset_2 rfl).trans ?_
  refine (g_getsRH (k := 2) c50004 dJ9_checkOffset_3 rfl rfl).trans (rR_cg fun r1 => ?_)
  refine (g_staticH (as := [.int i0, .int i1, .int i1, r1]) (rest := []) c50004 dJ9_checkOffset_6 rfl rfl rfl rfl rfl).trans ((jback_IH (κx := cX) (fun e h => jthrow_outH rfl)).trans (cI_cg fun x2 h3 => ?_))
  refine (g_pop_iH c50004 dJ9_checkOffset_9).trans ?_
  exact g_returnH c50004 dJ9_checkOffset_10 rfl
theorem Y50004 {d : Nat} {i0 : Int32} {i1 : Int32} (h : AH) : M2 (d + 1) 50004 [.int i0, .int i1] h = G2 d 50004 0 [.int i0, .int i1] [] h := M2_eq rfl rfl rfl rfl
/-! java/lang/String.coder()B -/
theorem F50005_0 (d : Nat) (a0 : Nat) (h : AH) : G2 d 50005 0 [.ref a0] [] h = if (1 : Int32) = 0 then (okB 1 (some (.inl (some (.int 1)), h))) else (zpI (jf (jc h (.ref a0)) [50, 150] 1) (fun x1 => okB x1 (some (.inl (some (.int x1)), h))) ()) := by
  refine (g_getsIH (x := 1) c50005 dJ9_coder_0 rfl rfl).trans ?_
  refine (g_if_eqH (tgt := 13) c50005 dJ9_coder_3 rfl).trans (if_cg ?_ ?_)
  · skip
    refine (g_iconstH (x := 1) c50005 dJ9_coder_13 rfl).trans ?_
    exact g_breturnH c50005 dJ9_coder_14 rfl
  · skip
    refine (g_aload_nH c50005 dJ9_coder_6 rfl).trans ?_
    refine (g_getIH c50005 dJ9_coder_7 rfl rfl).trans (rI_cg fun x1 => ?_)
    refine (g_gotoH (tgt := 14) c50005 dJ9_coder_10 rfl).trans ?_
    exact g_breturnH c50005 dJ9_coder_14 rfl
theorem Y50005 {d : Nat} {a0 : Nat} (h : AH) (hr : jrecv 50005 [.ref a0] h = true) : M2 (d + 1) 50005 [.ref a0] h = G2 d 50005 0 [.ref a0] [] h := M2_eq rfl rfl hr rfl
/-! java/lang/String.indexOf(Ljava/lang/String;)I -/
abbrev cJ9_indexOf : ByteArray := prog_51_method_84_code
def dkwJ9_indexOf_2 : List UInt8 := [154, 0, 5, 2, 172, 42, 180, 0, 9, 43, 180, 0, 9, 184, 2, 138, 172]
abbrev dktJ9_indexOf_2 : List UInt8 := dkwJ9_indexOf_2 ++ []
def dkwJ9_indexOf_1 : List UInt8 := [43, 180, 0, 9, 184, 2, 135, 167, 0, 14, 42, 180, 0, 9, 43, 180, 0, 9, 184, 2, 137, 172, 28]
abbrev dktJ9_indexOf_1 : List UInt8 := dkwJ9_indexOf_1 ++ dktJ9_indexOf_2
def dkwJ9_indexOf_0 : List UInt8 := [42, 182, 1, 79, 61, 28, 43, 182, 1, 79, 160, 0, 36, 42, 182, 1, 236, 153, 0, 17, 42, 180, 0, 9]
abbrev dktJ9_indexOf_0 : List UInt8 := dkwJ9_indexOf_0 ++ dktJ9_indexOf_1
theorem dksJ9_indexOf_0 : cJ9_indexOf.data.toList.drop 0 = dktJ9_indexOf_0 := by decide +kernel
theorem dksJ9_indexOf_1 : cJ9_indexOf.data.toList.drop 24 = dktJ9_indexOf_1 := dk_seg dksJ9_indexOf_0 24 rfl rfl
theorem dksJ9_indexOf_2 : cJ9_indexOf.data.toList.drop 47 = dktJ9_indexOf_2 := dk_seg dksJ9_indexOf_1 23 rfl rfl
theorem dJ9_indexOf_0 : decode cJ9_indexOf 0 = .ok (.aload_n 0, 1) := dk_42 (dk_at dksJ9_indexOf_0 0 rfl rfl)
theorem dJ9_indexOf_1 : decode cJ9_indexOf 1 = .ok (.invokevirtual 335, 3) := dk_182 1 79 (dk_at dksJ9_indexOf_0 1 rfl rfl)
theorem dJ9_indexOf_4 : decode cJ9_indexOf 4 = .ok (.istore_n 2, 1) := dk_61 (dk_at dksJ9_indexOf_0 4 rfl rfl)
theorem dJ9_indexOf_5 : decode cJ9_indexOf 5 = .ok (.iload_n 2, 1) := dk_28 (dk_at dksJ9_indexOf_0 5 rfl rfl)
theorem dJ9_indexOf_6 : decode cJ9_indexOf 6 = .ok (.aload_n 1, 1) := dk_43 (dk_at dksJ9_indexOf_0 6 rfl rfl)
theorem dJ9_indexOf_7 : decode cJ9_indexOf 7 = .ok (.invokevirtual 335, 3) := dk_182 1 79 (dk_at dksJ9_indexOf_0 7 rfl rfl)
theorem dJ9_indexOf_10 : decode cJ9_indexOf 10 = .ok (.if_icmp .ne 36, 3) := dk_160 0 36 (dk_at dksJ9_indexOf_0 10 rfl rfl)
theorem dJ9_indexOf_13 : decode cJ9_indexOf 13 = .ok (.aload_n 0, 1) := dk_42 (dk_at dksJ9_indexOf_0 13 rfl rfl)
theorem dJ9_indexOf_14 : decode cJ9_indexOf 14 = .ok (.invokevirtual 492, 3) := dk_182 1 236 (dk_at dksJ9_indexOf_0 14 rfl rfl)
theorem dJ9_indexOf_17 : decode cJ9_indexOf 17 = .ok (.ifCond .eq 17, 3) := dk_153 0 17 (dk_at dksJ9_indexOf_0 17 rfl rfl)
theorem dJ9_indexOf_20 : decode cJ9_indexOf 20 = .ok (.aload_n 0, 1) := dk_42 (dk_at dksJ9_indexOf_0 20 rfl rfl)
theorem dJ9_indexOf_21 : decode cJ9_indexOf 21 = .ok (.getfield 9, 3) := dk_180 0 9 (dk_at dksJ9_indexOf_0 21 rfl rfl)
theorem dJ9_indexOf_24 : decode cJ9_indexOf 24 = .ok (.aload_n 1, 1) := dk_43 (dk_at dksJ9_indexOf_1 0 rfl rfl)
theorem dJ9_indexOf_25 : decode cJ9_indexOf 25 = .ok (.getfield 9, 3) := dk_180 0 9 (dk_at dksJ9_indexOf_1 1 rfl rfl)
theorem dJ9_indexOf_28 : decode cJ9_indexOf 28 = .ok (.invokestatic 647, 3) := dk_184 2 135 (dk_at dksJ9_indexOf_1 4 rfl rfl)
theorem dJ9_indexOf_31 : decode cJ9_indexOf 31 = .ok (.goto 14, 3) := dk_167 0 14 (dk_at dksJ9_indexOf_1 7 rfl rfl)
theorem dJ9_indexOf_34 : decode cJ9_indexOf 34 = .ok (.aload_n 0, 1) := dk_42 (dk_at dksJ9_indexOf_1 10 rfl rfl)
theorem dJ9_indexOf_35 : decode cJ9_indexOf 35 = .ok (.getfield 9, 3) := dk_180 0 9 (dk_at dksJ9_indexOf_1 11 rfl rfl)
theorem dJ9_indexOf_38 : decode cJ9_indexOf 38 = .ok (.aload_n 1, 1) := dk_43 (dk_at dksJ9_indexOf_1 14 rfl rfl)
theorem dJ9_indexOf_39 : decode cJ9_indexOf 39 = .ok (.getfield 9, 3) := dk_180 0 9 (dk_at dksJ9_indexOf_1 15 rfl rfl)
theorem dJ9_indexOf_42 : decode cJ9_indexOf 42 = .ok (.invokestatic 649, 3) := dk_184 2 137 (dk_at dksJ9_indexOf_1 18 rfl rfl)
theorem dJ9_indexOf_45 : decode cJ9_indexOf 45 = .ok (.ireturn, 1) := dk_172 (dk_at dksJ9_indexOf_1 21 rfl rfl)
theorem dJ9_indexOf_46 : decode cJ9_indexOf 46 = .ok (.iload_n 2, 1) := dk_28 (dk_at dksJ9_indexOf_1 22 rfl rfl)
theorem dJ9_indexOf_47 : decode cJ9_indexOf 47 = .ok (.ifCond .ne 5, 3) := dk_154 0 5 (dk_at dksJ9_indexOf_2 0 rfl rfl)
theorem dJ9_indexOf_50 : decode cJ9_indexOf 50 = .ok (.iconst (-1), 1) := dk_2 (dk_at dksJ9_indexOf_2 3 rfl rfl)
theorem dJ9_indexOf_51 : decode cJ9_indexOf 51 = .ok (.ireturn, 1) := dk_172 (dk_at dksJ9_indexOf_2 4 rfl rfl)
theorem dJ9_indexOf_52 : decode cJ9_indexOf 52 = .ok (.aload_n 0, 1) := dk_42 (dk_at dksJ9_indexOf_2 5 rfl rfl)
theorem dJ9_indexOf_53 : decode cJ9_indexOf 53 = .ok (.getfield 9, 3) := dk_180 0 9 (dk_at dksJ9_indexOf_2 6 rfl rfl)
theorem dJ9_indexOf_56 : decode cJ9_indexOf 56 = .ok (.aload_n 1, 1) := dk_43 (dk_at dksJ9_indexOf_2 9 rfl rfl)
theorem dJ9_indexOf_57 : decode cJ9_indexOf 57 = .ok (.getfield 9, 3) := dk_180 0 9 (dk_at dksJ9_indexOf_2 10 rfl rfl)
theorem dJ9_indexOf_60 : decode cJ9_indexOf 60 = .ok (.invokestatic 650, 3) := dk_184 2 138 (dk_at dksJ9_indexOf_2 13 rfl rfl)
theorem dJ9_indexOf_63 : decode cJ9_indexOf 63 = .ok (.ireturn, 1) := dk_172 (dk_at dksJ9_indexOf_2 16 rfl rfl)
theorem c50010 : jtCode 50010 = cJ9_indexOf := rfl
theorem F50010_0 (d : Nat) (a0 : Nat) (v1 : Value) (h : AH) : G2 d 50010 0 [.ref a0, v1, jno] [] h = zcI (M2 d 50005 [.ref a0] h) (fun x1 h2 => zkR v1 (zcI (M2 d 50005 [v1] h2) (fun x3 h4 => if x1 = x3 then (zcI (M2 d 50011 [.ref a0] h4) (fun x5 h6 => if x5 = 0 then (zpR (jf (jc h6 (.ref a0)) [50, 150] 0) (fun r7 => zkR v1 (zpR (jf (jc h6 v1) [50, 150] 0) (fun r8 => zcI (M2 d 51016 [r7, r8] h6) (fun x9 h10 => some (.inl (some (.int x9)), h10)) ()) ()) ()) ()) else (zpR (jf (jc h6 (.ref a0)) [50, 150] 0) (fun r11 => zkR v1 (zpR (jf (jc h6 v1) [50, 150] 0) (fun r12 => zcI (M2 d 54009 [r11, r12] h6) (fun x13 h14 => some (.inl (some (.int x13)), h14)) ()) ()) ()) ())) ()) else (if x1 = 0 then (some (.inl (some (.int (-1))), h4)) else (zpR (jf (jc h4 (.ref a0)) [50, 150] 0) (fun r15 => zkR v1 (zpR (jf (jc h4 v1) [50, 150] 0) (fun r16 => zcI (M2 d 51017 [r15, r16] h4) (fun x17 h18 => some (.inl (some (.int x17)), h18)) ()) ()) ()) ()))) ()) ()) () := by
  refine (g_aload_nH c50010 dJ9_indexOf_0 rfl).trans ?_
  refine (g_virtualH (as := [.ref a0]) (rest := []) c50010 dJ9_indexOf_1 rfl rfl rfl rfl rfl).trans ((jback_IH (κx := cX) (fun e h => jthrow_outH rfl)).trans (cI_cg fun x1 h2 => ?_))
  refine (g_istore_nH (L' := [.ref a0, v1, .int x1]) c50010 dJ9_indexOf_4 rfl rfl).trans ?_
  refine (g_iload_nH c50010 dJ9_indexOf_5 rfl).trans ?_
  refine (g_aload_nVH c50010 dJ9_indexOf_6 rfl).trans (ckR_cg ?_)
  refine (g_virtualH (as := [v1]) (rest := [.int x1]) c50010 dJ9_indexOf_7 rfl rfl rfl rfl rfl).trans ((jback_IH (κx := cX) (fun e h => jthrow_outH rfl)).trans (cI_cg fun x3 h4 => ?_))
  refine (g_icmp_neH (tgt := 46) c50010 dJ9_indexOf_10 rfl).trans (if_cg ?_ ?_)
  · skip
    refine (g_aload_nH c50010 dJ9_indexOf_13 rfl).trans ?_
    refine (g_virtualH (as := [.ref a0]) (rest := []) c50010 dJ9_indexOf_14 rfl rfl rfl rfl rfl).trans ((jback_IH (κx := cX) (fun e h => jthrow_outH rfl)).trans (cI_cg fun x5 h6 => ?_))
    refine (g_if_eqH (tgt := 34) c50010 dJ9_indexOf_17 rfl).trans (if_cg ?_ ?_)
    · skip
      refine (g_aload_nH c50010 dJ9_indexOf_34 rfl).trans ?_
      refine (g_getRH c50010 dJ9_indexOf_35 rfl).trans (rR_cg fun r7 => ?_)
      refine (g_aload_nVH c50010 dJ9_indexOf_38 rfl).trans (ckR_cg ?_)
      refine (g_getRH c50010 dJ9_indexOf_39 rfl).trans (rR_cg fun r8 => ?_)
      refine (g_staticH (as := [r7, r8]) (rest := []) c50010 dJ9_indexOf_42 rfl rfl rfl rfl rfl).trans ((jback_IH (κx := cX) (fun e h => jthrow_outH rfl)).trans (cI_cg fun x9 h10 => ?_))
      exact g_ireturnH c50010 dJ9_indexOf_45 rfl
    · skip
      refine (g_aload_nH c50010 dJ9_indexOf_20 rfl).trans ?_
      refine (g_getRH c50010 dJ9_indexOf_21 rfl).trans (rR_cg fun r11 => ?_)
      refine (g_aload_nVH c50010 dJ9_indexOf_24 rfl).trans (ckR_cg ?_)
      refine (g_getRH c50010 dJ9_indexOf_25 rfl).trans (rR_cg fun r12 => ?_)
      refine (g_staticH (as := [r11, r12]) (rest := []) c50010 dJ9_indexOf_28 rfl rfl rfl rfl rfl).trans ((jback_IH (κx := cX) (fun e h => jthrow_outH rfl)).trans (cI_cg fun x13 h14 => ?_))
      refine (g_gotoH (tgt := 45) c50010 dJ9_indexOf_31 rfl).trans ?_
      exact g_ireturnH c50010 dJ9_indexOf_45 rfl
  · skip
    refine (g_iload_nH c50010 dJ9_indexOf_46 rfl).trans ?_
    refine (g_if_neH (tgt := 52) c50010 dJ9_indexOf_47 rfl).trans (if_cg ?_ ?_)
    · skip
      refine (g_iconstH (x := (-1)) c50010 dJ9_indexOf_50 rfl).trans ?_
      exact g_ireturnH c50010 dJ9_indexOf_51 rfl
    · skip
      refine (g_aload_nH c50010 dJ9_indexOf_52 rfl).trans ?_
      refine (g_getRH c50010 dJ9_indexOf_53 rfl).trans (rR_cg fun r15 => ?_)
      refine (g_aload_nVH c50010 dJ9_indexOf_56 rfl).trans (ckR_cg ?_)
      refine (g_getRH c50010 dJ9_indexOf_57 rfl).trans (rR_cg fun r16 => ?_)
      refine (g_staticH (as := [r15, r16]) (rest := []) c50010 dJ9_indexOf_60 rfl rfl rfl rfl rfl).trans ((jback_IH (κx := cX) (fun e h => jthrow_outH rfl)).trans (cI_cg fun x17 h18 => ?_))
      exact g_ireturnH c50010 dJ9_indexOf_63 rfl
theorem Y50010 {d : Nat} {a0 : Nat} {v1 : Value} (h : AH) (hv1 : isR v1 = true) (hr : jrecv 50010 [.ref a0, v1] h = true) : M2 (d + 1) 50010 [.ref a0, v1] h = G2 d 50010 0 [.ref a0, v1, jno] [] h := M2_eq rfl rfl hr (by simp only [jent, jargL_R hv1, jargL]; rfl)
/-! java/lang/String.isLatin1()Z -/
abbrev cJ9_isLatin1 : ByteArray := prog_51_method_154_code
def dkwJ9_isLatin1_0 : List UInt8 := [178, 0, 38, 153, 0, 14, 42, 180, 0, 15, 154, 0, 7, 4, 167, 0, 4, 3, 172]
abbrev dktJ9_isLatin1_0 : List UInt8 := dkwJ9_isLatin1_0 ++ []
theorem dksJ9_isLatin1_0 : cJ9_isLatin1.data.toList.drop 0 = dktJ9_isLatin1_0 := by decide +kernel
theorem dJ9_isLatin1_0 : decode cJ9_isLatin1 0 = .ok (.getstatic 38, 3) := dk_178 0 38 (dk_at dksJ9_isLatin1_0 0 rfl rfl)
theorem dJ9_isLatin1_3 : decode cJ9_isLatin1 3 = .ok (.ifCond .eq 14, 3) := dk_153 0 14 (dk_at dksJ9_isLatin1_0 3 rfl rfl)
theorem dJ9_isLatin1_6 : decode cJ9_isLatin1 6 = .ok (.aload_n 0, 1) := dk_42 (dk_at dksJ9_isLatin1_0 6 rfl rfl)
theorem dJ9_isLatin1_7 : decode cJ9_isLatin1 7 = .ok (.getfield 15, 3) := dk_180 0 15 (dk_at dksJ9_isLatin1_0 7 rfl rfl)
theorem dJ9_isLatin1_10 : decode cJ9_isLatin1 10 = .ok (.ifCond .ne 7, 3) := dk_154 0 7 (dk_at dksJ9_isLatin1_0 10 rfl rfl)
theorem dJ9_isLatin1_13 : decode cJ9_isLatin1 13 = .ok (.iconst 1, 1) := dk_4 (dk_at dksJ9_isLatin1_0 13 rfl rfl)
theorem dJ9_isLatin1_14 : decode cJ9_isLatin1 14 = .ok (.goto 4, 3) := dk_167 0 4 (dk_at dksJ9_isLatin1_0 14 rfl rfl)
theorem dJ9_isLatin1_17 : decode cJ9_isLatin1 17 = .ok (.iconst 0, 1) := dk_3 (dk_at dksJ9_isLatin1_0 17 rfl rfl)
theorem dJ9_isLatin1_18 : decode cJ9_isLatin1 18 = .ok (.ireturn, 1) := dk_172 (dk_at dksJ9_isLatin1_0 18 rfl rfl)
theorem c50011 : jtCode 50011 = cJ9_isLatin1 := rfl
theorem F50011_0 (d : Nat) (a0 : Nat) (h : AH) : G2 d 50011 0 [.ref a0] [] h = if (1 : Int32) = 0 then (some (.inl (some (.int 0)), h)) else (zpI (jf (jc h (.ref a0)) [50, 150] 1) (fun x1 => if x1 = 0 then (some (.inl (some (.int 1)), h)) else (some (.inl (some (.int 0)), h))) ()) := by
  refine (g_getsIH (x := 1) c50011 dJ9_isLatin1_0 rfl rfl).trans ?_
  refine (g_if_eqH (tgt := 17) c50011 dJ9_isLatin1_3 rfl).trans (if_cg ?_ ?_)
  · skip
    refine (g_iconstH (x := 0) c50011 dJ9_isLatin1_17 rfl).trans ?_
    exact g_zreturn0H c50011 dJ9_isLatin1_18 rfl
  · skip
    refine (g_aload_nH c50011 dJ9_isLatin1_6 rfl).trans ?_
    refine (g_getIH c50011 dJ9_isLatin1_7 rfl rfl).trans (rI_cg fun x1 => ?_)
    refine (g_if_neH (tgt := 17) c50011 dJ9_isLatin1_10 rfl).trans (if_cg ?_ ?_)
    · skip
      refine (g_iconstH (x := 1) c50011 dJ9_isLatin1_13 rfl).trans ?_
      refine (g_gotoH (tgt := 18) c50011 dJ9_isLatin1_14 rfl).trans ?_
      exact g_zreturn1H c50011 dJ9_isLatin1_18 rfl
    · skip
      refine (g_iconstH (x := 0) c50011 dJ9_isLatin1_17 rfl).trans ?_
      exact g_zreturn0H c50011 dJ9_isLatin1_18 rfl
theorem Y50011 {d : Nat} {a0 : Nat} (h : AH) (hr : jrecv 50011 [.ref a0] h = true) : M2 (d + 1) 50011 [.ref a0] h = G2 d 50011 0 [.ref a0] [] h := M2_eq rfl rfl hr rfl
/-! java/lang/String.length()I -/
theorem F50012_0 (d : Nat) (a0 : Nat) (h : AH) : G2 d 50012 0 [.ref a0] [] h = zpR (jf (jc h (.ref a0)) [50, 150] 0) (fun r1 => zqL h r1 (fun x2 => zcI (M2 d 50005 [.ref a0] h) (fun x3 h4 => some (.inl (some (.int (x2 >>> (x3 &&& 31)))), h4)) ()) ()) () := by
  refine (g_aload_nH c50012 dJ9_length_0 rfl).trans ?_
  refine (g_getRH c50012 dJ9_length_1 rfl).trans (rR_cg fun r1 => ?_)
  refine (g_alenH c50012 dJ9_length_4).trans (aL_cg fun x2 => ?_)
  refine (g_aload_nH c50012 dJ9_length_5 rfl).trans ?_
  refine (g_virtualH (as := [.ref a0]) (rest := [.int x2]) c50012 dJ9_length_6 rfl rfl rfl rfl rfl).trans ((jback_IH (κx := cX) (fun e h => jthrow_outH rfl)).trans (cI_cg fun x3 h4 => ?_))
  refine (g_ishrH c50012 dJ9_length_9).trans ?_
  exact g_ireturnH c50012 dJ9_length_10 rfl
theorem Y50012 {d : Nat} {a0 : Nat} (h : AH) (hr : jrecv 50012 [.ref a0] h = true) : M2 (d + 1) 50012 [.ref a0] h = G2 d 50012 0 [.ref a0] [] h := M2_eq rfl rfl hr rfl
/-! java/lang/StringUTF16.getChar([BI)C -/
abbrev cJ10_getChar : ByteArray := prog_54_method_5_code
def dkwJ10_getChar_2 : List UInt8 := [51, 17, 0, 255, 126, 178, 0, 63, 120, 128, 146, 172]
abbrev dktJ10_getChar_2 : List UInt8 := dkwJ10_getChar_2 ++ []
def dkwJ10_getChar_1 : List UInt8 := [183, 0, 56, 191, 27, 4, 120, 60, 42, 27, 132, 1, 1, 51, 17, 0, 255, 126, 178, 0, 59, 120, 42, 27]
abbrev dktJ10_getChar_1 : List UInt8 := dkwJ10_getChar_1 ++ dktJ10_getChar_2
def dkwJ10_getChar_0 : List UInt8 := [178, 0, 44, 154, 0, 25, 27, 155, 0, 11, 27, 42, 184, 0, 48, 161, 0, 13, 187, 0, 52, 89, 18, 54]
abbrev dktJ10_getChar_0 : List UInt8 := dkwJ10_getChar_0 ++ dktJ10_getChar_1
theorem dksJ10_getChar_0 : cJ10_getChar.data.toList.drop 0 = dktJ10_getChar_0 := by decide +kernel
theorem dksJ10_getChar_1 : cJ10_getChar.data.toList.drop 24 = dktJ10_getChar_1 := dk_seg dksJ10_getChar_0 24 rfl rfl
theorem dksJ10_getChar_2 : cJ10_getChar.data.toList.drop 48 = dktJ10_getChar_2 := dk_seg dksJ10_getChar_1 24 rfl rfl
theorem dJ10_getChar_0 : decode cJ10_getChar 0 = .ok (.getstatic 44, 3) := dk_178 0 44 (dk_at dksJ10_getChar_0 0 rfl rfl)
theorem dJ10_getChar_3 : decode cJ10_getChar 3 = .ok (.ifCond .ne 25, 3) := dk_154 0 25 (dk_at dksJ10_getChar_0 3 rfl rfl)
theorem dJ10_getChar_6 : decode cJ10_getChar 6 = .ok (.iload_n 1, 1) := dk_27 (dk_at dksJ10_getChar_0 6 rfl rfl)
theorem dJ10_getChar_7 : decode cJ10_getChar 7 = .ok (.ifCond .lt 11, 3) := dk_155 0 11 (dk_at dksJ10_getChar_0 7 rfl rfl)
theorem dJ10_getChar_10 : decode cJ10_getChar 10 = .ok (.iload_n 1, 1) := dk_27 (dk_at dksJ10_getChar_0 10 rfl rfl)
theorem dJ10_getChar_11 : decode cJ10_getChar 11 = .ok (.aload_n 0, 1) := dk_42 (dk_at dksJ10_getChar_0 11 rfl rfl)
theorem dJ10_getChar_12 : decode cJ10_getChar 12 = .ok (.invokestatic 48, 3) := dk_184 0 48 (dk_at dksJ10_getChar_0 12 rfl rfl)
theorem dJ10_getChar_15 : decode cJ10_getChar 15 = .ok (.if_icmp .lt 13, 3) := dk_161 0 13 (dk_at dksJ10_getChar_0 15 rfl rfl)
theorem dJ10_getChar_18 : decode cJ10_getChar 18 = .ok (.new 52, 3) := dk_187 0 52 (dk_at dksJ10_getChar_0 18 rfl rfl)
theorem dJ10_getChar_21 : decode cJ10_getChar 21 = .ok (.dup, 1) := dk_89 (dk_at dksJ10_getChar_0 21 rfl rfl)
theorem dJ10_getChar_22 : decode cJ10_getChar 22 = .ok (.ldc 54, 2) := dk_18 54 (dk_at dksJ10_getChar_0 22 rfl rfl)
theorem dJ10_getChar_24 : decode cJ10_getChar 24 = .ok (.invokespecial 56, 3) := dk_183 0 56 (dk_at dksJ10_getChar_1 0 rfl rfl)
theorem dJ10_getChar_27 : decode cJ10_getChar 27 = .ok (.athrow, 1) := dk_191 (dk_at dksJ10_getChar_1 3 rfl rfl)
theorem dJ10_getChar_28 : decode cJ10_getChar 28 = .ok (.iload_n 1, 1) := dk_27 (dk_at dksJ10_getChar_1 4 rfl rfl)
theorem dJ10_getChar_29 : decode cJ10_getChar 29 = .ok (.iconst 1, 1) := dk_4 (dk_at dksJ10_getChar_1 5 rfl rfl)
theorem dJ10_getChar_30 : decode cJ10_getChar 30 = .ok (.ishl, 1) := dk_120 (dk_at dksJ10_getChar_1 6 rfl rfl)
theorem dJ10_getChar_31 : decode cJ10_getChar 31 = .ok (.istore_n 1, 1) := dk_60 (dk_at dksJ10_getChar_1 7 rfl rfl)
theorem dJ10_getChar_32 : decode cJ10_getChar 32 = .ok (.aload_n 0, 1) := dk_42 (dk_at dksJ10_getChar_1 8 rfl rfl)
theorem dJ10_getChar_33 : decode cJ10_getChar 33 = .ok (.iload_n 1, 1) := dk_27 (dk_at dksJ10_getChar_1 9 rfl rfl)
theorem dJ10_getChar_34 : decode cJ10_getChar 34 = .ok (.iinc 1 1, 3) := dk_132 1 1 (dk_at dksJ10_getChar_1 10 rfl rfl)
theorem dJ10_getChar_37 : decode cJ10_getChar 37 = .ok (.baload, 1) := dk_51 (dk_at dksJ10_getChar_1 13 rfl rfl)
theorem dJ10_getChar_38 : decode cJ10_getChar 38 = .ok (.sipush 255, 3) := dk_17 0 255 (dk_at dksJ10_getChar_1 14 rfl rfl)
theorem dJ10_getChar_41 : decode cJ10_getChar 41 = .ok (.iand, 1) := dk_126 (dk_at dksJ10_getChar_1 17 rfl rfl)
theorem dJ10_getChar_42 : decode cJ10_getChar 42 = .ok (.getstatic 59, 3) := dk_178 0 59 (dk_at dksJ10_getChar_1 18 rfl rfl)
theorem dJ10_getChar_45 : decode cJ10_getChar 45 = .ok (.ishl, 1) := dk_120 (dk_at dksJ10_getChar_1 21 rfl rfl)
theorem dJ10_getChar_46 : decode cJ10_getChar 46 = .ok (.aload_n 0, 1) := dk_42 (dk_at dksJ10_getChar_1 22 rfl rfl)
theorem dJ10_getChar_47 : decode cJ10_getChar 47 = .ok (.iload_n 1, 1) := dk_27 (dk_at dksJ10_getChar_1 23 rfl rfl)
theorem dJ10_getChar_48 : decode cJ10_getChar 48 = .ok (.baload, 1) := dk_51 (dk_at dksJ10_getChar_2 0 rfl rfl)
theorem dJ10_getChar_49 : decode cJ10_getChar 49 = .ok (.sipush 255, 3) := dk_17 0 255 (dk_at dksJ10_getChar_2 1 rfl rfl)
theorem dJ10_getChar_52 : decode cJ10_getChar 52 = .ok (.iand, 1) := dk_126 (dk_at dksJ10_getChar_2 4 rfl rfl)
theorem dJ10_getChar_53 : decode cJ10_getChar 53 = .ok (.getstatic 63, 3) := dk_178 0 63 (dk_at dksJ10_getChar_2 5 rfl rfl)
theorem dJ10_getChar_56 : decode cJ10_getChar 56 = .ok (.ishl, 1) := dk_120 (dk_at dksJ10_getChar_2 8 rfl rfl)
theorem dJ10_getChar_57 : decode cJ10_getChar 57 = .ok (.ior, 1) := dk_128 (dk_at dksJ10_getChar_2 9 rfl rfl)
theorem dJ10_getChar_58 : decode cJ10_getChar 58 = .ok (.i2c, 1) := dk_146 (dk_at dksJ10_getChar_2 10 rfl rfl)
theorem dJ10_getChar_59 : decode cJ10_getChar 59 = .ok (.ireturn, 1) := dk_172 (dk_at dksJ10_getChar_2 11 rfl rfl)
theorem c51013 : jtCode 51013 = cJ10_getChar := rfl
theorem F51013_0 (d : Nat) (v0 : Value) (i1 : Int32) (h : AH) : G2 d 51013 0 [v0, .int i1] [] h = if (1 : Int32) = 0 then (if i1 < 0 then (G2 d 51013 18 [v0, .int i1] [] h) else (zkR v0 (zcI (M2 d 51021 [v0] h) (fun x1 h2 => if i1 < x1 then (G2 d 51013 28 [v0, .int i1] [] h2) else (G2 d 51013 18 [v0, .int i1] [] h2)) ()) ())) else (G2 d 51013 28 [v0, .int i1] [] h) := by
  refine (g_getsIH (x := 1) c51013 dJ10_getChar_0 rfl rfl).trans ?_
  refine (g_if_neH (tgt := 28) c51013 dJ10_getChar_3 rfl).trans (if_cg ?_ ?_)
  · skip
    refine (g_iload_nH c51013 dJ10_getChar_6 rfl).trans ?_
    refine (g_if_ltH (tgt := 18) c51013 dJ10_getChar_7 rfl).trans (if_cg ?_ ?_)
    · skip
      rfl
    · skip
      refine (g_iload_nH c51013 dJ10_getChar_10 rfl).trans ?_
      refine (g_aload_nVH c51013 dJ10_getChar_11 rfl).trans (ckR_cg ?_)
      refine (g_staticH (as := [v0]) (rest := [.int i1]) c51013 dJ10_getChar_12 rfl rfl rfl rfl rfl).trans ((jback_IH (κx := cX) (fun e h => jthrow_outH rfl)).trans (cI_cg fun x1 h2 => ?_))
      refine (g_icmp_ltH (tgt := 28) c51013 dJ10_getChar_15 rfl).trans (if_cg ?_ ?_)
      · skip
        rfl
      · skip
        rfl
  · skip
    rfl
theorem F51013_28 (d : Nat) (v0 : Value) (i1 : Int32) (h : AH) : G2 d 51013 28 [v0, .int i1] [] h = zkR v0 (zqG h v0 [1010, 1011, 1020] (i1 <<< ((1 : Int32) &&& 31)) (fun w1 => zpI w1 (fun x2 => zkR v0 (zqG h v0 [1010, 1011, 1020] ((i1 <<< ((1 : Int32) &&& 31)) + 1) (fun w3 => zpI w3 (fun x4 => okC (((((((x2 &&& 255) <<< ((0 : Int32) &&& 31)) ||| ((x4 &&& 255) <<< ((8 : Int32) &&& 31)))).toUInt32 % 65536).toInt32)) (some (.inl (some (.int (((((((x2 &&& 255) <<< ((0 : Int32) &&& 31)) ||| ((x4 &&& 255) <<< ((8 : Int32) &&& 31)))).toUInt32 % 65536).toInt32)))), h))) ()) ()) ()) ()) ()) () := by
  refine (g_iload_nH c51013 dJ10_getChar_28 rfl).trans ?_
  refine (g_iconstH (x := 1) c51013 dJ10_getChar_29 rfl).trans ?_
  refine (g_ishlH c51013 dJ10_getChar_30).trans ?_
  refine (g_istore_nH (L' := [v0, .int (i1 <<< ((1 : Int32) &&& 31))]) c51013 dJ10_getChar_31 rfl rfl).trans ?_
  refine (g_aload_nVH c51013 dJ10_getChar_32 rfl).trans (ckR_cg ?_)
  refine (g_iload_nH c51013 dJ10_getChar_33 rfl).trans ?_
  refine (g_iincH (c := 1) (L' := [v0, .int ((i1 <<< ((1 : Int32) &&& 31)) + 1)]) c51013 dJ10_getChar_34 rfl rfl rfl rfl).trans ?_
  refine (g_baloadH c51013 dJ10_getChar_37).trans (aG_cg fun w1 => rI_cg fun x2 => ?_)
  refine (g_sipushH (x := 255) c51013 dJ10_getChar_38 rfl).trans ?_
  refine (g_iandH c51013 dJ10_getChar_41).trans ?_
  refine (g_getsIH (x := 0) c51013 dJ10_getChar_42 rfl rfl).trans ?_
  refine (g_ishlH c51013 dJ10_getChar_45).trans ?_
  refine (g_aload_nVH c51013 dJ10_getChar_46 rfl).trans (ckR_cg ?_)
  refine (g_iload_nH c51013 dJ10_getChar_47 rfl).trans ?_
  refine (g_baloadH c51013 dJ10_getChar_48).trans (aG_cg fun w3 => rI_cg fun x4 => ?_)
  refine (g_sipushH (x := 255) c51013 dJ10_getChar_49 rfl).trans ?_
  refine (g_iandH c51013 dJ10_getChar_52).trans ?_
  refine (g_getsIH (x := 8) c51013 dJ10_getChar_53 rfl rfl).trans ?_
  refine (g_ishlH c51013 dJ10_getChar_56).trans ?_
  refine (g_iorH c51013 dJ10_getChar_57).trans ?_
  refine (g_i2cH c51013 dJ10_getChar_58).trans ?_
  exact g_creturnH c51013 dJ10_getChar_59 rfl
theorem Y51013 {d : Nat} {v0 : Value} {i1 : Int32} (h : AH) (hv0 : isR v0 = true) : M2 (d + 1) 51013 [v0, .int i1] h = G2 d 51013 0 [v0, .int i1] [] h := M2_eq rfl rfl rfl (by simp only [jent, jargL_R hv0, jargL]; rfl)
/-! java/lang/StringUTF16.length([B)I -/
abbrev cJ10_length : ByteArray := prog_54_method_6_code
def dkwJ10_length_0 : List UInt8 := [42, 190, 4, 122, 172]
abbrev dktJ10_length_0 : List UInt8 := dkwJ10_length_0 ++ []
theorem dksJ10_length_0 : cJ10_length.data.toList.drop 0 = dktJ10_length_0 := by decide +kernel
theorem dJ10_length_0 : decode cJ10_length 0 = .ok (.aload_n 0, 1) := dk_42 (dk_at dksJ10_length_0 0 rfl rfl)
theorem dJ10_length_1 : decode cJ10_length 1 = .ok (.arraylength, 1) := dk_190 (dk_at dksJ10_length_0 1 rfl rfl)
theorem dJ10_length_2 : decode cJ10_length 2 = .ok (.iconst 1, 1) := dk_4 (dk_at dksJ10_length_0 2 rfl rfl)
theorem dJ10_length_3 : decode cJ10_length 3 = .ok (.ishr, 1) := dk_122 (dk_at dksJ10_length_0 3 rfl rfl)
theorem dJ10_length_4 : decode cJ10_length 4 = .ok (.ireturn, 1) := dk_172 (dk_at dksJ10_length_0 4 rfl rfl)
theorem c51021 : jtCode 51021 = cJ10_length := rfl
theorem F51021_0 (d : Nat) (v0 : Value) (h : AH) : G2 d 51021 0 [v0] [] h = zkR v0 (zqL h v0 (fun x1 => some (.inl (some (.int (x1 >>> ((1 : Int32) &&& 31)))), h)) ()) () := by
  refine (g_aload_nVH c51021 dJ10_length_0 rfl).trans (ckR_cg ?_)
  refine (g_alenH c51021 dJ10_length_1).trans (aL_cg fun x1 => ?_)
  refine (g_iconstH (x := 1) c51021 dJ10_length_2 rfl).trans ?_
  refine (g_ishrH c51021 dJ10_length_3).trans ?_
  exact g_ireturnH c51021 dJ10_length_4 rfl
theorem Y51021 {d : Nat} {v0 : Value} (h : AH) (hv0 : isR v0 = true) : M2 (d + 1) 51021 [v0] h = G2 d 51021 0 [v0] [] h := M2_eq rfl rfl rfl (by simp only [jent, jargL_R hv0, jargL]; rfl)
/-! jdk/internal/util/ArraysSupport.mismatch([I[II)I -/
abbrev cJ11_mismatch : ByteArray := prog_92_method_19_code
def dkwJ11_mismatch_2 : List UInt8 := [29, 28, 162, 0, 20, 42, 29, 46, 43, 29, 46, 159, 0, 5, 29, 172, 132, 3, 1, 167, 255, 237, 2, 172]
abbrev dktJ11_mismatch_2 : List UInt8 := dkwJ11_mismatch_2 ++ []
def dkwJ11_mismatch_1 : List UInt8 := [178, 0, 144, 133, 28, 178, 0, 51, 184, 0, 122, 62, 29, 155, 0, 5, 29, 172, 28, 29, 2, 130, 100, 62]
abbrev dktJ11_mismatch_1 : List UInt8 := dkwJ11_mismatch_1 ++ dktJ11_mismatch_2
def dkwJ11_mismatch_0 : List UInt8 := [3, 62, 28, 4, 164, 0, 44, 42, 3, 46, 43, 3, 46, 159, 0, 5, 3, 172, 42, 178, 0, 144, 133, 43]
abbrev dktJ11_mismatch_0 : List UInt8 := dkwJ11_mismatch_0 ++ dktJ11_mismatch_1
theorem dksJ11_mismatch_0 : cJ11_mismatch.data.toList.drop 0 = dktJ11_mismatch_0 := by decide +kernel
theorem dksJ11_mismatch_1 : cJ11_mismatch.data.toList.drop 24 = dktJ11_mismatch_1 := dk_seg dksJ11_mismatch_0 24 rfl rfl
theorem dksJ11_mismatch_2 : cJ11_mismatch.data.toList.drop 48 = dktJ11_mismatch_2 := dk_seg dksJ11_mismatch_1 24 rfl rfl
theorem dJ11_mismatch_0 : decode cJ11_mismatch 0 = .ok (.iconst 0, 1) := dk_3 (dk_at dksJ11_mismatch_0 0 rfl rfl)
theorem dJ11_mismatch_1 : decode cJ11_mismatch 1 = .ok (.istore_n 3, 1) := dk_62 (dk_at dksJ11_mismatch_0 1 rfl rfl)
theorem dJ11_mismatch_2 : decode cJ11_mismatch 2 = .ok (.iload_n 2, 1) := dk_28 (dk_at dksJ11_mismatch_0 2 rfl rfl)
theorem dJ11_mismatch_3 : decode cJ11_mismatch 3 = .ok (.iconst 1, 1) := dk_4 (dk_at dksJ11_mismatch_0 3 rfl rfl)
theorem dJ11_mismatch_4 : decode cJ11_mismatch 4 = .ok (.if_icmp .le 44, 3) := dk_164 0 44 (dk_at dksJ11_mismatch_0 4 rfl rfl)
theorem dJ11_mismatch_7 : decode cJ11_mismatch 7 = .ok (.aload_n 0, 1) := dk_42 (dk_at dksJ11_mismatch_0 7 rfl rfl)
theorem dJ11_mismatch_8 : decode cJ11_mismatch 8 = .ok (.iconst 0, 1) := dk_3 (dk_at dksJ11_mismatch_0 8 rfl rfl)
theorem dJ11_mismatch_9 : decode cJ11_mismatch 9 = .ok (.iaload, 1) := dk_46 (dk_at dksJ11_mismatch_0 9 rfl rfl)
theorem dJ11_mismatch_10 : decode cJ11_mismatch 10 = .ok (.aload_n 1, 1) := dk_43 (dk_at dksJ11_mismatch_0 10 rfl rfl)
theorem dJ11_mismatch_11 : decode cJ11_mismatch 11 = .ok (.iconst 0, 1) := dk_3 (dk_at dksJ11_mismatch_0 11 rfl rfl)
theorem dJ11_mismatch_12 : decode cJ11_mismatch 12 = .ok (.iaload, 1) := dk_46 (dk_at dksJ11_mismatch_0 12 rfl rfl)
theorem dJ11_mismatch_13 : decode cJ11_mismatch 13 = .ok (.if_icmp .eq 5, 3) := dk_159 0 5 (dk_at dksJ11_mismatch_0 13 rfl rfl)
theorem dJ11_mismatch_16 : decode cJ11_mismatch 16 = .ok (.iconst 0, 1) := dk_3 (dk_at dksJ11_mismatch_0 16 rfl rfl)
theorem dJ11_mismatch_17 : decode cJ11_mismatch 17 = .ok (.ireturn, 1) := dk_172 (dk_at dksJ11_mismatch_0 17 rfl rfl)
theorem dJ11_mismatch_18 : decode cJ11_mismatch 18 = .ok (.aload_n 0, 1) := dk_42 (dk_at dksJ11_mismatch_0 18 rfl rfl)
theorem dJ11_mismatch_19 : decode cJ11_mismatch 19 = .ok (.getstatic 144, 3) := dk_178 0 144 (dk_at dksJ11_mismatch_0 19 rfl rfl)
theorem dJ11_mismatch_22 : decode cJ11_mismatch 22 = .ok (.i2l, 1) := dk_133 (dk_at dksJ11_mismatch_0 22 rfl rfl)
theorem dJ11_mismatch_23 : decode cJ11_mismatch 23 = .ok (.aload_n 1, 1) := dk_43 (dk_at dksJ11_mismatch_0 23 rfl rfl)
theorem dJ11_mismatch_24 : decode cJ11_mismatch 24 = .ok (.getstatic 144, 3) := dk_178 0 144 (dk_at dksJ11_mismatch_1 0 rfl rfl)
theorem dJ11_mismatch_27 : decode cJ11_mismatch 27 = .ok (.i2l, 1) := dk_133 (dk_at dksJ11_mismatch_1 3 rfl rfl)
theorem dJ11_mismatch_28 : decode cJ11_mismatch 28 = .ok (.iload_n 2, 1) := dk_28 (dk_at dksJ11_mismatch_1 4 rfl rfl)
theorem dJ11_mismatch_29 : decode cJ11_mismatch 29 = .ok (.getstatic 51, 3) := dk_178 0 51 (dk_at dksJ11_mismatch_1 5 rfl rfl)
theorem dJ11_mismatch_32 : decode cJ11_mismatch 32 = .ok (.invokestatic 122, 3) := dk_184 0 122 (dk_at dksJ11_mismatch_1 8 rfl rfl)
theorem dJ11_mismatch_35 : decode cJ11_mismatch 35 = .ok (.istore_n 3, 1) := dk_62 (dk_at dksJ11_mismatch_1 11 rfl rfl)
theorem dJ11_mismatch_36 : decode cJ11_mismatch 36 = .ok (.iload_n 3, 1) := dk_29 (dk_at dksJ11_mismatch_1 12 rfl rfl)
theorem dJ11_mismatch_37 : decode cJ11_mismatch 37 = .ok (.ifCond .lt 5, 3) := dk_155 0 5 (dk_at dksJ11_mismatch_1 13 rfl rfl)
theorem dJ11_mismatch_40 : decode cJ11_mismatch 40 = .ok (.iload_n 3, 1) := dk_29 (dk_at dksJ11_mismatch_1 16 rfl rfl)
theorem dJ11_mismatch_41 : decode cJ11_mismatch 41 = .ok (.ireturn, 1) := dk_172 (dk_at dksJ11_mismatch_1 17 rfl rfl)
theorem dJ11_mismatch_42 : decode cJ11_mismatch 42 = .ok (.iload_n 2, 1) := dk_28 (dk_at dksJ11_mismatch_1 18 rfl rfl)
theorem dJ11_mismatch_43 : decode cJ11_mismatch 43 = .ok (.iload_n 3, 1) := dk_29 (dk_at dksJ11_mismatch_1 19 rfl rfl)
theorem dJ11_mismatch_44 : decode cJ11_mismatch 44 = .ok (.iconst (-1), 1) := dk_2 (dk_at dksJ11_mismatch_1 20 rfl rfl)
theorem dJ11_mismatch_45 : decode cJ11_mismatch 45 = .ok (.ixor, 1) := dk_130 (dk_at dksJ11_mismatch_1 21 rfl rfl)
theorem dJ11_mismatch_46 : decode cJ11_mismatch 46 = .ok (.isub, 1) := dk_100 (dk_at dksJ11_mismatch_1 22 rfl rfl)
theorem dJ11_mismatch_47 : decode cJ11_mismatch 47 = .ok (.istore_n 3, 1) := dk_62 (dk_at dksJ11_mismatch_1 23 rfl rfl)
theorem dJ11_mismatch_48 : decode cJ11_mismatch 48 = .ok (.iload_n 3, 1) := dk_29 (dk_at dksJ11_mismatch_2 0 rfl rfl)
theorem dJ11_mismatch_49 : decode cJ11_mismatch 49 = .ok (.iload_n 2, 1) := dk_28 (dk_at dksJ11_mismatch_2 1 rfl rfl)
theorem dJ11_mismatch_50 : decode cJ11_mismatch 50 = .ok (.if_icmp .ge 20, 3) := dk_162 0 20 (dk_at dksJ11_mismatch_2 2 rfl rfl)
theorem dJ11_mismatch_53 : decode cJ11_mismatch 53 = .ok (.aload_n 0, 1) := dk_42 (dk_at dksJ11_mismatch_2 5 rfl rfl)
theorem dJ11_mismatch_54 : decode cJ11_mismatch 54 = .ok (.iload_n 3, 1) := dk_29 (dk_at dksJ11_mismatch_2 6 rfl rfl)
theorem dJ11_mismatch_55 : decode cJ11_mismatch 55 = .ok (.iaload, 1) := dk_46 (dk_at dksJ11_mismatch_2 7 rfl rfl)
theorem dJ11_mismatch_56 : decode cJ11_mismatch 56 = .ok (.aload_n 1, 1) := dk_43 (dk_at dksJ11_mismatch_2 8 rfl rfl)
theorem dJ11_mismatch_57 : decode cJ11_mismatch 57 = .ok (.iload_n 3, 1) := dk_29 (dk_at dksJ11_mismatch_2 9 rfl rfl)
theorem dJ11_mismatch_58 : decode cJ11_mismatch 58 = .ok (.iaload, 1) := dk_46 (dk_at dksJ11_mismatch_2 10 rfl rfl)
theorem dJ11_mismatch_59 : decode cJ11_mismatch 59 = .ok (.if_icmp .eq 5, 3) := dk_159 0 5 (dk_at dksJ11_mismatch_2 11 rfl rfl)
theorem dJ11_mismatch_62 : decode cJ11_mismatch 62 = .ok (.iload_n 3, 1) := dk_29 (dk_at dksJ11_mismatch_2 14 rfl rfl)
theorem dJ11_mismatch_63 : decode cJ11_mismatch 63 = .ok (.ireturn, 1) := dk_172 (dk_at dksJ11_mismatch_2 15 rfl rfl)
theorem dJ11_mismatch_64 : decode cJ11_mismatch 64 = .ok (.iinc 3 1, 3) := dk_132 3 1 (dk_at dksJ11_mismatch_2 16 rfl rfl)
theorem dJ11_mismatch_67 : decode cJ11_mismatch 67 = .ok (.goto (-19), 3) := dk_167 255 237 (dk_at dksJ11_mismatch_2 19 rfl rfl)
theorem dJ11_mismatch_70 : decode cJ11_mismatch 70 = .ok (.iconst (-1), 1) := dk_2 (dk_at dksJ11_mismatch_2 22 rfl rfl)
theorem dJ11_mismatch_71 : decode cJ11_mismatch 71 = .ok (.ireturn, 1) := dk_172 (dk_at dksJ11_mismatch_2 23 rfl rfl)
theorem c52001 : jtCode 52001 = cJ11_mismatch := rfl
theorem F52001_0 (d : Nat) (v0 : Value) (v1 : Value) (i2 : Int32) (h : AH) : G2 d 52001 0 [v0, v1, .int i2, jno] [] h = if i2 ≤ 1 then (G2 d 52001 48 [v0, v1, .int i2, .int 0] [] h) else (zkR v0 (zqG h v0 [1000, 1001] 0 (fun w1 => zpI w1 (fun x2 => zkR v1 (zqG h v1 [1000, 1001] 0 (fun w3 => zpI w3 (fun x4 => if x2 = x4 then (zkR v0 (zkR v1 (zcI (M2 d 52004 [v0, .long ((16 : Int32).toInt64), v1, .long ((16 : Int32).toInt64), .int i2, .int 2] h) (fun x5 h6 => if x5 < 0 then (G2 d 52001 48 [v0, v1, .int i2, .int (i2 - (x5 ^^^ (-1)))] [] h6) else (some (.inl (some (.int x5)), h6))) ()) ()) ()) else (some (.inl (some (.int 0)), h))) ()) ()) ()) ()) ()) ()) := by
  refine (g_iconstH (x := 0) c52001 dJ11_mismatch_0 rfl).trans ?_
  refine (g_istore_nH (L' := [v0, v1, .int i2, .int 0]) c52001 dJ11_mismatch_1 rfl rfl).trans ?_
  refine (g_iload_nH c52001 dJ11_mismatch_2 rfl).trans ?_
  refine (g_iconstH (x := 1) c52001 dJ11_mismatch_3 rfl).trans ?_
  refine (g_icmp_leH (tgt := 48) c52001 dJ11_mismatch_4 rfl).trans (if_cg ?_ ?_)
  · skip
    rfl
  · skip
    refine (g_aload_nVH c52001 dJ11_mismatch_7 rfl).trans (ckR_cg ?_)
    refine (g_iconstH (x := 0) c52001 dJ11_mismatch_8 rfl).trans ?_
    refine (g_ialoadH c52001 dJ11_mismatch_9).trans (aG_cg fun w1 => rI_cg fun x2 => ?_)
    refine (g_aload_nVH c52001 dJ11_mismatch_10 rfl).trans (ckR_cg ?_)
    refine (g_iconstH (x := 0) c52001 dJ11_mismatch_11 rfl).trans ?_
    refine (g_ialoadH c52001 dJ11_mismatch_12).trans (aG_cg fun w3 => rI_cg fun x4 => ?_)
    refine (g_icmp_eqH (tgt := 18) c52001 dJ11_mismatch_13 rfl).trans (if_cg ?_ ?_)
    · skip
      refine (g_aload_nVH c52001 dJ11_mismatch_18 rfl).trans (ckR_cg ?_)
      refine (g_getsIH (x := 16) c52001 dJ11_mismatch_19 rfl rfl).trans ?_
      refine (g_i2lH c52001 dJ11_mismatch_22).trans ?_
      refine (g_aload_nVH c52001 dJ11_mismatch_23 rfl).trans (ckR_cg ?_)
      refine (g_getsIH (x := 16) c52001 dJ11_mismatch_24 rfl rfl).trans ?_
      refine (g_i2lH c52001 dJ11_mismatch_27).trans ?_
      refine (g_iload_nH c52001 dJ11_mismatch_28 rfl).trans ?_
      refine (g_getsIH (x := 2) c52001 dJ11_mismatch_29 rfl rfl).trans ?_
      refine (g_staticH (as := [v0, .long ((16 : Int32).toInt64), v1, .long ((16 : Int32).toInt64), .int i2, .int 2]) (rest := []) c52001 dJ11_mismatch_32 rfl rfl rfl rfl rfl).trans ((jback_IH (κx := cX) (fun e h => jthrow_outH rfl)).trans (cI_cg fun x5 h6 => ?_))
      refine (g_istore_nH (L' := [v0, v1, .int i2, .int x5]) c52001 dJ11_mismatch_35 rfl rfl).trans ?_
      refine (g_iload_nH c52001 dJ11_mismatch_36 rfl).trans ?_
      refine (g_if_ltH (tgt := 42) c52001 dJ11_mismatch_37 rfl).trans (if_cg ?_ ?_)
      · skip
        refine (g_iload_nH c52001 dJ11_mismatch_42 rfl).trans ?_
        refine (g_iload_nH c52001 dJ11_mismatch_43 rfl).trans ?_
        refine (g_iconstH (x := (-1)) c52001 dJ11_mismatch_44 rfl).trans ?_
        refine (g_ixorH c52001 dJ11_mismatch_45).trans ?_
        refine (g_isubH c52001 dJ11_mismatch_46).trans ?_
        refine (g_istore_nH (L' := [v0, v1, .int i2, .int (i2 - (x5 ^^^ (-1)))]) c52001 dJ11_mismatch_47 rfl rfl).trans ?_
        rfl
      · skip
        refine (g_iload_nH c52001 dJ11_mismatch_40 rfl).trans ?_
        exact g_ireturnH c52001 dJ11_mismatch_41 rfl
    · skip
      refine (g_iconstH (x := 0) c52001 dJ11_mismatch_16 rfl).trans ?_
      exact g_ireturnH c52001 dJ11_mismatch_17 rfl
theorem F52001_48 (d : Nat) (v0 : Value) (v1 : Value) (i2 : Int32) (i3 : Int32) (h : AH) : G2 d 52001 48 [v0, v1, .int i2, .int i3] [] h = if i2 ≤ i3 then (some (.inl (some (.int (-1))), h)) else (zkR v0 (zqG h v0 [1000, 1001] i3 (fun w1 => zpI w1 (fun x2 => zkR v1 (zqG h v1 [1000, 1001] i3 (fun w3 => zpI w3 (fun x4 => if x2 = x4 then (G2 d 52001 48 [v0, v1, .int i2, .int (i3 + 1)] [] h) else (some (.inl (some (.int i3)), h))) ()) ()) ()) ()) ()) ()) := by
  refine (g_iload_nH c52001 dJ11_mismatch_48 rfl).trans ?_
  refine (g_iload_nH c52001 dJ11_mismatch_49 rfl).trans ?_
  refine (g_icmp_geH (tgt := 70) c52001 dJ11_mismatch_50 rfl).trans (if_cg ?_ ?_)
  · skip
    refine (g_iconstH (x := (-1)) c52001 dJ11_mismatch_70 rfl).trans ?_
    exact g_ireturnH c52001 dJ11_mismatch_71 rfl
  · skip
    refine (g_aload_nVH c52001 dJ11_mismatch_53 rfl).trans (ckR_cg ?_)
    refine (g_iload_nH c52001 dJ11_mismatch_54 rfl).trans ?_
    refine (g_ialoadH c52001 dJ11_mismatch_55).trans (aG_cg fun w1 => rI_cg fun x2 => ?_)
    refine (g_aload_nVH c52001 dJ11_mismatch_56 rfl).trans (ckR_cg ?_)
    refine (g_iload_nH c52001 dJ11_mismatch_57 rfl).trans ?_
    refine (g_ialoadH c52001 dJ11_mismatch_58).trans (aG_cg fun w3 => rI_cg fun x4 => ?_)
    refine (g_icmp_eqH (tgt := 64) c52001 dJ11_mismatch_59 rfl).trans (if_cg ?_ ?_)
    · skip
      refine (g_iincH (c := 1) (L' := [v0, v1, .int i2, .int (i3 + 1)]) c52001 dJ11_mismatch_64 rfl rfl rfl rfl).trans ?_
      refine (g_gotoH (tgt := 48) c52001 dJ11_mismatch_67 rfl).trans ?_
      rfl
    · skip
      refine (g_iload_nH c52001 dJ11_mismatch_62 rfl).trans ?_
      exact g_ireturnH c52001 dJ11_mismatch_63 rfl
theorem Y52001 {d : Nat} {v0 : Value} {v1 : Value} {i2 : Int32} (h : AH) (hv0 : isR v0 = true) (hv1 : isR v1 = true) : M2 (d + 1) 52001 [v0, v1, .int i2] h = G2 d 52001 0 [v0, v1, .int i2, jno] [] h := M2_eq rfl rfl rfl (by simp only [jent, jargL_R hv0, jargL_R hv1, jargL]; rfl)
/-! jdk/internal/util/ArraysSupport.vectorizedMismatch(Ljava/lang/Object;JLjava/lang/Object;JII)I -/
abbrev cJ11_vectorizedMismatch : ByteArray := prog_92_method_3_code
def dkwJ11_vectorizedMismatch_11 : List UInt8 := [54, 10, 21, 10, 2, 130, 172, 21, 10, 2, 130, 172]
abbrev dktJ11_vectorizedMismatch_11 : List UInt8 := dkwJ11_vectorizedMismatch_11 ++ []
def dkwJ11_vectorizedMismatch_10 : List UInt8 := [178, 0, 46, 21, 7, 96, 122, 54, 17, 21, 9, 21, 8, 120, 21, 17, 96, 172, 21, 10, 21, 11, 100]
abbrev dktJ11_vectorizedMismatch_10 : List UInt8 := dkwJ11_vectorizedMismatch_10 ++ dktJ11_vectorizedMismatch_11
def dkwJ11_vectorizedMismatch_9 : List UInt8 := [153, 0, 18, 21, 16, 184, 0, 58, 178, 0, 46, 21, 7, 96, 122, 167, 0, 15, 21, 16, 184, 0, 11]
abbrev dktJ11_vectorizedMismatch_9 : List UInt8 := dkwJ11_vectorizedMismatch_9 ++ dktJ11_vectorizedMismatch_10
def dkwJ11_vectorizedMismatch_8 : List UInt8 := [182, 0, 54, 54, 15, 21, 14, 21, 15, 159, 0, 54, 21, 14, 21, 15, 130, 54, 16, 178, 0, 36]
abbrev dktJ11_vectorizedMismatch_8 : List UInt8 := dkwJ11_vectorizedMismatch_8 ++ dktJ11_vectorizedMismatch_9
def dkwJ11_vectorizedMismatch_7 : List UInt8 := [55, 12, 178, 0, 26, 42, 31, 22, 12, 97, 182, 0, 54, 54, 14, 178, 0, 26, 45, 22, 4, 22, 12, 97]
abbrev dktJ11_vectorizedMismatch_7 : List UInt8 := dkwJ11_vectorizedMismatch_7 ++ dktJ11_vectorizedMismatch_8
def dkwJ11_vectorizedMismatch_6 : List UInt8 := [4, 178, 0, 51, 21, 7, 100, 120, 54, 11, 21, 10, 21, 11, 161, 0, 104, 21, 9, 133, 178, 0, 20, 121]
abbrev dktJ11_vectorizedMismatch_6 : List UInt8 := dkwJ11_vectorizedMismatch_6 ++ dktJ11_vectorizedMismatch_7
def dkwJ11_vectorizedMismatch_5 : List UInt8 := [132, 9, 1, 167, 255, 148, 21, 6, 21, 9, 21, 8, 120, 100, 54, 10, 21, 7, 178, 0, 51, 162, 0, 126]
abbrev dktJ11_vectorizedMismatch_5 : List UInt8 := dkwJ11_vectorizedMismatch_5 ++ dktJ11_vectorizedMismatch_6
def dkwJ11_vectorizedMismatch_4 : List UInt8 := [22, 16, 184, 0, 49, 178, 0, 46, 21, 7, 96, 122, 54, 18, 21, 9, 21, 8, 120, 21, 18, 96, 172]
abbrev dktJ11_vectorizedMismatch_4 : List UInt8 := dkwJ11_vectorizedMismatch_4 ++ dktJ11_vectorizedMismatch_5
def dkwJ11_vectorizedMismatch_3 : List UInt8 := [55, 16, 178, 0, 36, 153, 0, 18, 22, 16, 184, 0, 40, 178, 0, 46, 21, 7, 96, 122, 167, 0, 15]
abbrev dktJ11_vectorizedMismatch_3 : List UInt8 := dkwJ11_vectorizedMismatch_3 ++ dktJ11_vectorizedMismatch_4
def dkwJ11_vectorizedMismatch_2 : List UInt8 := [22, 4, 22, 10, 97, 182, 0, 30, 55, 14, 22, 12, 22, 14, 148, 153, 0, 54, 22, 12, 22, 14, 131]
abbrev dktJ11_vectorizedMismatch_2 : List UInt8 := dkwJ11_vectorizedMismatch_2 ++ dktJ11_vectorizedMismatch_3
def dkwJ11_vectorizedMismatch_1 : List UInt8 := [178, 0, 20, 121, 55, 10, 178, 0, 26, 42, 31, 22, 10, 97, 182, 0, 30, 55, 12, 178, 0, 26, 45]
abbrev dktJ11_vectorizedMismatch_1 : List UInt8 := dkwJ11_vectorizedMismatch_1 ++ dktJ11_vectorizedMismatch_2
def dkwJ11_vectorizedMismatch_0 : List UInt8 := [178, 0, 20, 21, 7, 100, 54, 8, 3, 54, 9, 21, 9, 21, 6, 21, 8, 122, 162, 0, 104, 21, 9, 133]
abbrev dktJ11_vectorizedMismatch_0 : List UInt8 := dkwJ11_vectorizedMismatch_0 ++ dktJ11_vectorizedMismatch_1
theorem dksJ11_vectorizedMismatch_0 : cJ11_vectorizedMismatch.data.toList.drop 0 = dktJ11_vectorizedMismatch_0 := by decide +kernel
theorem dksJ11_vectorizedMismatch_1 : cJ11_vectorizedMismatch.data.toList.drop 24 = dktJ11_vectorizedMismatch_1 := dk_seg dksJ11_vectorizedMismatch_0 24 rfl rfl
theorem dksJ11_vectorizedMismatch_2 : cJ11_vectorizedMismatch.data.toList.drop 47 = dktJ11_vectorizedMismatch_2 := dk_seg dksJ11_vectorizedMismatch_1 23 rfl rfl
theorem dksJ11_vectorizedMismatch_3 : cJ11_vectorizedMismatch.data.toList.drop 70 = dktJ11_vectorizedMismatch_3 := dk_seg dksJ11_vectorizedMismatch_2 23 rfl rfl
theorem dksJ11_vectorizedMismatch_4 : cJ11_vectorizedMismatch.data.toList.drop 93 = dktJ11_vectorizedMismatch_4 := dk_seg dksJ11_vectorizedMismatch_3 23 rfl rfl
theorem dksJ11_vectorizedMismatch_5 : cJ11_vectorizedMismatch.data.toList.drop 116 = dktJ11_vectorizedMismatch_5 := dk_seg dksJ11_vectorizedMismatch_4 23 rfl rfl
theorem dksJ11_vectorizedMismatch_6 : cJ11_vectorizedMismatch.data.toList.drop 140 = dktJ11_vectorizedMismatch_6 := dk_seg dksJ11_vectorizedMismatch_5 24 rfl rfl
theorem dksJ11_vectorizedMismatch_7 : cJ11_vectorizedMismatch.data.toList.drop 164 = dktJ11_vectorizedMismatch_7 := dk_seg dksJ11_vectorizedMismatch_6 24 rfl rfl
theorem dksJ11_vectorizedMismatch_8 : cJ11_vectorizedMismatch.data.toList.drop 188 = dktJ11_vectorizedMismatch_8 := dk_seg dksJ11_vectorizedMismatch_7 24 rfl rfl
theorem dksJ11_vectorizedMismatch_9 : cJ11_vectorizedMismatch.data.toList.drop 210 = dktJ11_vectorizedMismatch_9 := dk_seg dksJ11_vectorizedMismatch_8 22 rfl rfl
theorem dksJ11_vectorizedMismatch_10 : cJ11_vectorizedMismatch.data.toList.drop 233 = dktJ11_vectorizedMismatch_10 := dk_seg dksJ11_vectorizedMismatch_9 23 rfl rfl
theorem dksJ11_vectorizedMismatch_11 : cJ11_vectorizedMismatch.data.toList.drop 256 = dktJ11_vectorizedMismatch_11 := dk_seg dksJ11_vectorizedMismatch_10 23 rfl rfl
theorem dJ11_vectorizedMismatch_0 : decode cJ11_vectorizedMismatch 0 = .ok (.getstatic 20, 3) := dk_178 0 20 (dk_at dksJ11_vectorizedMismatch_0 0 rfl rfl)
theorem dJ11_vectorizedMismatch_3 : decode cJ11_vectorizedMismatch 3 = .ok (.iload 7, 2) := dk_21 7 (dk_at dksJ11_vectorizedMismatch_0 3 rfl rfl)
theorem dJ11_vectorizedMismatch_5 : decode cJ11_vectorizedMismatch 5 = .ok (.isub, 1) := dk_100 (dk_at dksJ11_vectorizedMismatch_0 5 rfl rfl)
theorem dJ11_vectorizedMismatch_6 : decode cJ11_vectorizedMismatch 6 = .ok (.istore 8, 2) := dk_54 8 (dk_at dksJ11_vectorizedMismatch_0 6 rfl rfl)
theorem dJ11_vectorizedMismatch_8 : decode cJ11_vectorizedMismatch 8 = .ok (.iconst 0, 1) := dk_3 (dk_at dksJ11_vectorizedMismatch_0 8 rfl rfl)
theorem dJ11_vectorizedMismatch_9 : decode cJ11_vectorizedMismatch 9 = .ok (.istore 9, 2) := dk_54 9 (dk_at dksJ11_vectorizedMismatch_0 9 rfl rfl)
theorem dJ11_vectorizedMismatch_11 : decode cJ11_vectorizedMismatch 11 = .ok (.iload 9, 2) := dk_21 9 (dk_at dksJ11_vectorizedMismatch_0 11 rfl rfl)
theorem dJ11_vectorizedMismatch_13 : decode cJ11_vectorizedMismatch 13 = .ok (.iload 6, 2) := dk_21 6 (dk_at dksJ11_vectorizedMismatch_0 13 rfl rfl)
theorem dJ11_vectorizedMismatch_15 : decode cJ11_vectorizedMismatch 15 = .ok (.iload 8, 2) := dk_21 8 (dk_at dksJ11_vectorizedMismatch_0 15 rfl rfl)
theorem dJ11_vectorizedMismatch_17 : decode cJ11_vectorizedMismatch 17 = .ok (.ishr, 1) := dk_122 (dk_at dksJ11_vectorizedMismatch_0 17 rfl rfl)
theorem dJ11_vectorizedMismatch_18 : decode cJ11_vectorizedMismatch 18 = .ok (.if_icmp .ge 104, 3) := dk_162 0 104 (dk_at dksJ11_vectorizedMismatch_0 18 rfl rfl)
theorem dJ11_vectorizedMismatch_21 : decode cJ11_vectorizedMismatch 21 = .ok (.iload 9, 2) := dk_21 9 (dk_at dksJ11_vectorizedMismatch_0 21 rfl rfl)
theorem dJ11_vectorizedMismatch_23 : decode cJ11_vectorizedMismatch 23 = .ok (.i2l, 1) := dk_133 (dk_at dksJ11_vectorizedMismatch_0 23 rfl rfl)
theorem dJ11_vectorizedMismatch_24 : decode cJ11_vectorizedMismatch 24 = .ok (.getstatic 20, 3) := dk_178 0 20 (dk_at dksJ11_vectorizedMismatch_1 0 rfl rfl)
theorem dJ11_vectorizedMismatch_27 : decode cJ11_vectorizedMismatch 27 = .ok (.lshl, 1) := dk_121 (dk_at dksJ11_vectorizedMismatch_1 3 rfl rfl)
theorem dJ11_vectorizedMismatch_28 : decode cJ11_vectorizedMismatch 28 = .ok (.lstore 10, 2) := dk_55 10 (dk_at dksJ11_vectorizedMismatch_1 4 rfl rfl)
theorem dJ11_vectorizedMismatch_30 : decode cJ11_vectorizedMismatch 30 = .ok (.getstatic 26, 3) := dk_178 0 26 (dk_at dksJ11_vectorizedMismatch_1 6 rfl rfl)
theorem dJ11_vectorizedMismatch_33 : decode cJ11_vectorizedMismatch 33 = .ok (.aload_n 0, 1) := dk_42 (dk_at dksJ11_vectorizedMismatch_1 9 rfl rfl)
theorem dJ11_vectorizedMismatch_34 : decode cJ11_vectorizedMismatch 34 = .ok (.lload_n 1, 1) := dk_31 (dk_at dksJ11_vectorizedMismatch_1 10 rfl rfl)
theorem dJ11_vectorizedMismatch_35 : decode cJ11_vectorizedMismatch 35 = .ok (.lload 10, 2) := dk_22 10 (dk_at dksJ11_vectorizedMismatch_1 11 rfl rfl)
theorem dJ11_vectorizedMismatch_37 : decode cJ11_vectorizedMismatch 37 = .ok (.ladd, 1) := dk_97 (dk_at dksJ11_vectorizedMismatch_1 13 rfl rfl)
theorem dJ11_vectorizedMismatch_38 : decode cJ11_vectorizedMismatch 38 = .ok (.invokevirtual 30, 3) := dk_182 0 30 (dk_at dksJ11_vectorizedMismatch_1 14 rfl rfl)
theorem dJ11_vectorizedMismatch_41 : decode cJ11_vectorizedMismatch 41 = .ok (.lstore 12, 2) := dk_55 12 (dk_at dksJ11_vectorizedMismatch_1 17 rfl rfl)
theorem dJ11_vectorizedMismatch_43 : decode cJ11_vectorizedMismatch 43 = .ok (.getstatic 26, 3) := dk_178 0 26 (dk_at dksJ11_vectorizedMismatch_1 19 rfl rfl)
theorem dJ11_vectorizedMismatch_46 : decode cJ11_vectorizedMismatch 46 = .ok (.aload_n 3, 1) := dk_45 (dk_at dksJ11_vectorizedMismatch_1 22 rfl rfl)
theorem dJ11_vectorizedMismatch_47 : decode cJ11_vectorizedMismatch 47 = .ok (.lload 4, 2) := dk_22 4 (dk_at dksJ11_vectorizedMismatch_2 0 rfl rfl)
theorem dJ11_vectorizedMismatch_49 : decode cJ11_vectorizedMismatch 49 = .ok (.lload 10, 2) := dk_22 10 (dk_at dksJ11_vectorizedMismatch_2 2 rfl rfl)
theorem dJ11_vectorizedMismatch_51 : decode cJ11_vectorizedMismatch 51 = .ok (.ladd, 1) := dk_97 (dk_at dksJ11_vectorizedMismatch_2 4 rfl rfl)
theorem dJ11_vectorizedMismatch_52 : decode cJ11_vectorizedMismatch 52 = .ok (.invokevirtual 30, 3) := dk_182 0 30 (dk_at dksJ11_vectorizedMismatch_2 5 rfl rfl)
theorem dJ11_vectorizedMismatch_55 : decode cJ11_vectorizedMismatch 55 = .ok (.lstore 14, 2) := dk_55 14 (dk_at dksJ11_vectorizedMismatch_2 8 rfl rfl)
theorem dJ11_vectorizedMismatch_57 : decode cJ11_vectorizedMismatch 57 = .ok (.lload 12, 2) := dk_22 12 (dk_at dksJ11_vectorizedMismatch_2 10 rfl rfl)
theorem dJ11_vectorizedMismatch_59 : decode cJ11_vectorizedMismatch 59 = .ok (.lload 14, 2) := dk_22 14 (dk_at dksJ11_vectorizedMismatch_2 12 rfl rfl)
theorem dJ11_vectorizedMismatch_61 : decode cJ11_vectorizedMismatch 61 = .ok (.lcmp, 1) := dk_148 (dk_at dksJ11_vectorizedMismatch_2 14 rfl rfl)
theorem dJ11_vectorizedMismatch_62 : decode cJ11_vectorizedMismatch 62 = .ok (.ifCond .eq 54, 3) := dk_153 0 54 (dk_at dksJ11_vectorizedMismatch_2 15 rfl rfl)
theorem dJ11_vectorizedMismatch_65 : decode cJ11_vectorizedMismatch 65 = .ok (.lload 12, 2) := dk_22 12 (dk_at dksJ11_vectorizedMismatch_2 18 rfl rfl)
theorem dJ11_vectorizedMismatch_67 : decode cJ11_vectorizedMismatch 67 = .ok (.lload 14, 2) := dk_22 14 (dk_at dksJ11_vectorizedMismatch_2 20 rfl rfl)
theorem dJ11_vectorizedMismatch_69 : decode cJ11_vectorizedMismatch 69 = .ok (.lxor, 1) := dk_131 (dk_at dksJ11_vectorizedMismatch_2 22 rfl rfl)
theorem dJ11_vectorizedMismatch_70 : decode cJ11_vectorizedMismatch 70 = .ok (.lstore 16, 2) := dk_55 16 (dk_at dksJ11_vectorizedMismatch_3 0 rfl rfl)
theorem dJ11_vectorizedMismatch_72 : decode cJ11_vectorizedMismatch 72 = .ok (.getstatic 36, 3) := dk_178 0 36 (dk_at dksJ11_vectorizedMismatch_3 2 rfl rfl)
theorem dJ11_vectorizedMismatch_75 : decode cJ11_vectorizedMismatch 75 = .ok (.ifCond .eq 18, 3) := dk_153 0 18 (dk_at dksJ11_vectorizedMismatch_3 5 rfl rfl)
theorem dJ11_vectorizedMismatch_78 : decode cJ11_vectorizedMismatch 78 = .ok (.lload 16, 2) := dk_22 16 (dk_at dksJ11_vectorizedMismatch_3 8 rfl rfl)
theorem dJ11_vectorizedMismatch_80 : decode cJ11_vectorizedMismatch 80 = .ok (.invokestatic 40, 3) := dk_184 0 40 (dk_at dksJ11_vectorizedMismatch_3 10 rfl rfl)
theorem dJ11_vectorizedMismatch_83 : decode cJ11_vectorizedMismatch 83 = .ok (.getstatic 46, 3) := dk_178 0 46 (dk_at dksJ11_vectorizedMismatch_3 13 rfl rfl)
theorem dJ11_vectorizedMismatch_86 : decode cJ11_vectorizedMismatch 86 = .ok (.iload 7, 2) := dk_21 7 (dk_at dksJ11_vectorizedMismatch_3 16 rfl rfl)
theorem dJ11_vectorizedMismatch_88 : decode cJ11_vectorizedMismatch 88 = .ok (.iadd, 1) := dk_96 (dk_at dksJ11_vectorizedMismatch_3 18 rfl rfl)
theorem dJ11_vectorizedMismatch_89 : decode cJ11_vectorizedMismatch 89 = .ok (.ishr, 1) := dk_122 (dk_at dksJ11_vectorizedMismatch_3 19 rfl rfl)
theorem dJ11_vectorizedMismatch_90 : decode cJ11_vectorizedMismatch 90 = .ok (.goto 15, 3) := dk_167 0 15 (dk_at dksJ11_vectorizedMismatch_3 20 rfl rfl)
theorem dJ11_vectorizedMismatch_93 : decode cJ11_vectorizedMismatch 93 = .ok (.lload 16, 2) := dk_22 16 (dk_at dksJ11_vectorizedMismatch_4 0 rfl rfl)
theorem dJ11_vectorizedMismatch_95 : decode cJ11_vectorizedMismatch 95 = .ok (.invokestatic 49, 3) := dk_184 0 49 (dk_at dksJ11_vectorizedMismatch_4 2 rfl rfl)
theorem dJ11_vectorizedMismatch_98 : decode cJ11_vectorizedMismatch 98 = .ok (.getstatic 46, 3) := dk_178 0 46 (dk_at dksJ11_vectorizedMismatch_4 5 rfl rfl)
theorem dJ11_vectorizedMismatch_101 : decode cJ11_vectorizedMismatch 101 = .ok (.iload 7, 2) := dk_21 7 (dk_at dksJ11_vectorizedMismatch_4 8 rfl rfl)
theorem dJ11_vectorizedMismatch_103 : decode cJ11_vectorizedMismatch 103 = .ok (.iadd, 1) := dk_96 (dk_at dksJ11_vectorizedMismatch_4 10 rfl rfl)
theorem dJ11_vectorizedMismatch_104 : decode cJ11_vectorizedMismatch 104 = .ok (.ishr, 1) := dk_122 (dk_at dksJ11_vectorizedMismatch_4 11 rfl rfl)
theorem dJ11_vectorizedMismatch_105 : decode cJ11_vectorizedMismatch 105 = .ok (.istore 18, 2) := dk_54 18 (dk_at dksJ11_vectorizedMismatch_4 12 rfl rfl)
theorem dJ11_vectorizedMismatch_107 : decode cJ11_vectorizedMismatch 107 = .ok (.iload 9, 2) := dk_21 9 (dk_at dksJ11_vectorizedMismatch_4 14 rfl rfl)
theorem dJ11_vectorizedMismatch_109 : decode cJ11_vectorizedMismatch 109 = .ok (.iload 8, 2) := dk_21 8 (dk_at dksJ11_vectorizedMismatch_4 16 rfl rfl)
theorem dJ11_vectorizedMismatch_111 : decode cJ11_vectorizedMismatch 111 = .ok (.ishl, 1) := dk_120 (dk_at dksJ11_vectorizedMismatch_4 18 rfl rfl)
theorem dJ11_vectorizedMismatch_112 : decode cJ11_vectorizedMismatch 112 = .ok (.iload 18, 2) := dk_21 18 (dk_at dksJ11_vectorizedMismatch_4 19 rfl rfl)
theorem dJ11_vectorizedMismatch_114 : decode cJ11_vectorizedMismatch 114 = .ok (.iadd, 1) := dk_96 (dk_at dksJ11_vectorizedMismatch_4 21 rfl rfl)
theorem dJ11_vectorizedMismatch_115 : decode cJ11_vectorizedMismatch 115 = .ok (.ireturn, 1) := dk_172 (dk_at dksJ11_vectorizedMismatch_4 22 rfl rfl)
theorem dJ11_vectorizedMismatch_116 : decode cJ11_vectorizedMismatch 116 = .ok (.iinc 9 1, 3) := dk_132 9 1 (dk_at dksJ11_vectorizedMismatch_5 0 rfl rfl)
theorem dJ11_vectorizedMismatch_119 : decode cJ11_vectorizedMismatch 119 = .ok (.goto (-108), 3) := dk_167 255 148 (dk_at dksJ11_vectorizedMismatch_5 3 rfl rfl)
theorem dJ11_vectorizedMismatch_122 : decode cJ11_vectorizedMismatch 122 = .ok (.iload 6, 2) := dk_21 6 (dk_at dksJ11_vectorizedMismatch_5 6 rfl rfl)
theorem dJ11_vectorizedMismatch_124 : decode cJ11_vectorizedMismatch 124 = .ok (.iload 9, 2) := dk_21 9 (dk_at dksJ11_vectorizedMismatch_5 8 rfl rfl)
theorem dJ11_vectorizedMismatch_126 : decode cJ11_vectorizedMismatch 126 = .ok (.iload 8, 2) := dk_21 8 (dk_at dksJ11_vectorizedMismatch_5 10 rfl rfl)
theorem dJ11_vectorizedMismatch_128 : decode cJ11_vectorizedMismatch 128 = .ok (.ishl, 1) := dk_120 (dk_at dksJ11_vectorizedMismatch_5 12 rfl rfl)
theorem dJ11_vectorizedMismatch_129 : decode cJ11_vectorizedMismatch 129 = .ok (.isub, 1) := dk_100 (dk_at dksJ11_vectorizedMismatch_5 13 rfl rfl)
theorem dJ11_vectorizedMismatch_130 : decode cJ11_vectorizedMismatch 130 = .ok (.istore 10, 2) := dk_54 10 (dk_at dksJ11_vectorizedMismatch_5 14 rfl rfl)
theorem dJ11_vectorizedMismatch_132 : decode cJ11_vectorizedMismatch 132 = .ok (.iload 7, 2) := dk_21 7 (dk_at dksJ11_vectorizedMismatch_5 16 rfl rfl)
theorem dJ11_vectorizedMismatch_134 : decode cJ11_vectorizedMismatch 134 = .ok (.getstatic 51, 3) := dk_178 0 51 (dk_at dksJ11_vectorizedMismatch_5 18 rfl rfl)
theorem dJ11_vectorizedMismatch_137 : decode cJ11_vectorizedMismatch 137 = .ok (.if_icmp .ge 126, 3) := dk_162 0 126 (dk_at dksJ11_vectorizedMismatch_5 21 rfl rfl)
theorem dJ11_vectorizedMismatch_140 : decode cJ11_vectorizedMismatch 140 = .ok (.iconst 1, 1) := dk_4 (dk_at dksJ11_vectorizedMismatch_6 0 rfl rfl)
theorem dJ11_vectorizedMismatch_141 : decode cJ11_vectorizedMismatch 141 = .ok (.getstatic 51, 3) := dk_178 0 51 (dk_at dksJ11_vectorizedMismatch_6 1 rfl rfl)
theorem dJ11_vectorizedMismatch_144 : decode cJ11_vectorizedMismatch 144 = .ok (.iload 7, 2) := dk_21 7 (dk_at dksJ11_vectorizedMismatch_6 4 rfl rfl)
theorem dJ11_vectorizedMismatch_146 : decode cJ11_vectorizedMismatch 146 = .ok (.isub, 1) := dk_100 (dk_at dksJ11_vectorizedMismatch_6 6 rfl rfl)
theorem dJ11_vectorizedMismatch_147 : decode cJ11_vectorizedMismatch 147 = .ok (.ishl, 1) := dk_120 (dk_at dksJ11_vectorizedMismatch_6 7 rfl rfl)
theorem dJ11_vectorizedMismatch_148 : decode cJ11_vectorizedMismatch 148 = .ok (.istore 11, 2) := dk_54 11 (dk_at dksJ11_vectorizedMismatch_6 8 rfl rfl)
theorem dJ11_vectorizedMismatch_150 : decode cJ11_vectorizedMismatch 150 = .ok (.iload 10, 2) := dk_21 10 (dk_at dksJ11_vectorizedMismatch_6 10 rfl rfl)
theorem dJ11_vectorizedMismatch_152 : decode cJ11_vectorizedMismatch 152 = .ok (.iload 11, 2) := dk_21 11 (dk_at dksJ11_vectorizedMismatch_6 12 rfl rfl)
theorem dJ11_vectorizedMismatch_154 : decode cJ11_vectorizedMismatch 154 = .ok (.if_icmp .lt 104, 3) := dk_161 0 104 (dk_at dksJ11_vectorizedMismatch_6 14 rfl rfl)
theorem dJ11_vectorizedMismatch_157 : decode cJ11_vectorizedMismatch 157 = .ok (.iload 9, 2) := dk_21 9 (dk_at dksJ11_vectorizedMismatch_6 17 rfl rfl)
theorem dJ11_vectorizedMismatch_159 : decode cJ11_vectorizedMismatch 159 = .ok (.i2l, 1) := dk_133 (dk_at dksJ11_vectorizedMismatch_6 19 rfl rfl)
theorem dJ11_vectorizedMismatch_160 : decode cJ11_vectorizedMismatch 160 = .ok (.getstatic 20, 3) := dk_178 0 20 (dk_at dksJ11_vectorizedMismatch_6 20 rfl rfl)
theorem dJ11_vectorizedMismatch_163 : decode cJ11_vectorizedMismatch 163 = .ok (.lshl, 1) := dk_121 (dk_at dksJ11_vectorizedMismatch_6 23 rfl rfl)
theorem dJ11_vectorizedMismatch_164 : decode cJ11_vectorizedMismatch 164 = .ok (.lstore 12, 2) := dk_55 12 (dk_at dksJ11_vectorizedMismatch_7 0 rfl rfl)
theorem dJ11_vectorizedMismatch_166 : decode cJ11_vectorizedMismatch 166 = .ok (.getstatic 26, 3) := dk_178 0 26 (dk_at dksJ11_vectorizedMismatch_7 2 rfl rfl)
theorem dJ11_vectorizedMismatch_169 : decode cJ11_vectorizedMismatch 169 = .ok (.aload_n 0, 1) := dk_42 (dk_at dksJ11_vectorizedMismatch_7 5 rfl rfl)
theorem dJ11_vectorizedMismatch_170 : decode cJ11_vectorizedMismatch 170 = .ok (.lload_n 1, 1) := dk_31 (dk_at dksJ11_vectorizedMismatch_7 6 rfl rfl)
theorem dJ11_vectorizedMismatch_171 : decode cJ11_vectorizedMismatch 171 = .ok (.lload 12, 2) := dk_22 12 (dk_at dksJ11_vectorizedMismatch_7 7 rfl rfl)
theorem dJ11_vectorizedMismatch_173 : decode cJ11_vectorizedMismatch 173 = .ok (.ladd, 1) := dk_97 (dk_at dksJ11_vectorizedMismatch_7 9 rfl rfl)
theorem dJ11_vectorizedMismatch_174 : decode cJ11_vectorizedMismatch 174 = .ok (.invokevirtual 54, 3) := dk_182 0 54 (dk_at dksJ11_vectorizedMismatch_7 10 rfl rfl)
theorem dJ11_vectorizedMismatch_177 : decode cJ11_vectorizedMismatch 177 = .ok (.istore 14, 2) := dk_54 14 (dk_at dksJ11_vectorizedMismatch_7 13 rfl rfl)
theorem dJ11_vectorizedMismatch_179 : decode cJ11_vectorizedMismatch 179 = .ok (.getstatic 26, 3) := dk_178 0 26 (dk_at dksJ11_vectorizedMismatch_7 15 rfl rfl)
theorem dJ11_vectorizedMismatch_182 : decode cJ11_vectorizedMismatch 182 = .ok (.aload_n 3, 1) := dk_45 (dk_at dksJ11_vectorizedMismatch_7 18 rfl rfl)
theorem dJ11_vectorizedMismatch_183 : decode cJ11_vectorizedMismatch 183 = .ok (.lload 4, 2) := dk_22 4 (dk_at dksJ11_vectorizedMismatch_7 19 rfl rfl)
theorem dJ11_vectorizedMismatch_185 : decode cJ11_vectorizedMismatch 185 = .ok (.lload 12, 2) := dk_22 12 (dk_at dksJ11_vectorizedMismatch_7 21 rfl rfl)
theorem dJ11_vectorizedMismatch_187 : decode cJ11_vectorizedMismatch 187 = .ok (.ladd, 1) := dk_97 (dk_at dksJ11_vectorizedMismatch_7 23 rfl rfl)
theorem dJ11_vectorizedMismatch_188 : decode cJ11_vectorizedMismatch 188 = .ok (.invokevirtual 54, 3) := dk_182 0 54 (dk_at dksJ11_vectorizedMismatch_8 0 rfl rfl)
theorem dJ11_vectorizedMismatch_191 : decode cJ11_vectorizedMismatch 191 = .ok (.istore 15, 2) := dk_54 15 (dk_at dksJ11_vectorizedMismatch_8 3 rfl rfl)
theorem dJ11_vectorizedMismatch_193 : decode cJ11_vectorizedMismatch 193 = .ok (.iload 14, 2) := dk_21 14 (dk_at dksJ11_vectorizedMismatch_8 5 rfl rfl)
theorem dJ11_vectorizedMismatch_195 : decode cJ11_vectorizedMismatch 195 = .ok (.iload 15, 2) := dk_21 15 (dk_at dksJ11_vectorizedMismatch_8 7 rfl rfl)
theorem dJ11_vectorizedMismatch_197 : decode cJ11_vectorizedMismatch 197 = .ok (.if_icmp .eq 54, 3) := dk_159 0 54 (dk_at dksJ11_vectorizedMismatch_8 9 rfl rfl)
theorem dJ11_vectorizedMismatch_200 : decode cJ11_vectorizedMismatch 200 = .ok (.iload 14, 2) := dk_21 14 (dk_at dksJ11_vectorizedMismatch_8 12 rfl rfl)
theorem dJ11_vectorizedMismatch_202 : decode cJ11_vectorizedMismatch 202 = .ok (.iload 15, 2) := dk_21 15 (dk_at dksJ11_vectorizedMismatch_8 14 rfl rfl)
theorem dJ11_vectorizedMismatch_204 : decode cJ11_vectorizedMismatch 204 = .ok (.ixor, 1) := dk_130 (dk_at dksJ11_vectorizedMismatch_8 16 rfl rfl)
theorem dJ11_vectorizedMismatch_205 : decode cJ11_vectorizedMismatch 205 = .ok (.istore 16, 2) := dk_54 16 (dk_at dksJ11_vectorizedMismatch_8 17 rfl rfl)
theorem dJ11_vectorizedMismatch_207 : decode cJ11_vectorizedMismatch 207 = .ok (.getstatic 36, 3) := dk_178 0 36 (dk_at dksJ11_vectorizedMismatch_8 19 rfl rfl)
theorem dJ11_vectorizedMismatch_210 : decode cJ11_vectorizedMismatch 210 = .ok (.ifCond .eq 18, 3) := dk_153 0 18 (dk_at dksJ11_vectorizedMismatch_9 0 rfl rfl)
theorem dJ11_vectorizedMismatch_213 : decode cJ11_vectorizedMismatch 213 = .ok (.iload 16, 2) := dk_21 16 (dk_at dksJ11_vectorizedMismatch_9 3 rfl rfl)
theorem dJ11_vectorizedMismatch_215 : decode cJ11_vectorizedMismatch 215 = .ok (.invokestatic 58, 3) := dk_184 0 58 (dk_at dksJ11_vectorizedMismatch_9 5 rfl rfl)
theorem dJ11_vectorizedMismatch_218 : decode cJ11_vectorizedMismatch 218 = .ok (.getstatic 46, 3) := dk_178 0 46 (dk_at dksJ11_vectorizedMismatch_9 8 rfl rfl)
theorem dJ11_vectorizedMismatch_221 : decode cJ11_vectorizedMismatch 221 = .ok (.iload 7, 2) := dk_21 7 (dk_at dksJ11_vectorizedMismatch_9 11 rfl rfl)
theorem dJ11_vectorizedMismatch_223 : decode cJ11_vectorizedMismatch 223 = .ok (.iadd, 1) := dk_96 (dk_at dksJ11_vectorizedMismatch_9 13 rfl rfl)
theorem dJ11_vectorizedMismatch_224 : decode cJ11_vectorizedMismatch 224 = .ok (.ishr, 1) := dk_122 (dk_at dksJ11_vectorizedMismatch_9 14 rfl rfl)
theorem dJ11_vectorizedMismatch_225 : decode cJ11_vectorizedMismatch 225 = .ok (.goto 15, 3) := dk_167 0 15 (dk_at dksJ11_vectorizedMismatch_9 15 rfl rfl)
theorem dJ11_vectorizedMismatch_228 : decode cJ11_vectorizedMismatch 228 = .ok (.iload 16, 2) := dk_21 16 (dk_at dksJ11_vectorizedMismatch_9 18 rfl rfl)
theorem dJ11_vectorizedMismatch_230 : decode cJ11_vectorizedMismatch 230 = .ok (.invokestatic 11, 3) := dk_184 0 11 (dk_at dksJ11_vectorizedMismatch_9 20 rfl rfl)
theorem dJ11_vectorizedMismatch_233 : decode cJ11_vectorizedMismatch 233 = .ok (.getstatic 46, 3) := dk_178 0 46 (dk_at dksJ11_vectorizedMismatch_10 0 rfl rfl)
theorem dJ11_vectorizedMismatch_236 : decode cJ11_vectorizedMismatch 236 = .ok (.iload 7, 2) := dk_21 7 (dk_at dksJ11_vectorizedMismatch_10 3 rfl rfl)
theorem dJ11_vectorizedMismatch_238 : decode cJ11_vectorizedMismatch 238 = .ok (.iadd, 1) := dk_96 (dk_at dksJ11_vectorizedMismatch_10 5 rfl rfl)
theorem dJ11_vectorizedMismatch_239 : decode cJ11_vectorizedMismatch 239 = .ok (.ishr, 1) := dk_122 (dk_at dksJ11_vectorizedMismatch_10 6 rfl rfl)
theorem dJ11_vectorizedMismatch_240 : decode cJ11_vectorizedMismatch 240 = .ok (.istore 17, 2) := dk_54 17 (dk_at dksJ11_vectorizedMismatch_10 7 rfl rfl)
theorem dJ11_vectorizedMismatch_242 : decode cJ11_vectorizedMismatch 242 = .ok (.iload 9, 2) := dk_21 9 (dk_at dksJ11_vectorizedMismatch_10 9 rfl rfl)
theorem dJ11_vectorizedMismatch_244 : decode cJ11_vectorizedMismatch 244 = .ok (.iload 8, 2) := dk_21 8 (dk_at dksJ11_vectorizedMismatch_10 11 rfl rfl)
theorem dJ11_vectorizedMismatch_246 : decode cJ11_vectorizedMismatch 246 = .ok (.ishl, 1) := dk_120 (dk_at dksJ11_vectorizedMismatch_10 13 rfl rfl)
theorem dJ11_vectorizedMismatch_247 : decode cJ11_vectorizedMismatch 247 = .ok (.iload 17, 2) := dk_21 17 (dk_at dksJ11_vectorizedMismatch_10 14 rfl rfl)
theorem dJ11_vectorizedMismatch_249 : decode cJ11_vectorizedMismatch 249 = .ok (.iadd, 1) := dk_96 (dk_at dksJ11_vectorizedMismatch_10 16 rfl rfl)
theorem dJ11_vectorizedMismatch_250 : decode cJ11_vectorizedMismatch 250 = .ok (.ireturn, 1) := dk_172 (dk_at dksJ11_vectorizedMismatch_10 17 rfl rfl)
theorem dJ11_vectorizedMismatch_251 : decode cJ11_vectorizedMismatch 251 = .ok (.iload 10, 2) := dk_21 10 (dk_at dksJ11_vectorizedMismatch_10 18 rfl rfl)
theorem dJ11_vectorizedMismatch_253 : decode cJ11_vectorizedMismatch 253 = .ok (.iload 11, 2) := dk_21 11 (dk_at dksJ11_vectorizedMismatch_10 20 rfl rfl)
theorem dJ11_vectorizedMismatch_255 : decode cJ11_vectorizedMismatch 255 = .ok (.isub, 1) := dk_100 (dk_at dksJ11_vectorizedMismatch_10 22 rfl rfl)
theorem dJ11_vectorizedMismatch_256 : decode cJ11_vectorizedMismatch 256 = .ok (.istore 10, 2) := dk_54 10 (dk_at dksJ11_vectorizedMismatch_11 0 rfl rfl)
theorem dJ11_vectorizedMismatch_258 : decode cJ11_vectorizedMismatch 258 = .ok (.iload 10, 2) := dk_21 10 (dk_at dksJ11_vectorizedMismatch_11 2 rfl rfl)
theorem dJ11_vectorizedMismatch_260 : decode cJ11_vectorizedMismatch 260 = .ok (.iconst (-1), 1) := dk_2 (dk_at dksJ11_vectorizedMismatch_11 4 rfl rfl)
theorem dJ11_vectorizedMismatch_261 : decode cJ11_vectorizedMismatch 261 = .ok (.ixor, 1) := dk_130 (dk_at dksJ11_vectorizedMismatch_11 5 rfl rfl)
theorem dJ11_vectorizedMismatch_262 : decode cJ11_vectorizedMismatch 262 = .ok (.ireturn, 1) := dk_172 (dk_at dksJ11_vectorizedMismatch_11 6 rfl rfl)
theorem dJ11_vectorizedMismatch_263 : decode cJ11_vectorizedMismatch 263 = .ok (.iload 10, 2) := dk_21 10 (dk_at dksJ11_vectorizedMismatch_11 7 rfl rfl)
theorem dJ11_vectorizedMismatch_265 : decode cJ11_vectorizedMismatch 265 = .ok (.iconst (-1), 1) := dk_2 (dk_at dksJ11_vectorizedMismatch_11 9 rfl rfl)
theorem dJ11_vectorizedMismatch_266 : decode cJ11_vectorizedMismatch 266 = .ok (.ixor, 1) := dk_130 (dk_at dksJ11_vectorizedMismatch_11 10 rfl rfl)
theorem dJ11_vectorizedMismatch_267 : decode cJ11_vectorizedMismatch 267 = .ok (.ireturn, 1) := dk_172 (dk_at dksJ11_vectorizedMismatch_11 11 rfl rfl)
theorem c52004 : jtCode 52004 = cJ11_vectorizedMismatch := rfl
theorem F52004_0 (d : Nat) (v0 : Value) (j1 : Int64) (v3 : Value) (j4 : Int64) (i6 : Int32) (i7 : Int32) (h : AH) : G2 d 52004 0 [v0, .long j1, jhalf, v3, .long j4, jhalf, .int i6, .int i7, jno, jno, jno, jno, jno, jno, jno, jno, jno, jno, jno] [] h = G2 d 52004 11 [v0, .long j1, jhalf, v3, .long j4, jhalf, .int i6, .int i7, .int (3 - i7), .int 0, jno, jno, jno, jno, jno, jno, jno, jno, jno] [] h := by
  refine (g_getsIH (x := 3) c52004 dJ11_vectorizedMismatch_0 rfl rfl).trans ?_
  refine (g_iloadH c52004 dJ11_vectorizedMismatch_3 rfl).trans ?_
  refine (g_isubH c52004 dJ11_vectorizedMismatch_5).trans ?_
  refine (g_istoreH (L' := [v0, .long j1, jhalf, v3, .long j4, jhalf, .int i6, .int i7, .int (3 - i7), jno, jno, jno, jno, jno, jno, jno, jno, jno, jno]) c52004 dJ11_vectorizedMismatch_6 rfl rfl).trans ?_
  refine (g_iconstH (x := 0) c52004 dJ11_vectorizedMismatch_8 rfl).trans ?_
  refine (g_istoreH (L' := [v0, .long j1, jhalf, v3, .long j4, jhalf, .int i6, .int i7, .int (3 - i7), .int 0, jno, jno, jno, jno, jno, jno, jno, jno, jno]) c52004 dJ11_vectorizedMismatch_9 rfl rfl).trans ?_
  rfl
theorem F52004_11 (d : Nat) (v0 : Value) (j1 : Int64) (v3 : Value) (j4 : Int64) (i6 : Int32) (i7 : Int32) (i8 : Int32) (i9 : Int32) (v10 : Value) (v11 : Value) (v12 : Value) (v13 : Value) (v14 : Value) (v15 : Value) (h : AH) : G2 d 52004 11 [v0, .long j1, jhalf, v3, .long j4, jhalf, .int i6, .int i7, .int i8, .int i9, v10, v11, v12, v13, v14, v15, jno, jno, jno] [] h = if (i6 >>> (i8 &&& 31)) ≤ i9 then (if 2 ≤ i7 then (some (.inl (some (.int ((i6 - (i9 <<< (i8 &&& 31))) ^^^ (-1)))), h)) else (if (i6 - (i9 <<< (i8 &&& 31))) < ((1 : Int32) <<< ((2 - i7) &&& 31)) then (some (.inl (some (.int ((i6 - (i9 <<< (i8 &&& 31))) ^^^ (-1)))), h)) else (zpR (je h 5) (fun r1 => zkR v0 (zcI (M2 d 59000 [r1, v0, .long (j1 + (((i9).toInt64) <<< ((3 : Int32).toInt64 &&& 63)))] h) (fun x2 h3 => zpR (je h3 5) (fun r4 => zkR v3 (zcI (M2 d 59000 [r4, v3, .long (j4 + (((i9).toInt64) <<< ((3 : Int32).toInt64 &&& 63)))] h3) (fun x5 h6 => if x2 = x5 then (some (.inl (some (.int (((i6 - (i9 <<< (i8 &&& 31))) - ((1 : Int32) <<< ((2 - i7) &&& 31))) ^^^ (-1)))), h6)) else (if (0 : Int32) = 0 then (zcI (M2 d 62007 [.int (x2 ^^^ x5)] h6) (fun x7 h8 => some (.inl (some (.int ((i9 <<< (i8 &&& 31)) + (x7 >>> ((3 + i7) &&& 31))))), h8)) ()) else (zcI (M2 d 62006 [.int (x2 ^^^ x5)] h6) (fun x9 h10 => some (.inl (some (.int ((i9 <<< (i8 &&& 31)) + (x9 >>> ((3 + i7) &&& 31))))), h10)) ()))) ()) ()) ()) ()) ()) ()))) else (zpR (je h 5) (fun r11 => zkR v0 (zcJ (M2 d 59001 [r11, v0, .long (j1 + (((i9).toInt64) <<< ((3 : Int32).toInt64 &&& 63)))] h) (fun x12 h13 => zpR (je h13 5) (fun r14 => zkR v3 (zcJ (M2 d 59001 [r14, v3, .long (j4 + (((i9).toInt64) <<< ((3 : Int32).toInt64 &&& 63)))] h13) (fun x15 h16 => if (lcm x12 x15) = 0 then (G2 d 52004 11 [v0, .long j1, jhalf, v3, .long j4, jhalf, .int i6, .int i7, .int i8, .int (i9 + 1), .long (((i9).toInt64) <<< ((3 : Int32).toInt64 &&& 63)), jhalf, .long x12, jhalf, .long x15, jhalf, jno, jno, jno] [] h16) else (if (0 : Int32) = 0 then (zcI (M2 d 61002 [.long (x12 ^^^ x15)] h16) (fun x17 h18 => some (.inl (some (.int ((i9 <<< (i8 &&& 31)) + (x17 >>> ((3 + i7) &&& 31))))), h18)) ()) else (zcI (M2 d 61001 [.long (x12 ^^^ x15)] h16) (fun x19 h20 => some (.inl (some (.int ((i9 <<< (i8 &&& 31)) + (x19 >>> ((3 + i7) &&& 31))))), h20)) ()))) ()) ()) ()) ()) ()) ()) := by
  refine (g_iloadH c52004 dJ11_vectorizedMismatch_11 rfl).trans ?_
  refine (g_iloadH c52004 dJ11_vectorizedMismatch_13 rfl).trans ?_
  refine (g_iloadH c52004 dJ11_vectorizedMismatch_15 rfl).trans ?_
  refine (g_ishrH c52004 dJ11_vectorizedMismatch_17).trans ?_
  refine (g_icmp_geH (tgt := 122) c52004 dJ11_vectorizedMismatch_18 rfl).trans (if_cg ?_ ?_)
  · skip
    refine (g_iloadH c52004 dJ11_vectorizedMismatch_122 rfl).trans ?_
    refine (g_iloadH c52004 dJ11_vectorizedMismatch_124 rfl).trans ?_
    refine (g_iloadH c52004 dJ11_vectorizedMismatch_126 rfl).trans ?_
    refine (g_ishlH c52004 dJ11_vectorizedMismatch_128).trans ?_
    refine (g_isubH c52004 dJ11_vectorizedMismatch_129).trans ?_
    refine (g_istoreH (L' := [v0, .long j1, jhalf, v3, .long j4, jhalf, .int i6, .int i7, .int i8, .int i9, .int (i6 - (i9 <<< (i8 &&& 31))), v11, v12, v13, v14, v15, jno, jno, jno]) c52004 dJ11_vectorizedMismatch_130 rfl rfl).trans ?_
    refine (g_iloadH c52004 dJ11_vectorizedMismatch_132 rfl).trans ?_
    refine (g_getsIH (x := 2) c52004 dJ11_vectorizedMismatch_134 rfl rfl).trans ?_
    refine (g_icmp_geH (tgt := 263) c52004 dJ11_vectorizedMismatch_137 rfl).trans (if_cg ?_ ?_)
    · skip
      refine (g_iloadH c52004 dJ11_vectorizedMismatch_263 rfl).trans ?_
      refine (g_iconstH (x := (-1)) c52004 dJ11_vectorizedMismatch_265 rfl).trans ?_
      refine (g_ixorH c52004 dJ11_vectorizedMismatch_266).trans ?_
      exact g_ireturnH c52004 dJ11_vectorizedMismatch_267 rfl
    · skip
      refine (g_iconstH (x := 1) c52004 dJ11_vectorizedMismatch_140 rfl).trans ?_
      refine (g_getsIH (x := 2) c52004 dJ11_vectorizedMismatch_141 rfl rfl).trans ?_
      refine (g_iloadH c52004 dJ11_vectorizedMismatch_144 rfl).trans ?_
      refine (g_isubH c52004 dJ11_vectorizedMismatch_146).trans ?_
      refine (g_ishlH c52004 dJ11_vectorizedMismatch_147).trans ?_
      refine (g_istoreH (L' := [v0, .long j1, jhalf, v3, .long j4, jhalf, .int i6, .int i7, .int i8, .int i9, .int (i6 - (i9 <<< (i8 &&& 31))), .int ((1 : Int32) <<< ((2 - i7) &&& 31)), v12, v13, v14, v15, jno, jno, jno]) c52004 dJ11_vectorizedMismatch_148 rfl rfl).trans ?_
      refine (g_iloadH c52004 dJ11_vectorizedMismatch_150 rfl).trans ?_
      refine (g_iloadH c52004 dJ11_vectorizedMismatch_152 rfl).trans ?_
      refine (g_icmp_ltH (tgt := 258) c52004 dJ11_vectorizedMismatch_154 rfl).trans (if_cg ?_ ?_)
      · skip
        refine (g_iloadH c52004 dJ11_vectorizedMismatch_258 rfl).trans ?_
        refine (g_iconstH (x := (-1)) c52004 dJ11_vectorizedMismatch_260 rfl).trans ?_
        refine (g_ixorH c52004 dJ11_vectorizedMismatch_261).trans ?_
        exact g_ireturnH c52004 dJ11_vectorizedMismatch_262 rfl
      · skip
        refine (g_iloadH c52004 dJ11_vectorizedMismatch_157 rfl).trans ?_
        refine (g_i2lH c52004 dJ11_vectorizedMismatch_159).trans ?_
        refine (g_getsIH (x := 3) c52004 dJ11_vectorizedMismatch_160 rfl rfl).trans ?_
        refine (g_lshlH c52004 dJ11_vectorizedMismatch_163).trans ?_
        refine (g_lstoreH (L' := [v0, .long j1, jhalf, v3, .long j4, jhalf, .int i6, .int i7, .int i8, .int i9, .int (i6 - (i9 <<< (i8 &&& 31))), .int ((1 : Int32) <<< ((2 - i7) &&& 31)), .long (((i9).toInt64) <<< ((3 : Int32).toInt64 &&& 63)), jhalf, v14, v15, jno, jno, jno]) c52004 dJ11_vectorizedMismatch_164 rfl rfl).trans ?_
        refine (g_getsRH (k := 5) c52004 dJ11_vectorizedMismatch_166 rfl rfl).trans (rR_cg fun r1 => ?_)
        refine (g_aload_nVH c52004 dJ11_vectorizedMismatch_169 rfl).trans (ckR_cg ?_)
        refine (g_lload_nH c52004 dJ11_vectorizedMismatch_170 rfl rfl).trans ?_
        refine (g_lloadH c52004 dJ11_vectorizedMismatch_171 rfl rfl).trans ?_
        refine (g_laddH c52004 dJ11_vectorizedMismatch_173).trans ?_
        refine (g_virtualH (as := [r1, v0, .long (j1 + (((i9).toInt64) <<< ((3 : Int32).toInt64 &&& 63)))]) (rest := []) c52004 dJ11_vectorizedMismatch_174 rfl rfl rfl rfl rfl).trans ((jback_IH (κx := cX) (fun e h => jthrow_outH rfl)).trans (cI_cg fun x2 h3 => ?_))
        refine (g_istoreH (L' := [v0, .long j1, jhalf, v3, .long j4, jhalf, .int i6, .int i7, .int i8, .int i9, .int (i6 - (i9 <<< (i8 &&& 31))), .int ((1 : Int32) <<< ((2 - i7) &&& 31)), .long (((i9).toInt64) <<< ((3 : Int32).toInt64 &&& 63)), jhalf, .int x2, v15, jno, jno, jno]) c52004 dJ11_vectorizedMismatch_177 rfl rfl).trans ?_
        refine (g_getsRH (k := 5) c52004 dJ11_vectorizedMismatch_179 rfl rfl).trans (rR_cg fun r4 => ?_)
        refine (g_aload_nVH c52004 dJ11_vectorizedMismatch_182 rfl).trans (ckR_cg ?_)
        refine (g_lloadH c52004 dJ11_vectorizedMismatch_183 rfl rfl).trans ?_
        refine (g_lloadH c52004 dJ11_vectorizedMismatch_185 rfl rfl).trans ?_
        refine (g_laddH c52004 dJ11_vectorizedMismatch_187).trans ?_
        refine (g_virtualH (as := [r4, v3, .long (j4 + (((i9).toInt64) <<< ((3 : Int32).toInt64 &&& 63)))]) (rest := []) c52004 dJ11_vectorizedMismatch_188 rfl rfl rfl rfl rfl).trans ((jback_IH (κx := cX) (fun e h => jthrow_outH rfl)).trans (cI_cg fun x5 h6 => ?_))
        refine (g_istoreH (L' := [v0, .long j1, jhalf, v3, .long j4, jhalf, .int i6, .int i7, .int i8, .int i9, .int (i6 - (i9 <<< (i8 &&& 31))), .int ((1 : Int32) <<< ((2 - i7) &&& 31)), .long (((i9).toInt64) <<< ((3 : Int32).toInt64 &&& 63)), jhalf, .int x2, .int x5, jno, jno, jno]) c52004 dJ11_vectorizedMismatch_191 rfl rfl).trans ?_
        refine (g_iloadH c52004 dJ11_vectorizedMismatch_193 rfl).trans ?_
        refine (g_iloadH c52004 dJ11_vectorizedMismatch_195 rfl).trans ?_
        refine (g_icmp_eqH (tgt := 251) c52004 dJ11_vectorizedMismatch_197 rfl).trans (if_cg ?_ ?_)
        · skip
          refine (g_iloadH c52004 dJ11_vectorizedMismatch_251 rfl).trans ?_
          refine (g_iloadH c52004 dJ11_vectorizedMismatch_253 rfl).trans ?_
          refine (g_isubH c52004 dJ11_vectorizedMismatch_255).trans ?_
          refine (g_istoreH (L' := [v0, .long j1, jhalf, v3, .long j4, jhalf, .int i6, .int i7, .int i8, .int i9, .int ((i6 - (i9 <<< (i8 &&& 31))) - ((1 : Int32) <<< ((2 - i7) &&& 31))), .int ((1 : Int32) <<< ((2 - i7) &&& 31)), .long (((i9).toInt64) <<< ((3 : Int32).toInt64 &&& 63)), jhalf, .int x2, .int x5, jno, jno, jno]) c52004 dJ11_vectorizedMismatch_256 rfl rfl).trans ?_
          refine (g_iloadH c52004 dJ11_vectorizedMismatch_258 rfl).trans ?_
          refine (g_iconstH (x := (-1)) c52004 dJ11_vectorizedMismatch_260 rfl).trans ?_
          refine (g_ixorH c52004 dJ11_vectorizedMismatch_261).trans ?_
          exact g_ireturnH c52004 dJ11_vectorizedMismatch_262 rfl
        · skip
          refine (g_iloadH c52004 dJ11_vectorizedMismatch_200 rfl).trans ?_
          refine (g_iloadH c52004 dJ11_vectorizedMismatch_202 rfl).trans ?_
          refine (g_ixorH c52004 dJ11_vectorizedMismatch_204).trans ?_
          refine (g_istoreH (L' := [v0, .long j1, jhalf, v3, .long j4, jhalf, .int i6, .int i7, .int i8, .int i9, .int (i6 - (i9 <<< (i8 &&& 31))), .int ((1 : Int32) <<< ((2 - i7) &&& 31)), .long (((i9).toInt64) <<< ((3 : Int32).toInt64 &&& 63)), jhalf, .int x2, .int x5, .int (x2 ^^^ x5), jno, jno]) c52004 dJ11_vectorizedMismatch_205 rfl rfl).trans ?_
          refine (g_getsIH (x := 0) c52004 dJ11_vectorizedMismatch_207 rfl rfl).trans ?_
          refine (g_if_eqH (tgt := 228) c52004 dJ11_vectorizedMismatch_210 rfl).trans (if_cg ?_ ?_)
          · skip
            refine (g_iloadH c52004 dJ11_vectorizedMismatch_228 rfl).trans ?_
            refine (g_staticH (as := [.int (x2 ^^^ x5)]) (rest := []) c52004 dJ11_vectorizedMismatch_230 rfl rfl rfl rfl rfl).trans ((jback_IH (κx := cX) (fun e h => jthrow_outH rfl)).trans (cI_cg fun x7 h8 => ?_))
            refine (g_getsIH (x := 3) c52004 dJ11_vectorizedMismatch_233 rfl rfl).trans ?_
            refine (g_iloadH c52004 dJ11_vectorizedMismatch_236 rfl).trans ?_
            refine (g_iaddH c52004 dJ11_vectorizedMismatch_238).trans ?_
            refine (g_ishrH c52004 dJ11_vectorizedMismatch_239).trans ?_
            refine (g_istoreH (L' := [v0, .long j1, jhalf, v3, .long j4, jhalf, .int i6, .int i7, .int i8, .int i9, .int (i6 - (i9 <<< (i8 &&& 31))), .int ((1 : Int32) <<< ((2 - i7) &&& 31)), .long (((i9).toInt64) <<< ((3 : Int32).toInt64 &&& 63)), jhalf, .int x2, .int x5, .int (x2 ^^^ x5), .int (x7 >>> ((3 + i7) &&& 31)), jno]) c52004 dJ11_vectorizedMismatch_240 rfl rfl).trans ?_
            refine (g_iloadH c52004 dJ11_vectorizedMismatch_242 rfl).trans ?_
            refine (g_iloadH c52004 dJ11_vectorizedMismatch_244 rfl).trans ?_
            refine (g_ishlH c52004 dJ11_vectorizedMismatch_246).trans ?_
            refine (g_iloadH c52004 dJ11_vectorizedMismatch_247 rfl).trans ?_
            refine (g_iaddH c52004 dJ11_vectorizedMismatch_249).trans ?_
            exact g_ireturnH c52004 dJ11_vectorizedMismatch_250 rfl
          · skip
            refine (g_iloadH c52004 dJ11_vectorizedMismatch_213 rfl).trans ?_
            refine (g_staticH (as := [.int (x2 ^^^ x5)]) (rest := []) c52004 dJ11_vectorizedMismatch_215 rfl rfl rfl rfl rfl).trans ((jback_IH (κx := cX) (fun e h => jthrow_outH rfl)).trans (cI_cg fun x9 h10 => ?_))
            refine (g_getsIH (x := 3) c52004 dJ11_vectorizedMismatch_218 rfl rfl).trans ?_
            refine (g_iloadH c52004 dJ11_vectorizedMismatch_221 rfl).trans ?_
            refine (g_iaddH c52004 dJ11_vectorizedMismatch_223).trans ?_
            refine (g_ishrH c52004 dJ11_vectorizedMismatch_224).trans ?_
            refine (g_gotoH (tgt := 240) c52004 dJ11_vectorizedMismatch_225 rfl).trans ?_
            refine (g_istoreH (L' := [v0, .long j1, jhalf, v3, .long j4, jhalf, .int i6, .int i7, .int i8, .int i9, .int (i6 - (i9 <<< (i8 &&& 31))), .int ((1 : Int32) <<< ((2 - i7) &&& 31)), .long (((i9).toInt64) <<< ((3 : Int32).toInt64 &&& 63)), jhalf, .int x2, .int x5, .int (x2 ^^^ x5), .int (x9 >>> ((3 + i7) &&& 31)), jno]) c52004 dJ11_vectorizedMismatch_240 rfl rfl).trans ?_
            refine (g_iloadH c52004 dJ11_vectorizedMismatch_242 rfl).trans ?_
            refine (g_iloadH c52004 dJ11_vectorizedMismatch_244 rfl).trans ?_
            refine (g_ishlH c52004 dJ11_vectorizedMismatch_246).trans ?_
            refine (g_iloadH c52004 dJ11_vectorizedMismatch_247 rfl).trans ?_
            refine (g_iaddH c52004 dJ11_vectorizedMismatch_249).trans ?_
            exact g_ireturnH c52004 dJ11_vectorizedMismatch_250 rfl
  · skip
    refine (g_iloadH c52004 dJ11_vectorizedMismatch_21 rfl).trans ?_
    refine (g_i2lH c52004 dJ11_vectorizedMismatch_23).trans ?_
    refine (g_getsIH (x := 3) c52004 dJ11_vectorizedMismatch_24 rfl rfl).trans ?_
    refine (g_lshlH c52004 dJ11_vectorizedMismatch_27).trans ?_
    refine (g_lstoreH (L' := [v0, .long j1, jhalf, v3, .long j4, jhalf, .int i6, .int i7, .int i8, .int i9, .long (((i9).toInt64) <<< ((3 : Int32).toInt64 &&& 63)), jhalf, v12, v13, v14, v15, jno, jno, jno]) c52004 dJ11_vectorizedMismatch_28 rfl rfl).trans ?_
    refine (g_getsRH (k := 5) c52004 dJ11_vectorizedMismatch_30 rfl rfl).trans (rR_cg fun r11 => ?_)
    refine (g_aload_nVH c52004 dJ11_vectorizedMismatch_33 rfl).trans (ckR_cg ?_)
    refine (g_lload_nH c52004 dJ11_vectorizedMismatch_34 rfl rfl).trans ?_
    refine (g_lloadH c52004 dJ11_vectorizedMismatch_35 rfl rfl).trans ?_
    refine (g_laddH c52004 dJ11_vectorizedMismatch_37).trans ?_
    refine (g_virtualH (as := [r11, v0, .long (j1 + (((i9).toInt64) <<< ((3 : Int32).toInt64 &&& 63)))]) (rest := []) c52004 dJ11_vectorizedMismatch_38 rfl rfl rfl rfl rfl).trans ((jback_JH (κx := cX) (fun e h => jthrow_outH rfl)).trans (cJ_cg fun x12 h13 => ?_))
    refine (g_lstoreH (L' := [v0, .long j1, jhalf, v3, .long j4, jhalf, .int i6, .int i7, .int i8, .int i9, .long (((i9).toInt64) <<< ((3 : Int32).toInt64 &&& 63)), jhalf, .long x12, jhalf, v14, v15, jno, jno, jno]) c52004 dJ11_vectorizedMismatch_41 rfl rfl).trans ?_
    refine (g_getsRH (k := 5) c52004 dJ11_vectorizedMismatch_43 rfl rfl).trans (rR_cg fun r14 => ?_)
    refine (g_aload_nVH c52004 dJ11_vectorizedMismatch_46 rfl).trans (ckR_cg ?_)
    refine (g_lloadH c52004 dJ11_vectorizedMismatch_47 rfl rfl).trans ?_
    refine (g_lloadH c52004 dJ11_vectorizedMismatch_49 rfl rfl).trans ?_
    refine (g_laddH c52004 dJ11_vectorizedMismatch_51).trans ?_
    refine (g_virtualH (as := [r14, v3, .long (j4 + (((i9).toInt64) <<< ((3 : Int32).toInt64 &&& 63)))]) (rest := []) c52004 dJ11_vectorizedMismatch_52 rfl rfl rfl rfl rfl).trans ((jback_JH (κx := cX) (fun e h => jthrow_outH rfl)).trans (cJ_cg fun x15 h16 => ?_))
    refine (g_lstoreH (L' := [v0, .long j1, jhalf, v3, .long j4, jhalf, .int i6, .int i7, .int i8, .int i9, .long (((i9).toInt64) <<< ((3 : Int32).toInt64 &&& 63)), jhalf, .long x12, jhalf, .long x15, jhalf, jno, jno, jno]) c52004 dJ11_vectorizedMismatch_55 rfl rfl).trans ?_
    refine (g_lloadH c52004 dJ11_vectorizedMismatch_57 rfl rfl).trans ?_
    refine (g_lloadH c52004 dJ11_vectorizedMismatch_59 rfl rfl).trans ?_
    refine (g_lcmpH c52004 dJ11_vectorizedMismatch_61).trans ?_
    refine (g_if_eqH (tgt := 116) c52004 dJ11_vectorizedMismatch_62 rfl).trans (if_cg ?_ ?_)
    · skip
      refine (g_iincH (c := 1) (L' := [v0, .long j1, jhalf, v3, .long j4, jhalf, .int i6, .int i7, .int i8, .int (i9 + 1), .long (((i9).toInt64) <<< ((3 : Int32).toInt64 &&& 63)), jhalf, .long x12, jhalf, .long x15, jhalf, jno, jno, jno]) c52004 dJ11_vectorizedMismatch_116 rfl rfl rfl rfl).trans ?_
      refine (g_gotoH (tgt := 11) c52004 dJ11_vectorizedMismatch_119 rfl).trans ?_
      rfl
    · skip
      refine (g_lloadH c52004 dJ11_vectorizedMismatch_65 rfl rfl).trans ?_
      refine (g_lloadH c52004 dJ11_vectorizedMismatch_67 rfl rfl).trans ?_
      refine (g_lxorH c52004 dJ11_vectorizedMismatch_69).trans ?_
      refine (g_lstoreH (L' := [v0, .long j1, jhalf, v3, .long j4, jhalf, .int i6, .int i7, .int i8, .int i9, .long (((i9).toInt64) <<< ((3 : Int32).toInt64 &&& 63)), jhalf, .long x12, jhalf, .long x15, jhalf, .long (x12 ^^^ x15), jhalf, jno]) c52004 dJ11_vectorizedMismatch_70 rfl rfl).trans ?_
      refine (g_getsIH (x := 0) c52004 dJ11_vectorizedMismatch_72 rfl rfl).trans ?_
      refine (g_if_eqH (tgt := 93) c52004 dJ11_vectorizedMismatch_75 rfl).trans (if_cg ?_ ?_)
      · skip
        refine (g_lloadH c52004 dJ11_vectorizedMismatch_93 rfl rfl).trans ?_
        refine (g_staticH (as := [.long (x12 ^^^ x15)]) (rest := []) c52004 dJ11_vectorizedMismatch_95 rfl rfl rfl rfl rfl).trans ((jback_IH (κx := cX) (fun e h => jthrow_outH rfl)).trans (cI_cg fun x17 h18 => ?_))
        refine (g_getsIH (x := 3) c52004 dJ11_vectorizedMismatch_98 rfl rfl).trans ?_
        refine (g_iloadH c52004 dJ11_vectorizedMismatch_101 rfl).trans ?_
        refine (g_iaddH c52004 dJ11_vectorizedMismatch_103).trans ?_
        refine (g_ishrH c52004 dJ11_vectorizedMismatch_104).trans ?_
        refine (g_istoreH (L' := [v0, .long j1, jhalf, v3, .long j4, jhalf, .int i6, .int i7, .int i8, .int i9, .long (((i9).toInt64) <<< ((3 : Int32).toInt64 &&& 63)), jhalf, .long x12, jhalf, .long x15, jhalf, .long (x12 ^^^ x15), jhalf, .int (x17 >>> ((3 + i7) &&& 31))]) c52004 dJ11_vectorizedMismatch_105 rfl rfl).trans ?_
        refine (g_iloadH c52004 dJ11_vectorizedMismatch_107 rfl).trans ?_
        refine (g_iloadH c52004 dJ11_vectorizedMismatch_109 rfl).trans ?_
        refine (g_ishlH c52004 dJ11_vectorizedMismatch_111).trans ?_
        refine (g_iloadH c52004 dJ11_vectorizedMismatch_112 rfl).trans ?_
        refine (g_iaddH c52004 dJ11_vectorizedMismatch_114).trans ?_
        exact g_ireturnH c52004 dJ11_vectorizedMismatch_115 rfl
      · skip
        refine (g_lloadH c52004 dJ11_vectorizedMismatch_78 rfl rfl).trans ?_
        refine (g_staticH (as := [.long (x12 ^^^ x15)]) (rest := []) c52004 dJ11_vectorizedMismatch_80 rfl rfl rfl rfl rfl).trans ((jback_IH (κx := cX) (fun e h => jthrow_outH rfl)).trans (cI_cg fun x19 h20 => ?_))
        refine (g_getsIH (x := 3) c52004 dJ11_vectorizedMismatch_83 rfl rfl).trans ?_
        refine (g_iloadH c52004 dJ11_vectorizedMismatch_86 rfl).trans ?_
        refine (g_iaddH c52004 dJ11_vectorizedMismatch_88).trans ?_
        refine (g_ishrH c52004 dJ11_vectorizedMismatch_89).trans ?_
        refine (g_gotoH (tgt := 105) c52004 dJ11_vectorizedMismatch_90 rfl).trans ?_
        refine (g_istoreH (L' := [v0, .long j1, jhalf, v3, .long j4, jhalf, .int i6, .int i7, .int i8, .int i9, .long (((i9).toInt64) <<< ((3 : Int32).toInt64 &&& 63)), jhalf, .long x12, jhalf, .long x15, jhalf, .long (x12 ^^^ x15), jhalf, .int (x19 >>> ((3 + i7) &&& 31))]) c52004 dJ11_vectorizedMismatch_105 rfl rfl).trans ?_
        refine (g_iloadH c52004 dJ11_vectorizedMismatch_107 rfl).trans ?_
        refine (g_iloadH c52004 dJ11_vectorizedMismatch_109 rfl).trans ?_
        refine (g_ishlH c52004 dJ11_vectorizedMismatch_111).trans ?_
        refine (g_iloadH c52004 dJ11_vectorizedMismatch_112 rfl).trans ?_
        refine (g_iaddH c52004 dJ11_vectorizedMismatch_114).trans ?_
        exact g_ireturnH c52004 dJ11_vectorizedMismatch_115 rfl
theorem Y52004 {d : Nat} {v0 : Value} {j1 : Int64} {v3 : Value} {j4 : Int64} {i6 : Int32} {i7 : Int32} (h : AH) (hv0 : isR v0 = true) (hv3 : isR v3 = true) : M2 (d + 1) 52004 [v0, .long j1, v3, .long j4, .int i6, .int i7] h = G2 d 52004 0 [v0, .long j1, jhalf, v3, .long j4, jhalf, .int i6, .int i7, jno, jno, jno, jno, jno, jno, jno, jno, jno, jno, jno] [] h := M2_eq rfl rfl rfl (by simp only [jent, jargL_R hv0, jargL_R hv3, jargL]; rfl)
/-! java/lang/Math.min(II)I -/
theorem F53001_0 (d : Nat) (i0 : Int32) (i1 : Int32) (h : AH) : G2 d 53001 0 [.int i0, .int i1] [] h = if i1 < i0 then (some (.inl (some (.int i1)), h)) else (some (.inl (some (.int i0)), h)) := by
  refine (g_iload_nH c53001 dJ12_min_0 rfl).trans ?_
  refine (g_iload_nH c53001 dJ12_min_1 rfl).trans ?_
  refine (g_icmp_gtH (tgt := 9) c53001 dJ12_min_2 rfl).trans (if_cg ?_ ?_)
  · skip
    refine (g_iload_nH c53001 dJ12_min_9 rfl).trans ?_
    exact g_ireturnH c53001 dJ12_min_10 rfl
  · skip
    refine (g_iload_nH c53001 dJ12_min_5 rfl).trans ?_
    refine (g_gotoH (tgt := 10) c53001 dJ12_min_6 rfl).trans ?_
    exact g_ireturnH c53001 dJ12_min_10 rfl
theorem Y53001 {d : Nat} {i0 : Int32} {i1 : Int32} (h : AH) : M2 (d + 1) 53001 [.int i0, .int i1] h = G2 d 53001 0 [.int i0, .int i1] [] h := M2_eq rfl rfl rfl rfl
/-! java/lang/StringLatin1.charAt([BI)C -/
abbrev cJ13_charAt : ByteArray := prog_53_method_2_code
def dkwJ13_charAt_0 : List UInt8 := [27, 42, 190, 184, 0, 9, 42, 27, 51, 17, 0, 255, 126, 146, 172]
abbrev dktJ13_charAt_0 : List UInt8 := dkwJ13_charAt_0 ++ []
theorem dksJ13_charAt_0 : cJ13_charAt.data.toList.drop 0 = dktJ13_charAt_0 := by decide +kernel
theorem dJ13_charAt_0 : decode cJ13_charAt 0 = .ok (.iload_n 1, 1) := dk_27 (dk_at dksJ13_charAt_0 0 rfl rfl)
theorem dJ13_charAt_1 : decode cJ13_charAt 1 = .ok (.aload_n 0, 1) := dk_42 (dk_at dksJ13_charAt_0 1 rfl rfl)
theorem dJ13_charAt_2 : decode cJ13_charAt 2 = .ok (.arraylength, 1) := dk_190 (dk_at dksJ13_charAt_0 2 rfl rfl)
theorem dJ13_charAt_3 : decode cJ13_charAt 3 = .ok (.invokestatic 9, 3) := dk_184 0 9 (dk_at dksJ13_charAt_0 3 rfl rfl)
theorem dJ13_charAt_6 : decode cJ13_charAt 6 = .ok (.aload_n 0, 1) := dk_42 (dk_at dksJ13_charAt_0 6 rfl rfl)
theorem dJ13_charAt_7 : decode cJ13_charAt 7 = .ok (.iload_n 1, 1) := dk_27 (dk_at dksJ13_charAt_0 7 rfl rfl)
theorem dJ13_charAt_8 : decode cJ13_charAt 8 = .ok (.baload, 1) := dk_51 (dk_at dksJ13_charAt_0 8 rfl rfl)
theorem dJ13_charAt_9 : decode cJ13_charAt 9 = .ok (.sipush 255, 3) := dk_17 0 255 (dk_at dksJ13_charAt_0 9 rfl rfl)
theorem dJ13_charAt_12 : decode cJ13_charAt 12 = .ok (.iand, 1) := dk_126 (dk_at dksJ13_charAt_0 12 rfl rfl)
theorem dJ13_charAt_13 : decode cJ13_charAt 13 = .ok (.i2c, 1) := dk_146 (dk_at dksJ13_charAt_0 13 rfl rfl)
theorem dJ13_charAt_14 : decode cJ13_charAt 14 = .ok (.ireturn, 1) := dk_172 (dk_at dksJ13_charAt_0 14 rfl rfl)
theorem c54001 : jtCode 54001 = cJ13_charAt := rfl
theorem F54001_0 (d : Nat) (v0 : Value) (i1 : Int32) (h : AH) : G2 d 54001 0 [v0, .int i1] [] h = zkR v0 (zqL h v0 (fun x1 => zcV (M2 d 50003 [.int i1, .int x1] h) (fun h3 => zkR v0 (zqG h3 v0 [1010, 1011, 1020] i1 (fun w4 => zpI w4 (fun x5 => okC (((((x5 &&& 255)).toUInt32 % 65536).toInt32)) (some (.inl (some (.int (((((x5 &&& 255)).toUInt32 % 65536).toInt32)))), h3))) ()) ()) ()) ()) ()) () := by
  refine (g_iload_nH c54001 dJ13_charAt_0 rfl).trans ?_
  refine (g_aload_nVH c54001 dJ13_charAt_1 rfl).trans (ckR_cg ?_)
  refine (g_alenH c54001 dJ13_charAt_2).trans (aL_cg fun x1 => ?_)
  refine (g_staticH (as := [.int i1, .int x1]) (rest := []) c54001 dJ13_charAt_3 rfl rfl rfl rfl rfl).trans ((jback_VH (κx := cX) (fun e h => jthrow_outH rfl)).trans (cV_cg fun h3 => ?_))
  refine (g_aload_nVH c54001 dJ13_charAt_6 rfl).trans (ckR_cg ?_)
  refine (g_iload_nH c54001 dJ13_charAt_7 rfl).trans ?_
  refine (g_baloadH c54001 dJ13_charAt_8).trans (aG_cg fun w4 => rI_cg fun x5 => ?_)
  refine (g_sipushH (x := 255) c54001 dJ13_charAt_9 rfl).trans ?_
  refine (g_iandH c54001 dJ13_charAt_12).trans ?_
  refine (g_i2cH c54001 dJ13_charAt_13).trans ?_
  exact g_creturnH c54001 dJ13_charAt_14 rfl
theorem Y54001 {d : Nat} {v0 : Value} {i1 : Int32} (h : AH) (hv0 : isR v0 = true) : M2 (d + 1) 54001 [v0, .int i1] h = G2 d 54001 0 [v0, .int i1] [] h := M2_eq rfl rfl rfl (by simp only [jent, jargL_R hv0, jargL]; rfl)
/-! java/lang/StringLatin1.getChar([BI)C -/
abbrev cJ13_getChar : ByteArray := prog_53_method_44_code
def dkwJ13_getChar_0 : List UInt8 := [42, 27, 51, 17, 0, 255, 126, 146, 172]
abbrev dktJ13_getChar_0 : List UInt8 := dkwJ13_getChar_0 ++ []
theorem dksJ13_getChar_0 : cJ13_getChar.data.toList.drop 0 = dktJ13_getChar_0 := by decide +kernel
theorem dJ13_getChar_0 : decode cJ13_getChar 0 = .ok (.aload_n 0, 1) := dk_42 (dk_at dksJ13_getChar_0 0 rfl rfl)
theorem dJ13_getChar_1 : decode cJ13_getChar 1 = .ok (.iload_n 1, 1) := dk_27 (dk_at dksJ13_getChar_0 1 rfl rfl)
theorem dJ13_getChar_2 : decode cJ13_getChar 2 = .ok (.baload, 1) := dk_51 (dk_at dksJ13_getChar_0 2 rfl rfl)
theorem dJ13_getChar_3 : decode cJ13_getChar 3 = .ok (.sipush 255, 3) := dk_17 0 255 (dk_at dksJ13_getChar_0 3 rfl rfl)
theorem dJ13_getChar_6 : decode cJ13_getChar 6 = .ok (.iand, 1) := dk_126 (dk_at dksJ13_getChar_0 6 rfl rfl)
theorem dJ13_getChar_7 : decode cJ13_getChar 7 = .ok (.i2c, 1) := dk_146 (dk_at dksJ13_getChar_0 7 rfl rfl)
theorem dJ13_getChar_8 : decode cJ13_getChar 8 = .ok (.ireturn, 1) := dk_172 (dk_at dksJ13_getChar_0 8 rfl rfl)
theorem c54008 : jtCode 54008 = cJ13_getChar := rfl
theorem F54008_0 (d : Nat) (v0 : Value) (i1 : Int32) (h : AH) : G2 d 54008 0 [v0, .int i1] [] h = zkR v0 (zqG h v0 [1010, 1011, 1020] i1 (fun w1 => zpI w1 (fun x2 => okC (((((x2 &&& 255)).toUInt32 % 65536).toInt32)) (some (.inl (some (.int (((((x2 &&& 255)).toUInt32 % 65536).toInt32)))), h))) ()) ()) () := by
  refine (g_aload_nVH c54008 dJ13_getChar_0 rfl).trans (ckR_cg ?_)
  refine (g_iload_nH c54008 dJ13_getChar_1 rfl).trans ?_
  refine (g_baloadH c54008 dJ13_getChar_2).trans (aG_cg fun w1 => rI_cg fun x2 => ?_)
  refine (g_sipushH (x := 255) c54008 dJ13_getChar_3 rfl).trans ?_
  refine (g_iandH c54008 dJ13_getChar_6).trans ?_
  refine (g_i2cH c54008 dJ13_getChar_7).trans ?_
  exact g_creturnH c54008 dJ13_getChar_8 rfl
theorem Y54008 {d : Nat} {v0 : Value} {i1 : Int32} (h : AH) (hv0 : isR v0 = true) : M2 (d + 1) 54008 [v0, .int i1] h = G2 d 54008 0 [v0, .int i1] [] h := M2_eq rfl rfl rfl (by simp only [jent, jargL_R hv0, jargL]; rfl)
/-! java/lang/StringLatin1.indexOf([B[B)I -/
abbrev cJ13_indexOf : ByteArray := prog_53_method_24_code
def dkwJ13_indexOf_1 : List UInt8 := [172]
abbrev dktJ13_indexOf_1 : List UInt8 := dkwJ13_indexOf_1 ++ []
def dkwJ13_indexOf_0 : List UInt8 := [43, 190, 154, 0, 5, 3, 172, 42, 190, 154, 0, 5, 2, 172, 42, 42, 190, 43, 43, 190, 3, 184, 0, 99]
abbrev dktJ13_indexOf_0 : List UInt8 := dkwJ13_indexOf_0 ++ dktJ13_indexOf_1
theorem dksJ13_indexOf_0 : cJ13_indexOf.data.toList.drop 0 = dktJ13_indexOf_0 := by decide +kernel
theorem dksJ13_indexOf_1 : cJ13_indexOf.data.toList.drop 24 = dktJ13_indexOf_1 := dk_seg dksJ13_indexOf_0 24 rfl rfl
theorem dJ13_indexOf_0 : decode cJ13_indexOf 0 = .ok (.aload_n 1, 1) := dk_43 (dk_at dksJ13_indexOf_0 0 rfl rfl)
theorem dJ13_indexOf_1 : decode cJ13_indexOf 1 = .ok (.arraylength, 1) := dk_190 (dk_at dksJ13_indexOf_0 1 rfl rfl)
theorem dJ13_indexOf_2 : decode cJ13_indexOf 2 = .ok (.ifCond .ne 5, 3) := dk_154 0 5 (dk_at dksJ13_indexOf_0 2 rfl rfl)
theorem dJ13_indexOf_5 : decode cJ13_indexOf 5 = .ok (.iconst 0, 1) := dk_3 (dk_at dksJ13_indexOf_0 5 rfl rfl)
theorem dJ13_indexOf_6 : decode cJ13_indexOf 6 = .ok (.ireturn, 1) := dk_172 (dk_at dksJ13_indexOf_0 6 rfl rfl)
theorem dJ13_indexOf_7 : decode cJ13_indexOf 7 = .ok (.aload_n 0, 1) := dk_42 (dk_at dksJ13_indexOf_0 7 rfl rfl)
theorem dJ13_indexOf_8 : decode cJ13_indexOf 8 = .ok (.arraylength, 1) := dk_190 (dk_at dksJ13_indexOf_0 8 rfl rfl)
theorem dJ13_indexOf_9 : decode cJ13_indexOf 9 = .ok (.ifCond .ne 5, 3) := dk_154 0 5 (dk_at dksJ13_indexOf_0 9 rfl rfl)
theorem dJ13_indexOf_12 : decode cJ13_indexOf 12 = .ok (.iconst (-1), 1) := dk_2 (dk_at dksJ13_indexOf_0 12 rfl rfl)
theorem dJ13_indexOf_13 : decode cJ13_indexOf 13 = .ok (.ireturn, 1) := dk_172 (dk_at dksJ13_indexOf_0 13 rfl rfl)
theorem dJ13_indexOf_14 : decode cJ13_indexOf 14 = .ok (.aload_n 0, 1) := dk_42 (dk_at dksJ13_indexOf_0 14 rfl rfl)
theorem dJ13_indexOf_15 : decode cJ13_indexOf 15 = .ok (.aload_n 0, 1) := dk_42 (dk_at dksJ13_indexOf_0 15 rfl rfl)
theorem dJ13_indexOf_16 : decode cJ13_indexOf 16 = .ok (.arraylength, 1) := dk_190 (dk_at dksJ13_indexOf_0 16 rfl rfl)
theorem dJ13_indexOf_17 : decode cJ13_indexOf 17 = .ok (.aload_n 1, 1) := dk_43 (dk_at dksJ13_indexOf_0 17 rfl rfl)
theorem dJ13_indexOf_18 : decode cJ13_indexOf 18 = .ok (.aload_n 1, 1) := dk_43 (dk_at dksJ13_indexOf_0 18 rfl rfl)
theorem dJ13_indexOf_19 : decode cJ13_indexOf 19 = .ok (.arraylength, 1) := dk_190 (dk_at dksJ13_indexOf_0 19 rfl rfl)
theorem dJ13_indexOf_20 : decode cJ13_indexOf 20 = .ok (.iconst 0, 1) := dk_3 (dk_at dksJ13_indexOf_0 20 rfl rfl)
theorem dJ13_indexOf_21 : decode cJ13_indexOf 21 = .ok (.invokestatic 99, 3) := dk_184 0 99 (dk_at dksJ13_indexOf_0 21 rfl rfl)
theorem dJ13_indexOf_24 : decode cJ13_indexOf 24 = .ok (.ireturn, 1) := dk_172 (dk_at dksJ13_indexOf_1 0 rfl rfl)
theorem c54009 : jtCode 54009 = cJ13_indexOf := rfl
theorem F54009_0 (d : Nat) (v0 : Value) (v1 : Value) (h : AH) : G2 d 54009 0 [v0, v1] [] h = zkR v1 (zqL h v1 (fun x1 => if x1 = 0 then (some (.inl (some (.int 0)), h)) else (zkR v0 (zqL h v0 (fun x2 => if x2 = 0 then (some (.inl (some (.int (-1))), h)) else (zkR v0 (zkR v0 (zqL h v0 (fun x3 => zkR v1 (zkR v1 (zqL h v1 (fun x4 => zcI (M2 d 54010 [v0, .int x3, v1, .int x4, .int 0] h) (fun x5 h6 => some (.inl (some (.int x5)), h6)) ()) ()) ()) ()) ()) ()) ())) ()) ())) ()) () := by
  refine (g_aload_nVH c54009 dJ13_indexOf_0 rfl).trans (ckR_cg ?_)
  refine (g_alenH c54009 dJ13_indexOf_1).trans (aL_cg fun x1 => ?_)
  refine (g_if_neH (tgt := 7) c54009 dJ13_indexOf_2 rfl).trans (if_cg ?_ ?_)
  · skip
    refine (g_iconstH (x := 0) c54009 dJ13_indexOf_5 rfl).trans ?_
    exact g_ireturnH c54009 dJ13_indexOf_6 rfl
  · skip
    refine (g_aload_nVH c54009 dJ13_indexOf_7 rfl).trans (ckR_cg ?_)
    refine (g_alenH c54009 dJ13_indexOf_8).trans (aL_cg fun x2 => ?_)
    refine (g_if_neH (tgt := 14) c54009 dJ13_indexOf_9 rfl).trans (if_cg ?_ ?_)
    · skip
      refine (g_iconstH (x := (-1)) c54009 dJ13_indexOf_12 rfl).trans ?_
      exact g_ireturnH c54009 dJ13_indexOf_13 rfl
    · skip
      refine (g_aload_nVH c54009 dJ13_indexOf_14 rfl).trans (ckR_cg ?_)
      refine (g_aload_nVH c54009 dJ13_indexOf_15 rfl).trans (ckR_cg ?_)
      refine (g_alenH c54009 dJ13_indexOf_16).trans (aL_cg fun x3 => ?_)
      refine (g_aload_nVH c54009 dJ13_indexOf_17 rfl).trans (ckR_cg ?_)
      refine (g_aload_nVH c54009 dJ13_indexOf_18 rfl).trans (ckR_cg ?_)
      refine (g_alenH c54009 dJ13_indexOf_19).trans (aL_cg fun x4 => ?_)
      refine (g_iconstH (x := 0) c54009 dJ13_indexOf_20 rfl).trans ?_
      refine (g_staticH (as := [v0, .int x3, v1, .int x4, .int 0]) (rest := []) c54009 dJ13_indexOf_21 rfl rfl rfl rfl rfl).trans ((jback_IH (κx := cX) (fun e h => jthrow_outH rfl)).trans (cI_cg fun x5 h6 => ?_))
      exact g_ireturnH c54009 dJ13_indexOf_24 rfl
theorem Y54009 {d : Nat} {v0 : Value} {v1 : Value} (h : AH) (hv0 : isR v0 = true) (hv1 : isR v1 = true) : M2 (d + 1) 54009 [v0, v1] h = G2 d 54009 0 [v0, v1] [] h := M2_eq rfl rfl rfl (by simp only [jent, jargL_R hv0, jargL_R hv1, jargL]; rfl)
/-! java/lang/StringLatin1.indexOf([BI[BII)I -/
abbrev cJ13_indexOf_2 : ByteArray := prog_53_method_25_code
def dkwJ13_indexOf_2_5 : List UInt8 := [167, 255, 154, 2, 172]
abbrev dktJ13_indexOf_2_5 : List UInt8 := dkwJ13_indexOf_2_5 ++ []
def dkwJ13_indexOf_2_4 : List UInt8 := [132, 8, 1, 132, 10, 1, 167, 255, 232, 21, 8, 21, 9, 160, 0, 6, 21, 7, 172, 132, 7, 1]
abbrev dktJ13_indexOf_2_4 : List UInt8 := dkwJ13_indexOf_2_4 ++ dktJ13_indexOf_2_5
def dkwJ13_indexOf_2_3 : List UInt8 := [100, 54, 9, 4, 54, 10, 21, 8, 21, 9, 162, 0, 23, 42, 21, 8, 51, 44, 21, 10, 51, 160, 0, 12]
abbrev dktJ13_indexOf_2_3 : List UInt8 := dkwJ13_indexOf_2_3 ++ dktJ13_indexOf_2_4
def dkwJ13_indexOf_2_2 : List UInt8 := [159, 0, 6, 167, 255, 237, 21, 7, 21, 6, 163, 0, 57, 21, 7, 4, 96, 54, 8, 21, 8, 29, 96, 4]
abbrev dktJ13_indexOf_2_2 : List UInt8 := dkwJ13_indexOf_2_2 ++ dktJ13_indexOf_2_3
def dkwJ13_indexOf_2_1 : List UInt8 := [51, 21, 5, 159, 0, 25, 132, 7, 1, 21, 7, 21, 6, 163, 0, 15, 42, 21, 7, 51, 21, 5]
abbrev dktJ13_indexOf_2_1 : List UInt8 := dkwJ13_indexOf_2_1 ++ dktJ13_indexOf_2_2
def dkwJ13_indexOf_2_0 : List UInt8 := [44, 3, 51, 54, 5, 27, 29, 100, 54, 6, 21, 4, 54, 7, 21, 7, 21, 6, 163, 0, 101, 42, 21, 7]
abbrev dktJ13_indexOf_2_0 : List UInt8 := dkwJ13_indexOf_2_0 ++ dktJ13_indexOf_2_1
theorem dksJ13_indexOf_2_0 : cJ13_indexOf_2.data.toList.drop 0 = dktJ13_indexOf_2_0 := by decide +kernel
theorem dksJ13_indexOf_2_1 : cJ13_indexOf_2.data.toList.drop 24 = dktJ13_indexOf_2_1 := dk_seg dksJ13_indexOf_2_0 24 rfl rfl
theorem dksJ13_indexOf_2_2 : cJ13_indexOf_2.data.toList.drop 46 = dktJ13_indexOf_2_2 := dk_seg dksJ13_indexOf_2_1 22 rfl rfl
theorem dksJ13_indexOf_2_3 : cJ13_indexOf_2.data.toList.drop 70 = dktJ13_indexOf_2_3 := dk_seg dksJ13_indexOf_2_2 24 rfl rfl
theorem dksJ13_indexOf_2_4 : cJ13_indexOf_2.data.toList.drop 94 = dktJ13_indexOf_2_4 := dk_seg dksJ13_indexOf_2_3 24 rfl rfl
theorem dksJ13_indexOf_2_5 : cJ13_indexOf_2.data.toList.drop 116 = dktJ13_indexOf_2_5 := dk_seg dksJ13_indexOf_2_4 22 rfl rfl
theorem dJ13_indexOf_2_0 : decode cJ13_indexOf_2 0 = .ok (.aload_n 2, 1) := dk_44 (dk_at dksJ13_indexOf_2_0 0 rfl rfl)
theorem dJ13_indexOf_2_1 : decode cJ13_indexOf_2 1 = .ok (.iconst 0, 1) := dk_3 (dk_at dksJ13_indexOf_2_0 1 rfl rfl)
theorem dJ13_indexOf_2_2 : decode cJ13_indexOf_2 2 = .ok (.baload, 1) := dk_51 (dk_at dksJ13_indexOf_2_0 2 rfl rfl)
theorem dJ13_indexOf_2_3 : decode cJ13_indexOf_2 3 = .ok (.istore 5, 2) := dk_54 5 (dk_at dksJ13_indexOf_2_0 3 rfl rfl)
theorem dJ13_indexOf_2_5 : decode cJ13_indexOf_2 5 = .ok (.iload_n 1, 1) := dk_27 (dk_at dksJ13_indexOf_2_0 5 rfl rfl)
theorem dJ13_indexOf_2_6 : decode cJ13_indexOf_2 6 = .ok (.iload_n 3, 1) := dk_29 (dk_at dksJ13_indexOf_2_0 6 rfl rfl)
theorem dJ13_indexOf_2_7 : decode cJ13_indexOf_2 7 = .ok (.isub, 1) := dk_100 (dk_at dksJ13_indexOf_2_0 7 rfl rfl)
theorem dJ13_indexOf_2_8 : decode cJ13_indexOf_2 8 = .ok (.istore 6, 2) := dk_54 6 (dk_at dksJ13_indexOf_2_0 8 rfl rfl)
theorem dJ13_indexOf_2_10 : decode cJ13_indexOf_2 10 = .ok (.iload 4, 2) := dk_21 4 (dk_at dksJ13_indexOf_2_0 10 rfl rfl)
theorem dJ13_indexOf_2_12 : decode cJ13_indexOf_2 12 = .ok (.istore 7, 2) := dk_54 7 (dk_at dksJ13_indexOf_2_0 12 rfl rfl)
theorem dJ13_indexOf_2_14 : decode cJ13_indexOf_2 14 = .ok (.iload 7, 2) := dk_21 7 (dk_at dksJ13_indexOf_2_0 14 rfl rfl)
theorem dJ13_indexOf_2_16 : decode cJ13_indexOf_2 16 = .ok (.iload 6, 2) := dk_21 6 (dk_at dksJ13_indexOf_2_0 16 rfl rfl)
theorem dJ13_indexOf_2_18 : decode cJ13_indexOf_2 18 = .ok (.if_icmp .gt 101, 3) := dk_163 0 101 (dk_at dksJ13_indexOf_2_0 18 rfl rfl)
theorem dJ13_indexOf_2_21 : decode cJ13_indexOf_2 21 = .ok (.aload_n 0, 1) := dk_42 (dk_at dksJ13_indexOf_2_0 21 rfl rfl)
theorem dJ13_indexOf_2_22 : decode cJ13_indexOf_2 22 = .ok (.iload 7, 2) := dk_21 7 (dk_at dksJ13_indexOf_2_0 22 rfl rfl)
theorem dJ13_indexOf_2_24 : decode cJ13_indexOf_2 24 = .ok (.baload, 1) := dk_51 (dk_at dksJ13_indexOf_2_1 0 rfl rfl)
theorem dJ13_indexOf_2_25 : decode cJ13_indexOf_2 25 = .ok (.iload 5, 2) := dk_21 5 (dk_at dksJ13_indexOf_2_1 1 rfl rfl)
theorem dJ13_indexOf_2_27 : decode cJ13_indexOf_2 27 = .ok (.if_icmp .eq 25, 3) := dk_159 0 25 (dk_at dksJ13_indexOf_2_1 3 rfl rfl)
theorem dJ13_indexOf_2_30 : decode cJ13_indexOf_2 30 = .ok (.iinc 7 1, 3) := dk_132 7 1 (dk_at dksJ13_indexOf_2_1 6 rfl rfl)
theorem dJ13_indexOf_2_33 : decode cJ13_indexOf_2 33 = .ok (.iload 7, 2) := dk_21 7 (dk_at dksJ13_indexOf_2_1 9 rfl rfl)
theorem dJ13_indexOf_2_35 : decode cJ13_indexOf_2 35 = .ok (.iload 6, 2) := dk_21 6 (dk_at dksJ13_indexOf_2_1 11 rfl rfl)
theorem dJ13_indexOf_2_37 : decode cJ13_indexOf_2 37 = .ok (.if_icmp .gt 15, 3) := dk_163 0 15 (dk_at dksJ13_indexOf_2_1 13 rfl rfl)
theorem dJ13_indexOf_2_40 : decode cJ13_indexOf_2 40 = .ok (.aload_n 0, 1) := dk_42 (dk_at dksJ13_indexOf_2_1 16 rfl rfl)
theorem dJ13_indexOf_2_41 : decode cJ13_indexOf_2 41 = .ok (.iload 7, 2) := dk_21 7 (dk_at dksJ13_indexOf_2_1 17 rfl rfl)
theorem dJ13_indexOf_2_43 : decode cJ13_indexOf_2 43 = .ok (.baload, 1) := dk_51 (dk_at dksJ13_indexOf_2_1 19 rfl rfl)
theorem dJ13_indexOf_2_44 : decode cJ13_indexOf_2 44 = .ok (.iload 5, 2) := dk_21 5 (dk_at dksJ13_indexOf_2_1 20 rfl rfl)
theorem dJ13_indexOf_2_46 : decode cJ13_indexOf_2 46 = .ok (.if_icmp .eq 6, 3) := dk_159 0 6 (dk_at dksJ13_indexOf_2_2 0 rfl rfl)
theorem dJ13_indexOf_2_49 : decode cJ13_indexOf_2 49 = .ok (.goto (-19), 3) := dk_167 255 237 (dk_at dksJ13_indexOf_2_2 3 rfl rfl)
theorem dJ13_indexOf_2_52 : decode cJ13_indexOf_2 52 = .ok (.iload 7, 2) := dk_21 7 (dk_at dksJ13_indexOf_2_2 6 rfl rfl)
theorem dJ13_indexOf_2_54 : decode cJ13_indexOf_2 54 = .ok (.iload 6, 2) := dk_21 6 (dk_at dksJ13_indexOf_2_2 8 rfl rfl)
theorem dJ13_indexOf_2_56 : decode cJ13_indexOf_2 56 = .ok (.if_icmp .gt 57, 3) := dk_163 0 57 (dk_at dksJ13_indexOf_2_2 10 rfl rfl)
theorem dJ13_indexOf_2_59 : decode cJ13_indexOf_2 59 = .ok (.iload 7, 2) := dk_21 7 (dk_at dksJ13_indexOf_2_2 13 rfl rfl)
theorem dJ13_indexOf_2_61 : decode cJ13_indexOf_2 61 = .ok (.iconst 1, 1) := dk_4 (dk_at dksJ13_indexOf_2_2 15 rfl rfl)
theorem dJ13_indexOf_2_62 : decode cJ13_indexOf_2 62 = .ok (.iadd, 1) := dk_96 (dk_at dksJ13_indexOf_2_2 16 rfl rfl)
theorem dJ13_indexOf_2_63 : decode cJ13_indexOf_2 63 = .ok (.istore 8, 2) := dk_54 8 (dk_at dksJ13_indexOf_2_2 17 rfl rfl)
theorem dJ13_indexOf_2_65 : decode cJ13_indexOf_2 65 = .ok (.iload 8, 2) := dk_21 8 (dk_at dksJ13_indexOf_2_2 19 rfl rfl)
theorem dJ13_indexOf_2_67 : decode cJ13_indexOf_2 67 = .ok (.iload_n 3, 1) := dk_29 (dk_at dksJ13_indexOf_2_2 21 rfl rfl)
theorem dJ13_indexOf_2_68 : decode cJ13_indexOf_2 68 = .ok (.iadd, 1) := dk_96 (dk_at dksJ13_indexOf_2_2 22 rfl rfl)
theorem dJ13_indexOf_2_69 : decode cJ13_indexOf_2 69 = .ok (.iconst 1, 1) := dk_4 (dk_at dksJ13_indexOf_2_2 23 rfl rfl)
theorem dJ13_indexOf_2_70 : decode cJ13_indexOf_2 70 = .ok (.isub, 1) := dk_100 (dk_at dksJ13_indexOf_2_3 0 rfl rfl)
theorem dJ13_indexOf_2_71 : decode cJ13_indexOf_2 71 = .ok (.istore 9, 2) := dk_54 9 (dk_at dksJ13_indexOf_2_3 1 rfl rfl)
theorem dJ13_indexOf_2_73 : decode cJ13_indexOf_2 73 = .ok (.iconst 1, 1) := dk_4 (dk_at dksJ13_indexOf_2_3 3 rfl rfl)
theorem dJ13_indexOf_2_74 : decode cJ13_indexOf_2 74 = .ok (.istore 10, 2) := dk_54 10 (dk_at dksJ13_indexOf_2_3 4 rfl rfl)
theorem dJ13_indexOf_2_76 : decode cJ13_indexOf_2 76 = .ok (.iload 8, 2) := dk_21 8 (dk_at dksJ13_indexOf_2_3 6 rfl rfl)
theorem dJ13_indexOf_2_78 : decode cJ13_indexOf_2 78 = .ok (.iload 9, 2) := dk_21 9 (dk_at dksJ13_indexOf_2_3 8 rfl rfl)
theorem dJ13_indexOf_2_80 : decode cJ13_indexOf_2 80 = .ok (.if_icmp .ge 23, 3) := dk_162 0 23 (dk_at dksJ13_indexOf_2_3 10 rfl rfl)
theorem dJ13_indexOf_2_83 : decode cJ13_indexOf_2 83 = .ok (.aload_n 0, 1) := dk_42 (dk_at dksJ13_indexOf_2_3 13 rfl rfl)
theorem dJ13_indexOf_2_84 : decode cJ13_indexOf_2 84 = .ok (.iload 8, 2) := dk_21 8 (dk_at dksJ13_indexOf_2_3 14 rfl rfl)
theorem dJ13_indexOf_2_86 : decode cJ13_indexOf_2 86 = .ok (.baload, 1) := dk_51 (dk_at dksJ13_indexOf_2_3 16 rfl rfl)
theorem dJ13_indexOf_2_87 : decode cJ13_indexOf_2 87 = .ok (.aload_n 2, 1) := dk_44 (dk_at dksJ13_indexOf_2_3 17 rfl rfl)
theorem dJ13_indexOf_2_88 : decode cJ13_indexOf_2 88 = .ok (.iload 10, 2) := dk_21 10 (dk_at dksJ13_indexOf_2_3 18 rfl rfl)
theorem dJ13_indexOf_2_90 : decode cJ13_indexOf_2 90 = .ok (.baload, 1) := dk_51 (dk_at dksJ13_indexOf_2_3 20 rfl rfl)
theorem dJ13_indexOf_2_91 : decode cJ13_indexOf_2 91 = .ok (.if_icmp .ne 12, 3) := dk_160 0 12 (dk_at dksJ13_indexOf_2_3 21 rfl rfl)
theorem dJ13_indexOf_2_94 : decode cJ13_indexOf_2 94 = .ok (.iinc 8 1, 3) := dk_132 8 1 (dk_at dksJ13_indexOf_2_4 0 rfl rfl)
theorem dJ13_indexOf_2_97 : decode cJ13_indexOf_2 97 = .ok (.iinc 10 1, 3) := dk_132 10 1 (dk_at dksJ13_indexOf_2_4 3 rfl rfl)
theorem dJ13_indexOf_2_100 : decode cJ13_indexOf_2 100 = .ok (.goto (-24), 3) := dk_167 255 232 (dk_at dksJ13_indexOf_2_4 6 rfl rfl)
theorem dJ13_indexOf_2_103 : decode cJ13_indexOf_2 103 = .ok (.iload 8, 2) := dk_21 8 (dk_at dksJ13_indexOf_2_4 9 rfl rfl)
theorem dJ13_indexOf_2_105 : decode cJ13_indexOf_2 105 = .ok (.iload 9, 2) := dk_21 9 (dk_at dksJ13_indexOf_2_4 11 rfl rfl)
theorem dJ13_indexOf_2_107 : decode cJ13_indexOf_2 107 = .ok (.if_icmp .ne 6, 3) := dk_160 0 6 (dk_at dksJ13_indexOf_2_4 13 rfl rfl)
theorem dJ13_indexOf_2_110 : decode cJ13_indexOf_2 110 = .ok (.iload 7, 2) := dk_21 7 (dk_at dksJ13_indexOf_2_4 16 rfl rfl)
theorem dJ13_indexOf_2_112 : decode cJ13_indexOf_2 112 = .ok (.ireturn, 1) := dk_172 (dk_at dksJ13_indexOf_2_4 18 rfl rfl)
theorem dJ13_indexOf_2_113 : decode cJ13_indexOf_2 113 = .ok (.iinc 7 1, 3) := dk_132 7 1 (dk_at dksJ13_indexOf_2_4 19 rfl rfl)
theorem dJ13_indexOf_2_116 : decode cJ13_indexOf_2 116 = .ok (.goto (-102), 3) := dk_167 255 154 (dk_at dksJ13_indexOf_2_5 0 rfl rfl)
theorem dJ13_indexOf_2_119 : decode cJ13_indexOf_2 119 = .ok (.iconst (-1), 1) := dk_2 (dk_at dksJ13_indexOf_2_5 3 rfl rfl)
theorem dJ13_indexOf_2_120 : decode cJ13_indexOf_2 120 = .ok (.ireturn, 1) := dk_172 (dk_at dksJ13_indexOf_2_5 4 rfl rfl)
theorem c54010 : jtCode 54010 = cJ13_indexOf_2 := rfl
theorem F54010_0 (d : Nat) (v0 : Value) (i1 : Int32) (v2 : Value) (i3 : Int32) (i4 : Int32) (h : AH) : G2 d 54010 0 [v0, .int i1, v2, .int i3, .int i4, jno, jno, jno, jno, jno, jno] [] h = zkR v2 (zqG h v2 [1010, 1011, 1020] 0 (fun w1 => zpI w1 (fun x2 => G2 d 54010 14 [v0, .int i1, v2, .int i3, .int i4, .int x2, .int (i1 - i3), .int i4, jno, jno, jno] [] h) ()) ()) () := by
  refine (g_aload_nVH c54010 dJ13_indexOf_2_0 rfl).trans (ckR_cg ?_)
  refine (g_iconstH (x := 0) c54010 dJ13_indexOf_2_1 rfl).trans ?_
  refine (g_baloadH c54010 dJ13_indexOf_2_2).trans (aG_cg fun w1 => rI_cg fun x2 => ?_)
  refine (g_istoreH (L' := [v0, .int i1, v2, .int i3, .int i4, .int x2, jno, jno, jno, jno, jno]) c54010 dJ13_indexOf_2_3 rfl rfl).trans ?_
  refine (g_iload_nH c54010 dJ13_indexOf_2_5 rfl).trans ?_
  refine (g_iload_nH c54010 dJ13_indexOf_2_6 rfl).trans ?_
  refine (g_isubH c54010 dJ13_indexOf_2_7).trans ?_
  refine (g_istoreH (L' := [v0, .int i1, v2, .int i3, .int i4, .int x2, .int (i1 - i3), jno, jno, jno, jno]) c54010 dJ13_indexOf_2_8 rfl rfl).trans ?_
  refine (g_iloadH c54010 dJ13_indexOf_2_10 rfl).trans ?_
  refine (g_istoreH (L' := [v0, .int i1, v2, .int i3, .int i4, .int x2, .int (i1 - i3), .int i4, jno, jno, jno]) c54010 dJ13_indexOf_2_12 rfl rfl).trans ?_
  rfl
theorem F54010_14 (d : Nat) (v0 : Value) (i1 : Int32) (v2 : Value) (i3 : Int32) (i4 : Int32) (i5 : Int32) (i6 : Int32) (i7 : Int32) (v8 : Value) (v9 : Value) (v10 : Value) (h : AH) : G2 d 54010 14 [v0, .int i1, v2, .int i3, .int i4, .int i5, .int i6, .int i7, v8, v9, v10] [] h = if i6 < i7 then (some (.inl (some (.int (-1))), h)) else (zkR v0 (zqG h v0 [1010, 1011, 1020] i7 (fun w1 => zpI w1 (fun x2 => if x2 = i5 then (G2 d 54010 52 [v0, .int i1, v2, .int i3, .int i4, .int i5, .int i6, .int i7, v8, v9, v10] [] h) else (G2 d 54010 30 [v0, .int i1, v2, .int i3, .int i4, .int i5, .int i6, .int i7, v8, v9, v10] [] h)) ()) ()) ()) := by
  refine (g_iloadH c54010 dJ13_indexOf_2_14 rfl).trans ?_
  refine (g_iloadH c54010 dJ13_indexOf_2_16 rfl).trans ?_
  refine (g_icmp_gtH (tgt := 119) c54010 dJ13_indexOf_2_18 rfl).trans (if_cg ?_ ?_)
  · skip
    refine (g_iconstH (x := (-1)) c54010 dJ13_indexOf_2_119 rfl).trans ?_
    exact g_ireturnH c54010 dJ13_indexOf_2_120 rfl
  · skip
    refine (g_aload_nVH c54010 dJ13_indexOf_2_21 rfl).trans (ckR_cg ?_)
    refine (g_iloadH c54010 dJ13_indexOf_2_22 rfl).trans ?_
    refine (g_baloadH c54010 dJ13_indexOf_2_24).trans (aG_cg fun w1 => rI_cg fun x2 => ?_)
    refine (g_iloadH c54010 dJ13_indexOf_2_25 rfl).trans ?_
    refine (g_icmp_eqH (tgt := 52) c54010 dJ13_indexOf_2_27 rfl).trans (if_cg ?_ ?_)
    · skip
      rfl
    · skip
      rfl
theorem F54010_30 (d : Nat) (v0 : Value) (i1 : Int32) (v2 : Value) (i3 : Int32) (i4 : Int32) (i5 : Int32) (i6 : Int32) (i7 : Int32) (v8 : Value) (v9 : Value) (v10 : Value) (h : AH) : G2 d 54010 30 [v0, .int i1, v2, .int i3, .int i4, .int i5, .int i6, .int i7, v8, v9, v10] [] h = if i6 < (i7 + 1) then (G2 d 54010 52 [v0, .int i1, v2, .int i3, .int i4, .int i5, .int i6, .int (i7 + 1), v8, v9, v10] [] h) else (zkR v0 (zqG h v0 [1010, 1011, 1020] (i7 + 1) (fun w1 => zpI w1 (fun x2 => if x2 = i5 then (G2 d 54010 52 [v0, .int i1, v2, .int i3, .int i4, .int i5, .int i6, .int (i7 + 1), v8, v9, v10] [] h) else (G2 d 54010 30 [v0, .int i1, v2, .int i3, .int i4, .int i5, .int i6, .int (i7 + 1), v8, v9, v10] [] h)) ()) ()) ()) := by
  refine (g_iincH (c := 1) (L' := [v0, .int i1, v2, .int i3, .int i4, .int i5, .int i6, .int (i7 + 1), v8, v9, v10]) c54010 dJ13_indexOf_2_30 rfl rfl rfl rfl).trans ?_
  refine (g_iloadH c54010 dJ13_indexOf_2_33 rfl).trans ?_
  refine (g_iloadH c54010 dJ13_indexOf_2_35 rfl).trans ?_
  refine (g_icmp_gtH (tgt := 52) c54010 dJ13_indexOf_2_37 rfl).trans (if_cg ?_ ?_)
  · skip
    rfl
  · skip
    refine (g_aload_nVH c54010 dJ13_indexOf_2_40 rfl).trans (ckR_cg ?_)
    refine (g_iloadH c54010 dJ13_indexOf_2_41 rfl).trans ?_
    refine (g_baloadH c54010 dJ13_indexOf_2_43).trans (aG_cg fun w1 => rI_cg fun x2 => ?_)
    refine (g_iloadH c54010 dJ13_indexOf_2_44 rfl).trans ?_
    refine (g_icmp_eqH (tgt := 52) c54010 dJ13_indexOf_2_46 rfl).trans (if_cg ?_ ?_)
    · skip
      rfl
    · skip
      refine (g_gotoH (tgt := 30) c54010 dJ13_indexOf_2_49 rfl).trans ?_
      rfl
theorem F54010_52 (d : Nat) (v0 : Value) (i1 : Int32) (v2 : Value) (i3 : Int32) (i4 : Int32) (i5 : Int32) (i6 : Int32) (i7 : Int32) (v8 : Value) (v9 : Value) (v10 : Value) (h : AH) : G2 d 54010 52 [v0, .int i1, v2, .int i3, .int i4, .int i5, .int i6, .int i7, v8, v9, v10] [] h = if i6 < i7 then (G2 d 54010 14 [v0, .int i1, v2, .int i3, .int i4, .int i5, .int i6, .int (i7 + 1), v8, v9, v10] [] h) else (G2 d 54010 76 [v0, .int i1, v2, .int i3, .int i4, .int i5, .int i6, .int i7, .int (i7 + 1), .int (((i7 + 1) + i3) - 1), .int 1] [] h) := by
  refine (g_iloadH c54010 dJ13_indexOf_2_52 rfl).trans ?_
  refine (g_iloadH c54010 dJ13_indexOf_2_54 rfl).trans ?_
  refine (g_icmp_gtH (tgt := 113) c54010 dJ13_indexOf_2_56 rfl).trans (if_cg ?_ ?_)
  · skip
    refine (g_iincH (c := 1) (L' := [v0, .int i1, v2, .int i3, .int i4, .int i5, .int i6, .int (i7 + 1), v8, v9, v10]) c54010 dJ13_indexOf_2_113 rfl rfl rfl rfl).trans ?_
    refine (g_gotoH (tgt := 14) c54010 dJ13_indexOf_2_116 rfl).trans ?_
    rfl
  · skip
    refine (g_iloadH c54010 dJ13_indexOf_2_59 rfl).trans ?_
    refine (g_iconstH (x := 1) c54010 dJ13_indexOf_2_61 rfl).trans ?_
    refine (g_iaddH c54010 dJ13_indexOf_2_62).trans ?_
    refine (g_istoreH (L' := [v0, .int i1, v2, .int i3, .int i4, .int i5, .int i6, .int i7, .int (i7 + 1), v9, v10]) c54010 dJ13_indexOf_2_63 rfl rfl).trans ?_
    refine (g_iloadH c54010 dJ13_indexOf_2_65 rfl).trans ?_
    refine (g_iload_nH c54010 dJ13_indexOf_2_67 rfl).trans ?_
    refine (g_iaddH c54010 dJ13_indexOf_2_68).trans ?_
    refine (g_iconstH (x := 1) c54010 dJ13_indexOf_2_69 rfl).trans ?_
    refine (g_isubH c54010 dJ13_indexOf_2_70).trans ?_
    refine (g_istoreH (L' := [v0, .int i1, v2, .int i3, .int i4, .int i5, .int i6, .int i7, .int (i7 + 1), .int (((i7 + 1) + i3) - 1), v10]) c54010 dJ13_indexOf_2_71 rfl rfl).trans ?_
    refine (g_iconstH (x := 1) c54010 dJ13_indexOf_2_73 rfl).trans ?_
    refine (g_istoreH (L' := [v0, .int i1, v2, .int i3, .int i4, .int i5, .int i6, .int i7, .int (i7 + 1), .int (((i7 + 1) + i3) - 1), .int 1]) c54010 dJ13_indexOf_2_74 rfl rfl).trans ?_
    rfl
theorem F54010_76 (d : Nat) (v0 : Value) (i1 : Int32) (v2 : Value) (i3 : Int32) (i4 : Int32) (i5 : Int32) (i6 : Int32) (i7 : Int32) (i8 : Int32) (i9 : Int32) (i10 : Int32) (h : AH) : G2 d 54010 76 [v0, .int i1, v2, .int i3, .int i4, .int i5, .int i6, .int i7, .int i8, .int i9, .int i10] [] h = if i9 ≤ i8 then (if i8 = i9 then (some (.inl (some (.int i7)), h)) else (G2 d 54010 14 [v0, .int i1, v2, .int i3, .int i4, .int i5, .int i6, .int (i7 + 1), .int i8, .int i9, .int i10] [] h)) else (zkR v0 (zqG h v0 [1010, 1011, 1020] i8 (fun w1 => zpI w1 (fun x2 => zkR v2 (zqG h v2 [1010, 1011, 1020] i10 (fun w3 => zpI w3 (fun x4 => if x2 = x4 then (G2 d 54010 76 [v0, .int i1, v2, .int i3, .int i4, .int i5, .int i6, .int i7, .int (i8 + 1), .int i9, .int (i10 + 1)] [] h) else (if i8 = i9 then (some (.inl (some (.int i7)), h)) else (G2 d 54010 14 [v0, .int i1, v2, .int i3, .int i4, .int i5, .int i6, .int (i7 + 1), .int i8, .int i9, .int i10] [] h))) ()) ()) ()) ()) ()) ()) := by
  refine (g_iloadH c54010 dJ13_indexOf_2_76 rfl).trans ?_
  refine (g_iloadH c54010 dJ13_indexOf_2_78 rfl).trans ?_
  refine (g_icmp_geH (tgt := 103) c54010 dJ13_indexOf_2_80 rfl).trans (if_cg ?_ ?_)
  · skip
    refine (g_iloadH c54010 dJ13_indexOf_2_103 rfl).trans ?_
    refine (g_iloadH c54010 dJ13_indexOf_2_105 rfl).trans ?_
    refine (g_icmp_neH (tgt := 113) c54010 dJ13_indexOf_2_107 rfl).trans (if_cg ?_ ?_)
    · skip
      refine (g_iloadH c54010 dJ13_indexOf_2_110 rfl).trans ?_
      exact g_ireturnH c54010 dJ13_indexOf_2_112 rfl
    · skip
      refine (g_iincH (c := 1) (L' := [v0, .int i1, v2, .int i3, .int i4, .int i5, .int i6, .int (i7 + 1), .int i8, .int i9, .int i10]) c54010 dJ13_indexOf_2_113 rfl rfl rfl rfl).trans ?_
      refine (g_gotoH (tgt := 14) c54010 dJ13_indexOf_2_116 rfl).trans ?_
      rfl
  · skip
    refine (g_aload_nVH c54010 dJ13_indexOf_2_83 rfl).trans (ckR_cg ?_)
    refine (g_iloadH c54010 dJ13_indexOf_2_84 rfl).trans ?_
    refine (g_baloadH c54010 dJ13_indexOf_2_86).trans (aG_cg fun w1 => rI_cg fun x2 => ?_)
    refine (g_aload_nVH c54010 dJ13_indexOf_2_87 rfl).trans (ckR_cg ?_)
    refine (g_iloadH c54010 dJ13_indexOf_2_88 rfl).trans ?_
    refine (g_baloadH c54010 dJ13_indexOf_2_90).trans (aG_cg fun w3 => rI_cg fun x4 => ?_)
    refine (g_icmp_neH (tgt := 103) c54010 dJ13_indexOf_2_91 rfl).trans (if_cg ?_ ?_)
    · skip
      refine (g_iincH (c := 1) (L' := [v0, .int i1, v2, .int i3, .int i4, .int i5, .int i6, .int i7, .int (i8 + 1), .int i9, .int i10]) c54010 dJ13_indexOf_2_94 rfl rfl rfl rfl).trans ?_
      refine (g_iincH (c := 1) (L' := [v0, .int i1, v2, .int i3, .int i4, .int i5, .int i6, .int i7, .int (i8 + 1), .int i9, .int (i10 + 1)]) c54010 dJ13_indexOf_2_97 rfl rfl rfl rfl).trans ?_
      refine (g_gotoH (tgt := 76) c54010 dJ13_indexOf_2_100 rfl).trans ?_
      rfl
    · skip
      refine (g_iloadH c54010 dJ13_indexOf_2_103 rfl).trans ?_
      refine (g_iloadH c54010 dJ13_indexOf_2_105 rfl).trans ?_
      refine (g_icmp_neH (tgt := 113) c54010 dJ13_indexOf_2_107 rfl).trans (if_cg ?_ ?_)
      · skip
        refine (g_iloadH c54010 dJ13_indexOf_2_110 rfl).trans ?_
        exact g_ireturnH c54010 dJ13_indexOf_2_112 rfl
      · skip
        refine (g_iincH (c := 1) (L' := [v0, .int i1, v2, .int i3, .int i4, .int i5, .int i6, .int (i7 + 1), .int i8, .int i9, .int i10]) c54010 dJ13_indexOf_2_113 rfl rfl rfl rfl).trans ?_
        refine (g_gotoH (tgt := 14) c54010 dJ13_indexOf_2_116 rfl).trans ?_
        rfl
theorem Y54010 {d : Nat} {v0 : Value} {i1 : Int32} {v2 : Value} {i3 : Int32} {i4 : Int32} (h : AH) (hv0 : isR v0 = true) (hv2 : isR v2 = true) : M2 (d + 1) 54010 [v0, .int i1, v2, .int i3, .int i4] h = G2 d 54010 0 [v0, .int i1, v2, .int i3, .int i4, jno, jno, jno, jno, jno, jno] [] h := M2_eq rfl rfl rfl (by simp only [jent, jargL_R hv0, jargL_R hv2, jargL]; rfl)
/-! java/lang/StringLatin1.length([B)I -/
abbrev cJ13_length : ByteArray := prog_53_method_5_code
theorem dJ13_length_0 : decode cJ13_length 0 = .ok (.aload_n 0, 1) := by decide +kernel
theorem dJ13_length_1 : decode cJ13_length 1 = .ok (.arraylength, 1) := by decide +kernel
theorem dJ13_length_2 : decode cJ13_length 2 = .ok (.ireturn, 1) := by decide +kernel
theorem c54012 : jtCode 54012 = cJ13_length := rfl
theorem F54012_0 (d : Nat) (v0 : Value) (h : AH) : G2 d 54012 0 [v0] [] h = zkR v0 (zqL h v0 (fun x1 => some (.inl (some (.int x1)), h)) ()) () := by
  refine (g_aload_nVH c54012 dJ13_length_0 rfl).trans (ckR_cg ?_)
  refine (g_alenH c54012 dJ13_length_1).trans (aL_cg fun x1 => ?_)
  exact g_ireturnH c54012 dJ13_length_2 rfl
theorem Y54012 {d : Nat} {v0 : Value} (h : AH) (hv0 : isR v0 = true) : M2 (d + 1) 54012 [v0] h = G2 d 54012 0 [v0] [] h := M2_eq rfl rfl rfl (by simp only [jent, jargL_R hv0, jargL]; rfl)
/-! jdk/internal/util/Preconditions.checkFromToIndex(IIILjava/util/function/BiFunction;)I -/
theorem F55001_0 (d : Nat) (i0 : Int32) (i1 : Int32) (i2 : Int32) (v3 : Value) (h : AH) : G2 d 55001 0 [.int i0, .int i1, .int i2, v3] [] h = if i0 < 0 then (zkR v3 (G2 d 55001 18 [.int i0, .int i1, .int i2, v3] [.int i2, .int i1, .int i0, v3] h) ()) else (if i1 < i0 then (zkR v3 (G2 d 55001 18 [.int i0, .int i1, .int i2, v3] [.int i2, .int i1, .int i0, v3] h) ()) else (if i1 ≤ i2 then (some (.inl (some (.int i0)), h)) else (zkR v3 (G2 d 55001 18 [.int i0, .int i1, .int i2, v3] [.int i2, .int i1, .int i0, v3] h) ()))) := by
  refine (g_iload_nH c55001 dJ14_checkFromToIndex_0 rfl).trans ?_
  refine (g_if_ltH (tgt := 14) c55001 dJ14_checkFromToIndex_1 rfl).trans (if_cg ?_ ?_)
  · skip
    refine (g_aload_nVH c55001 dJ14_checkFromToIndex_14 rfl).trans (ckR_cg ?_)
    refine (g_iload_nH c55001 dJ14_checkFromToIndex_15 rfl).trans ?_
    refine (g_iload_nH c55001 dJ14_checkFromToIndex_16 rfl).trans ?_
    refine (g_iload_nH c55001 dJ14_checkFromToIndex_17 rfl).trans ?_
    rfl
  · skip
    refine (g_iload_nH c55001 dJ14_checkFromToIndex_4 rfl).trans ?_
    refine (g_iload_nH c55001 dJ14_checkFromToIndex_5 rfl).trans ?_
    refine (g_icmp_gtH (tgt := 14) c55001 dJ14_checkFromToIndex_6 rfl).trans (if_cg ?_ ?_)
    · skip
      refine (g_aload_nVH c55001 dJ14_checkFromToIndex_14 rfl).trans (ckR_cg ?_)
      refine (g_iload_nH c55001 dJ14_checkFromToIndex_15 rfl).trans ?_
      refine (g_iload_nH c55001 dJ14_checkFromToIndex_16 rfl).trans ?_
      refine (g_iload_nH c55001 dJ14_checkFromToIndex_17 rfl).trans ?_
      rfl
    · skip
      refine (g_iload_nH c55001 dJ14_checkFromToIndex_9 rfl).trans ?_
      refine (g_iload_nH c55001 dJ14_checkFromToIndex_10 rfl).trans ?_
      refine (g_icmp_leH (tgt := 22) c55001 dJ14_checkFromToIndex_11 rfl).trans (if_cg ?_ ?_)
      · skip
        refine (g_iload_nH c55001 dJ14_checkFromToIndex_22 rfl).trans ?_
        exact g_ireturnH c55001 dJ14_checkFromToIndex_23 rfl
      · skip
        refine (g_aload_nVH c55001 dJ14_checkFromToIndex_14 rfl).trans (ckR_cg ?_)
        refine (g_iload_nH c55001 dJ14_checkFromToIndex_15 rfl).trans ?_
        refine (g_iload_nH c55001 dJ14_checkFromToIndex_16 rfl).trans ?_
        refine (g_iload_nH c55001 dJ14_checkFromToIndex_17 rfl).trans ?_
        rfl
theorem Y55001 {d : Nat} {i0 : Int32} {i1 : Int32} {i2 : Int32} {v3 : Value} (h : AH) (hv3 : isR v3 = true) : M2 (d + 1) 55001 [.int i0, .int i1, .int i2, v3] h = G2 d 55001 0 [.int i0, .int i1, .int i2, v3] [] h := M2_eq rfl rfl rfl (by simp only [jent, jargL_R hv3, jargL]; rfl)
/-! jdk/internal/util/Preconditions.checkIndex(IILjava/util/function/BiFunction;)I -/
theorem F55002_0 (d : Nat) (i0 : Int32) (i1 : Int32) (v2 : Value) (h : AH) : G2 d 55002 0 [.int i0, .int i1, v2] [] h = if i0 < 0 then (zkR v2 (G2 d 55002 12 [.int i0, .int i1, v2] [.int i1, .int i0, v2] h) ()) else (if i0 < i1 then (some (.inl (some (.int i0)), h)) else (zkR v2 (G2 d 55002 12 [.int i0, .int i1, v2] [.int i1, .int i0, v2] h) ())) := by
  refine (g_iload_nH c55002 dJ14_checkIndex_0 rfl).trans ?_
  refine (g_if_ltH (tgt := 9) c55002 dJ14_checkIndex_1 rfl).trans (if_cg ?_ ?_)
  · skip
    refine (g_aload_nVH c55002 dJ14_checkIndex_9 rfl).trans (ckR_cg ?_)
    refine (g_iload_nH c55002 dJ14_checkIndex_10 rfl).trans ?_
    refine (g_iload_nH c55002 dJ14_checkIndex_11 rfl).trans ?_
    rfl
  · skip
    refine (g_iload_nH c55002 dJ14_checkIndex_4 rfl).trans ?_
    refine (g_iload_nH c55002 dJ14_checkIndex_5 rfl).trans ?_
    refine (g_icmp_ltH (tgt := 16) c55002 dJ14_checkIndex_6 rfl).trans (if_cg ?_ ?_)
    · skip
      refine (g_iload_nH c55002 dJ14_checkIndex_16 rfl).trans ?_
      exact g_ireturnH c55002 dJ14_checkIndex_17 rfl
    · skip
      refine (g_aload_nVH c55002 dJ14_checkIndex_9 rfl).trans (ckR_cg ?_)
      refine (g_iload_nH c55002 dJ14_checkIndex_10 rfl).trans ?_
      refine (g_iload_nH c55002 dJ14_checkIndex_11 rfl).trans ?_
      rfl
theorem Y55002 {d : Nat} {i0 : Int32} {i1 : Int32} {v2 : Value} (h : AH) (hv2 : isR v2 = true) : M2 (d + 1) 55002 [.int i0, .int i1, v2] h = G2 d 55002 0 [.int i0, .int i1, v2] [] h := M2_eq rfl rfl rfl (by simp only [jent, jargL_R hv2, jargL]; rfl)
/-! java/lang/Throwable.<init>()V -/
abbrev cJ15_init : ByteArray := prog_56_method_1_code
def dkwJ15_init_1 : List UInt8 := [182, 0, 27, 87, 177]
abbrev dktJ15_init_1 : List UInt8 := dkwJ15_init_1 ++ []
def dkwJ15_init_0 : List UInt8 := [42, 183, 0, 1, 42, 42, 181, 0, 7, 42, 178, 0, 13, 181, 0, 17, 42, 178, 0, 20, 181, 0, 24, 42]
abbrev dktJ15_init_0 : List UInt8 := dkwJ15_init_0 ++ dktJ15_init_1
theorem dksJ15_init_0 : cJ15_init.data.toList.drop 0 = dktJ15_init_0 := by decide +kernel
theorem dksJ15_init_1 : cJ15_init.data.toList.drop 24 = dktJ15_init_1 := dk_seg dksJ15_init_0 24 rfl rfl
theorem dJ15_init_0 : decode cJ15_init 0 = .ok (.aload_n 0, 1) := dk_42 (dk_at dksJ15_init_0 0 rfl rfl)
theorem dJ15_init_1 : decode cJ15_init 1 = .ok (.invokespecial 1, 3) := dk_183 0 1 (dk_at dksJ15_init_0 1 rfl rfl)
theorem dJ15_init_4 : decode cJ15_init 4 = .ok (.aload_n 0, 1) := dk_42 (dk_at dksJ15_init_0 4 rfl rfl)
theorem dJ15_init_5 : decode cJ15_init 5 = .ok (.aload_n 0, 1) := dk_42 (dk_at dksJ15_init_0 5 rfl rfl)
theorem dJ15_init_6 : decode cJ15_init 6 = .ok (.putfield 7, 3) := dk_181 0 7 (dk_at dksJ15_init_0 6 rfl rfl)
theorem dJ15_init_9 : decode cJ15_init 9 = .ok (.aload_n 0, 1) := dk_42 (dk_at dksJ15_init_0 9 rfl rfl)
theorem dJ15_init_10 : decode cJ15_init 10 = .ok (.getstatic 13, 3) := dk_178 0 13 (dk_at dksJ15_init_0 10 rfl rfl)
theorem dJ15_init_13 : decode cJ15_init 13 = .ok (.putfield 17, 3) := dk_181 0 17 (dk_at dksJ15_init_0 13 rfl rfl)
theorem dJ15_init_16 : decode cJ15_init 16 = .ok (.aload_n 0, 1) := dk_42 (dk_at dksJ15_init_0 16 rfl rfl)
theorem dJ15_init_17 : decode cJ15_init 17 = .ok (.getstatic 20, 3) := dk_178 0 20 (dk_at dksJ15_init_0 17 rfl rfl)
theorem dJ15_init_20 : decode cJ15_init 20 = .ok (.putfield 24, 3) := dk_181 0 24 (dk_at dksJ15_init_0 20 rfl rfl)
theorem dJ15_init_23 : decode cJ15_init 23 = .ok (.aload_n 0, 1) := dk_42 (dk_at dksJ15_init_0 23 rfl rfl)
theorem dJ15_init_24 : decode cJ15_init 24 = .ok (.invokevirtual 27, 3) := dk_182 0 27 (dk_at dksJ15_init_1 0 rfl rfl)
theorem dJ15_init_27 : decode cJ15_init 27 = .ok (.pop, 1) := dk_87 (dk_at dksJ15_init_1 3 rfl rfl)
theorem dJ15_init_28 : decode cJ15_init 28 = .ok (.return_, 1) := dk_177 (dk_at dksJ15_init_1 4 rfl rfl)
theorem c56900 : jtCode 56900 = cJ15_init := rfl
theorem F56900_0 (d : Nat) (a0 : Nat) (h : AH) : G2 d 56900 0 [.ref a0] [] h = zcV (M2 d 90000 [.ref a0] h) (fun h2 => zqF h2 (.ref a0) [10, 56, 68, 69] 0 2 (.ref a0) (fun h3 => zpR (je h3 3) (fun r4 => zqF h3 (.ref a0) [10, 56, 68, 69] 1 2 r4 (fun h5 => zpR (je h5 4) (fun r6 => zqF h5 (.ref a0) [10, 56, 68, 69] 2 2 r6 (fun h7 => G2 d 56900 24 [.ref a0] [.ref a0] h7) ()) ()) ()) ()) ()) () := by
  refine (g_aload_nH c56900 dJ15_init_0 rfl).trans ?_
  refine (g_specialH (as := [.ref a0]) (rest := []) c56900 dJ15_init_1 rfl rfl rfl rfl rfl).trans ((jback_VH (κx := cX) (fun e h => jthrow_outH rfl)).trans (cV_cg fun h2 => ?_))
  refine (g_aload_nH c56900 dJ15_init_4 rfl).trans ?_
  refine (g_aload_nH c56900 dJ15_init_5 rfl).trans ?_
  refine (g_putH c56900 dJ15_init_6 rfl).trans (pF_cg fun h3 => ?_)
  refine (g_aload_nH c56900 dJ15_init_9 rfl).trans ?_
  refine (g_getsRH (k := 3) c56900 dJ15_init_10 rfl rfl).trans (rR_cg fun r4 => ?_)
  refine (g_putH c56900 dJ15_init_13 rfl).trans (pF_cg fun h5 => ?_)
  refine (g_aload_nH c56900 dJ15_init_16 rfl).trans ?_
  refine (g_getsRH (k := 4) c56900 dJ15_init_17 rfl rfl).trans (rR_cg fun r6 => ?_)
  refine (g_putH c56900 dJ15_init_20 rfl).trans (pF_cg fun h7 => ?_)
  refine (g_aload_nH c56900 dJ15_init_23 rfl).trans ?_
  rfl
theorem Y56900 {d : Nat} {a0 : Nat} (h : AH) (hr : jrecv 56900 [.ref a0] h = true) : M2 (d + 1) 56900 [.ref a0] h = G2 d 56900 0 [.ref a0] [] h := M2_eq rfl rfl hr rfl
/-! java/lang/Throwable.<init>(Ljava/lang/String;Ljava/lang/Throwable;ZZ)V -/
abbrev cJ15_init_2 : ByteArray := prog_56_method_5_code
def dkwJ15_init_2_2 : List UInt8 := [44, 181, 0, 7, 29, 154, 0, 8, 42, 1, 181, 0, 24, 177]
abbrev dktJ15_init_2_2 : List UInt8 := dkwJ15_init_2_2 ++ []
def dkwJ15_init_2_1 : List UInt8 := [21, 4, 153, 0, 11, 42, 182, 0, 27, 87, 167, 0, 8, 42, 1, 181, 0, 17, 42, 43, 181, 0, 31, 42]
abbrev dktJ15_init_2_1 : List UInt8 := dkwJ15_init_2_1 ++ dktJ15_init_2_2
def dkwJ15_init_2_0 : List UInt8 := [42, 183, 0, 1, 42, 42, 181, 0, 7, 42, 178, 0, 13, 181, 0, 17, 42, 178, 0, 20, 181, 0, 24]
abbrev dktJ15_init_2_0 : List UInt8 := dkwJ15_init_2_0 ++ dktJ15_init_2_1
theorem dksJ15_init_2_0 : cJ15_init_2.data.toList.drop 0 = dktJ15_init_2_0 := by decide +kernel
theorem dksJ15_init_2_1 : cJ15_init_2.data.toList.drop 23 = dktJ15_init_2_1 := dk_seg dksJ15_init_2_0 23 rfl rfl
theorem dksJ15_init_2_2 : cJ15_init_2.data.toList.drop 47 = dktJ15_init_2_2 := dk_seg dksJ15_init_2_1 24 rfl rfl
theorem dJ15_init_2_0 : decode cJ15_init_2 0 = .ok (.aload_n 0, 1) := dk_42 (dk_at dksJ15_init_2_0 0 rfl rfl)
theorem dJ15_init_2_1 : decode cJ15_init_2 1 = .ok (.invokespecial 1, 3) := dk_183 0 1 (dk_at dksJ15_init_2_0 1 rfl rfl)
theorem dJ15_init_2_4 : decode cJ15_init_2 4 = .ok (.aload_n 0, 1) := dk_42 (dk_at dksJ15_init_2_0 4 rfl rfl)
theorem dJ15_init_2_5 : decode cJ15_init_2 5 = .ok (.aload_n 0, 1) := dk_42 (dk_at dksJ15_init_2_0 5 rfl rfl)
theorem dJ15_init_2_6 : decode cJ15_init_2 6 = .ok (.putfield 7, 3) := dk_181 0 7 (dk_at dksJ15_init_2_0 6 rfl rfl)
theorem dJ15_init_2_9 : decode cJ15_init_2 9 = .ok (.aload_n 0, 1) := dk_42 (dk_at dksJ15_init_2_0 9 rfl rfl)
theorem dJ15_init_2_10 : decode cJ15_init_2 10 = .ok (.getstatic 13, 3) := dk_178 0 13 (dk_at dksJ15_init_2_0 10 rfl rfl)
theorem dJ15_init_2_13 : decode cJ15_init_2 13 = .ok (.putfield 17, 3) := dk_181 0 17 (dk_at dksJ15_init_2_0 13 rfl rfl)
theorem dJ15_init_2_16 : decode cJ15_init_2 16 = .ok (.aload_n 0, 1) := dk_42 (dk_at dksJ15_init_2_0 16 rfl rfl)
theorem dJ15_init_2_17 : decode cJ15_init_2 17 = .ok (.getstatic 20, 3) := dk_178 0 20 (dk_at dksJ15_init_2_0 17 rfl rfl)
theorem dJ15_init_2_20 : decode cJ15_init_2 20 = .ok (.putfield 24, 3) := dk_181 0 24 (dk_at dksJ15_init_2_0 20 rfl rfl)
theorem dJ15_init_2_23 : decode cJ15_init_2 23 = .ok (.iload 4, 2) := dk_21 4 (dk_at dksJ15_init_2_1 0 rfl rfl)
theorem dJ15_init_2_25 : decode cJ15_init_2 25 = .ok (.ifCond .eq 11, 3) := dk_153 0 11 (dk_at dksJ15_init_2_1 2 rfl rfl)
theorem dJ15_init_2_28 : decode cJ15_init_2 28 = .ok (.aload_n 0, 1) := dk_42 (dk_at dksJ15_init_2_1 5 rfl rfl)
theorem dJ15_init_2_29 : decode cJ15_init_2 29 = .ok (.invokevirtual 27, 3) := dk_182 0 27 (dk_at dksJ15_init_2_1 6 rfl rfl)
theorem dJ15_init_2_32 : decode cJ15_init_2 32 = .ok (.pop, 1) := dk_87 (dk_at dksJ15_init_2_1 9 rfl rfl)
theorem dJ15_init_2_33 : decode cJ15_init_2 33 = .ok (.goto 8, 3) := dk_167 0 8 (dk_at dksJ15_init_2_1 10 rfl rfl)
theorem dJ15_init_2_36 : decode cJ15_init_2 36 = .ok (.aload_n 0, 1) := dk_42 (dk_at dksJ15_init_2_1 13 rfl rfl)
theorem dJ15_init_2_37 : decode cJ15_init_2 37 = .ok (.aconst_null, 1) := dk_1 (dk_at dksJ15_init_2_1 14 rfl rfl)
theorem dJ15_init_2_38 : decode cJ15_init_2 38 = .ok (.putfield 17, 3) := dk_181 0 17 (dk_at dksJ15_init_2_1 15 rfl rfl)
theorem dJ15_init_2_41 : decode cJ15_init_2 41 = .ok (.aload_n 0, 1) := dk_42 (dk_at dksJ15_init_2_1 18 rfl rfl)
theorem dJ15_init_2_42 : decode cJ15_init_2 42 = .ok (.aload_n 1, 1) := dk_43 (dk_at dksJ15_init_2_1 19 rfl rfl)
theorem dJ15_init_2_43 : decode cJ15_init_2 43 = .ok (.putfield 31, 3) := dk_181 0 31 (dk_at dksJ15_init_2_1 20 rfl rfl)
theorem dJ15_init_2_46 : decode cJ15_init_2 46 = .ok (.aload_n 0, 1) := dk_42 (dk_at dksJ15_init_2_1 23 rfl rfl)
theorem dJ15_init_2_47 : decode cJ15_init_2 47 = .ok (.aload_n 2, 1) := dk_44 (dk_at dksJ15_init_2_2 0 rfl rfl)
theorem dJ15_init_2_48 : decode cJ15_init_2 48 = .ok (.putfield 7, 3) := dk_181 0 7 (dk_at dksJ15_init_2_2 1 rfl rfl)
theorem dJ15_init_2_51 : decode cJ15_init_2 51 = .ok (.iload_n 3, 1) := dk_29 (dk_at dksJ15_init_2_2 4 rfl rfl)
theorem dJ15_init_2_52 : decode cJ15_init_2 52 = .ok (.ifCond .ne 8, 3) := dk_154 0 8 (dk_at dksJ15_init_2_2 5 rfl rfl)
theorem dJ15_init_2_55 : decode cJ15_init_2 55 = .ok (.aload_n 0, 1) := dk_42 (dk_at dksJ15_init_2_2 8 rfl rfl)
theorem dJ15_init_2_56 : decode cJ15_init_2 56 = .ok (.aconst_null, 1) := dk_1 (dk_at dksJ15_init_2_2 9 rfl rfl)
theorem dJ15_init_2_57 : decode cJ15_init_2 57 = .ok (.putfield 24, 3) := dk_181 0 24 (dk_at dksJ15_init_2_2 10 rfl rfl)
theorem dJ15_init_2_60 : decode cJ15_init_2 60 = .ok (.return_, 1) := dk_177 (dk_at dksJ15_init_2_2 13 rfl rfl)
theorem c56901 : jtCode 56901 = cJ15_init_2 := rfl
theorem F56901_0 (d : Nat) (a0 : Nat) (v1 : Value) (v2 : Value) (i3 : Int32) (i4 : Int32) (h : AH) : G2 d 56901 0 [.ref a0, v1, v2, .int i3, .int i4] [] h = zcV (M2 d 90000 [.ref a0] h) (fun h2 => zqF h2 (.ref a0) [10, 56, 68, 69] 0 2 (.ref a0) (fun h3 => zpR (je h3 3) (fun r4 => zqF h3 (.ref a0) [10, 56, 68, 69] 1 2 r4 (fun h5 => zpR (je h5 4) (fun r6 => zqF h5 (.ref a0) [10, 56, 68, 69] 2 2 r6 (fun h7 => if i4 = 0 then (zqF h7 (.ref a0) [10, 56, 68, 69] 1 2 .null (fun h8 => zkR v1 (zqF h8 (.ref a0) [10, 56, 68, 69] 3 2 v1 (fun h9 => zkR v2 (zqF h9 (.ref a0) [10, 56, 68, 69] 0 2 v2 (fun h10 => if i3 = 0 then (zqF h10 (.ref a0) [10, 56, 68, 69] 2 2 .null (fun h11 => some (.inl none, h11)) ()) else (some (.inl none, h10))) ()) ()) ()) ()) ()) else (G2 d 56901 29 [.ref a0, v1, v2, .int i3, .int i4] [.ref a0] h7)) ()) ()) ()) ()) ()) () := by
  refine (g_aload_nH c56901 dJ15_init_2_0 rfl).trans ?_
  refine (g_specialH (as := [.ref a0]) (rest := []) c56901 dJ15_init_2_1 rfl rfl rfl rfl rfl).trans ((jback_VH (κx := cX) (fun e h => jthrow_outH rfl)).trans (cV_cg fun h2 => ?_))
  refine (g_aload_nH c56901 dJ15_init_2_4 rfl).trans ?_
  refine (g_aload_nH c56901 dJ15_init_2_5 rfl).trans ?_
  refine (g_putH c56901 dJ15_init_2_6 rfl).trans (pF_cg fun h3 => ?_)
  refine (g_aload_nH c56901 dJ15_init_2_9 rfl).trans ?_
  refine (g_getsRH (k := 3) c56901 dJ15_init_2_10 rfl rfl).trans (rR_cg fun r4 => ?_)
  refine (g_putH c56901 dJ15_init_2_13 rfl).trans (pF_cg fun h5 => ?_)
  refine (g_aload_nH c56901 dJ15_init_2_16 rfl).trans ?_
  refine (g_getsRH (k := 4) c56901 dJ15_init_2_17 rfl rfl).trans (rR_cg fun r6 => ?_)
  refine (g_putH c56901 dJ15_init_2_20 rfl).trans (pF_cg fun h7 => ?_)
  refine (g_iloadH c56901 dJ15_init_2_23 rfl).trans ?_
  refine (g_if_eqH (tgt := 36) c56901 dJ15_init_2_25 rfl).trans (if_cg ?_ ?_)
  · skip
    refine (g_aload_nH c56901 dJ15_init_2_36 rfl).trans ?_
    refine (g_aconst_nullH c56901 dJ15_init_2_37).trans ?_
    refine (g_putH c56901 dJ15_init_2_38 rfl).trans (pF_cg fun h8 => ?_)
    refine (g_aload_nH c56901 dJ15_init_2_41 rfl).trans ?_
    refine (g_aload_nVH c56901 dJ15_init_2_42 rfl).trans (ckR_cg ?_)
    refine (g_putH c56901 dJ15_init_2_43 rfl).trans (pF_cg fun h9 => ?_)
    refine (g_aload_nH c56901 dJ15_init_2_46 rfl).trans ?_
    refine (g_aload_nVH c56901 dJ15_init_2_47 rfl).trans (ckR_cg ?_)
    refine (g_putH c56901 dJ15_init_2_48 rfl).trans (pF_cg fun h10 => ?_)
    refine (g_iload_nH c56901 dJ15_init_2_51 rfl).trans ?_
    refine (g_if_neH (tgt := 60) c56901 dJ15_init_2_52 rfl).trans (if_cg ?_ ?_)
    · skip
      refine (g_aload_nH c56901 dJ15_init_2_55 rfl).trans ?_
      refine (g_aconst_nullH c56901 dJ15_init_2_56).trans ?_
      refine (g_putH c56901 dJ15_init_2_57 rfl).trans (pF_cg fun h11 => ?_)
      exact g_returnH c56901 dJ15_init_2_60 rfl
    · skip
      exact g_returnH c56901 dJ15_init_2_60 rfl
  · skip
    refine (g_aload_nH c56901 dJ15_init_2_28 rfl).trans ?_
    rfl
theorem Y56901 {d : Nat} {a0 : Nat} {v1 : Value} {v2 : Value} {i3 : Int32} {i4 : Int32} (h : AH) (hv1 : isR v1 = true) (hv2 : isR v2 = true) (hr : jrecv 56901 [.ref a0, v1, v2, .int i3, .int i4] h = true) : M2 (d + 1) 56901 [.ref a0, v1, v2, .int i3, .int i4] h = G2 d 56901 0 [.ref a0, v1, v2, .int i3, .int i4] [] h := M2_eq rfl rfl hr (by simp only [jent, jargL_R hv1, jargL_R hv2, jargL]; rfl)
/-! java/lang/Exception.<init>(Ljava/lang/String;Ljava/lang/Throwable;ZZ)V -/
abbrev cJ16_init : ByteArray := prog_42_method_5_code
def dkwJ16_init_0 : List UInt8 := [42, 43, 44, 29, 21, 4, 183, 0, 16, 177]
abbrev dktJ16_init_0 : List UInt8 := dkwJ16_init_0 ++ []
theorem dksJ16_init_0 : cJ16_init.data.toList.drop 0 = dktJ16_init_0 := by decide +kernel
theorem dJ16_init_0 : decode cJ16_init 0 = .ok (.aload_n 0, 1) := dk_42 (dk_at dksJ16_init_0 0 rfl rfl)
theorem dJ16_init_1 : decode cJ16_init 1 = .ok (.aload_n 1, 1) := dk_43 (dk_at dksJ16_init_0 1 rfl rfl)
theorem dJ16_init_2 : decode cJ16_init 2 = .ok (.aload_n 2, 1) := dk_44 (dk_at dksJ16_init_0 2 rfl rfl)
theorem dJ16_init_3 : decode cJ16_init 3 = .ok (.iload_n 3, 1) := dk_29 (dk_at dksJ16_init_0 3 rfl rfl)
theorem dJ16_init_4 : decode cJ16_init 4 = .ok (.iload 4, 2) := dk_21 4 (dk_at dksJ16_init_0 4 rfl rfl)
theorem dJ16_init_6 : decode cJ16_init 6 = .ok (.invokespecial 16, 3) := dk_183 0 16 (dk_at dksJ16_init_0 6 rfl rfl)
theorem dJ16_init_9 : decode cJ16_init 9 = .ok (.return_, 1) := dk_177 (dk_at dksJ16_init_0 9 rfl rfl)
theorem c57900 : jtCode 57900 = cJ16_init := rfl
theorem F57900_0 (d : Nat) (a0 : Nat) (v1 : Value) (v2 : Value) (i3 : Int32) (i4 : Int32) (h : AH) : G2 d 57900 0 [.ref a0, v1, v2, .int i3, .int i4] [] h = zkR v1 (zkR v2 (zcV (M2 d 56901 [.ref a0, v1, v2, .int i3, .int i4] h) (fun h2 => some (.inl none, h2)) ()) ()) () := by
  refine (g_aload_nH c57900 dJ16_init_0 rfl).trans ?_
  refine (g_aload_nVH c57900 dJ16_init_1 rfl).trans (ckR_cg ?_)
  refine (g_aload_nVH c57900 dJ16_init_2 rfl).trans (ckR_cg ?_)
  refine (g_iload_nH c57900 dJ16_init_3 rfl).trans ?_
  refine (g_iloadH c57900 dJ16_init_4 rfl).trans ?_
  refine (g_specialH (as := [.ref a0, v1, v2, .int i3, .int i4]) (rest := []) c57900 dJ16_init_6 rfl rfl rfl rfl rfl).trans ((jback_VH (κx := cX) (fun e h => jthrow_outH rfl)).trans (cV_cg fun h2 => ?_))
  exact g_returnH c57900 dJ16_init_9 rfl
theorem Y57900 {d : Nat} {a0 : Nat} {v1 : Value} {v2 : Value} {i3 : Int32} {i4 : Int32} (h : AH) (hv1 : isR v1 = true) (hv2 : isR v2 = true) (hr : jrecv 57900 [.ref a0, v1, v2, .int i3, .int i4] h = true) : M2 (d + 1) 57900 [.ref a0, v1, v2, .int i3, .int i4] h = G2 d 57900 0 [.ref a0, v1, v2, .int i3, .int i4] [] h := M2_eq rfl rfl hr (by simp only [jent, jargL_R hv1, jargL_R hv2, jargL]; rfl)
/-! java/lang/Exception.<init>()V -/
abbrev cJ16_init_3 : ByteArray := prog_42_method_1_code
theorem dJ16_init_3_0 : decode cJ16_init_3 0 = .ok (.aload_n 0, 1) := by decide +kernel
theorem dJ16_init_3_1 : decode cJ16_init_3 1 = .ok (.invokespecial 1, 3) := by decide +kernel
theorem dJ16_init_3_4 : decode cJ16_init_3 4 = .ok (.return_, 1) := by decide +kernel
theorem c57902 : jtCode 57902 = cJ16_init_3 := rfl
theorem F57902_0 (d : Nat) (a0 : Nat) (h : AH) : G2 d 57902 0 [.ref a0] [] h = zcV (M2 d 56900 [.ref a0] h) (fun h2 => some (.inl none, h2)) () := by
  refine (g_aload_nH c57902 dJ16_init_3_0 rfl).trans ?_
  refine (g_specialH (as := [.ref a0]) (rest := []) c57902 dJ16_init_3_1 rfl rfl rfl rfl rfl).trans ((jback_VH (κx := cX) (fun e h => jthrow_outH rfl)).trans (cV_cg fun h2 => ?_))
  exact g_returnH c57902 dJ16_init_3_4 rfl
theorem Y57902 {d : Nat} {a0 : Nat} (h : AH) (hr : jrecv 57902 [.ref a0] h = true) : M2 (d + 1) 57902 [.ref a0] h = G2 d 57902 0 [.ref a0] [] h := M2_eq rfl rfl hr rfl
/-! jdk/internal/misc/Unsafe.getLongUnaligned(Ljava/lang/Object;J)J -/
abbrev cJ18_getLongUnaligned : ByteArray := prog_90_method_334_code
def dkwJ18_getLongUnaligned_7 : List UInt8 := [182, 0, 39, 184, 2, 197, 173]
abbrev dktJ18_getLongUnaligned_7 : List UInt8 := dkwJ18_getLongUnaligned_7 ++ []
def dkwJ18_getLongUnaligned_6 : List UInt8 := [20, 2, 195, 97, 182, 0, 39, 42, 43, 32, 20, 2, 190, 97, 182, 0, 39, 42, 43, 32, 20, 2, 184, 97]
abbrev dktJ18_getLongUnaligned_6 : List UInt8 := dkwJ18_getLongUnaligned_6 ++ dktJ18_getLongUnaligned_7
def dkwJ18_getLongUnaligned_5 : List UInt8 := [43, 32, 20, 1, 93, 97, 182, 0, 39, 42, 43, 32, 20, 0, 205, 97, 182, 0, 39, 42, 43, 32]
abbrev dktJ18_getLongUnaligned_5 : List UInt8 := dkwJ18_getLongUnaligned_5 ++ dktJ18_getLongUnaligned_6
def dkwJ18_getLongUnaligned_4 : List UInt8 := [43, 32, 182, 0, 39, 42, 43, 32, 10, 97, 182, 0, 39, 42, 43, 32, 20, 0, 203, 97, 182, 0, 39, 42]
abbrev dktJ18_getLongUnaligned_4 : List UInt8 := dkwJ18_getLongUnaligned_4 ++ dktJ18_getLongUnaligned_5
def dkwJ18_getLongUnaligned_3 : List UInt8 := [43, 32, 20, 0, 205, 97, 182, 0, 47, 42, 43, 32, 20, 2, 190, 97, 182, 0, 47, 184, 2, 192, 173, 42]
abbrev dktJ18_getLongUnaligned_3 : List UInt8 := dkwJ18_getLongUnaligned_3 ++ dktJ18_getLongUnaligned_4
def dkwJ18_getLongUnaligned_2 : List UInt8 := [10, 127, 9, 148, 154, 0, 43, 42, 43, 32, 182, 0, 47, 42, 43, 32, 20, 0, 203, 97, 182, 0, 47, 42]
abbrev dktJ18_getLongUnaligned_2 : List UInt8 := dkwJ18_getLongUnaligned_2 ++ dktJ18_getLongUnaligned_3
def dkwJ18_getLongUnaligned_1 : List UInt8 := [154, 0, 23, 42, 43, 32, 182, 0, 17, 42, 43, 32, 20, 0, 205, 97, 182, 0, 17, 184, 2, 186, 173, 32]
abbrev dktJ18_getLongUnaligned_1 : List UInt8 := dkwJ18_getLongUnaligned_1 ++ dktJ18_getLongUnaligned_2
def dkwJ18_getLongUnaligned_0 : List UInt8 := [32, 20, 2, 184, 127, 9, 148, 154, 0, 10, 42, 43, 32, 182, 0, 27, 173, 32, 20, 1, 93, 127, 9, 148]
abbrev dktJ18_getLongUnaligned_0 : List UInt8 := dkwJ18_getLongUnaligned_0 ++ dktJ18_getLongUnaligned_1
theorem dksJ18_getLongUnaligned_0 : cJ18_getLongUnaligned.data.toList.drop 0 = dktJ18_getLongUnaligned_0 := by decide +kernel
theorem dksJ18_getLongUnaligned_1 : cJ18_getLongUnaligned.data.toList.drop 24 = dktJ18_getLongUnaligned_1 := dk_seg dksJ18_getLongUnaligned_0 24 rfl rfl
theorem dksJ18_getLongUnaligned_2 : cJ18_getLongUnaligned.data.toList.drop 48 = dktJ18_getLongUnaligned_2 := dk_seg dksJ18_getLongUnaligned_1 24 rfl rfl
theorem dksJ18_getLongUnaligned_3 : cJ18_getLongUnaligned.data.toList.drop 72 = dktJ18_getLongUnaligned_3 := dk_seg dksJ18_getLongUnaligned_2 24 rfl rfl
theorem dksJ18_getLongUnaligned_4 : cJ18_getLongUnaligned.data.toList.drop 96 = dktJ18_getLongUnaligned_4 := dk_seg dksJ18_getLongUnaligned_3 24 rfl rfl
theorem dksJ18_getLongUnaligned_5 : cJ18_getLongUnaligned.data.toList.drop 120 = dktJ18_getLongUnaligned_5 := dk_seg dksJ18_getLongUnaligned_4 24 rfl rfl
theorem dksJ18_getLongUnaligned_6 : cJ18_getLongUnaligned.data.toList.drop 142 = dktJ18_getLongUnaligned_6 := dk_seg dksJ18_getLongUnaligned_5 22 rfl rfl
theorem dksJ18_getLongUnaligned_7 : cJ18_getLongUnaligned.data.toList.drop 166 = dktJ18_getLongUnaligned_7 := dk_seg dksJ18_getLongUnaligned_6 24 rfl rfl
theorem dJ18_getLongUnaligned_0 : decode cJ18_getLongUnaligned 0 = .ok (.lload_n 2, 1) := dk_32 (dk_at dksJ18_getLongUnaligned_0 0 rfl rfl)
theorem dJ18_getLongUnaligned_1 : decode cJ18_getLongUnaligned 1 = .ok (.ldc2_w 696, 3) := dk_20 2 184 (dk_at dksJ18_getLongUnaligned_0 1 rfl rfl)
theorem dJ18_getLongUnaligned_4 : decode cJ18_getLongUnaligned 4 = .ok (.land, 1) := dk_127 (dk_at dksJ18_getLongUnaligned_0 4 rfl rfl)
theorem dJ18_getLongUnaligned_5 : decode cJ18_getLongUnaligned 5 = .ok (.lconst 0, 1) := dk_9 (dk_at dksJ18_getLongUnaligned_0 5 rfl rfl)
theorem dJ18_getLongUnaligned_6 : decode cJ18_getLongUnaligned 6 = .ok (.lcmp, 1) := dk_148 (dk_at dksJ18_getLongUnaligned_0 6 rfl rfl)
theorem dJ18_getLongUnaligned_7 : decode cJ18_getLongUnaligned 7 = .ok (.ifCond .ne 10, 3) := dk_154 0 10 (dk_at dksJ18_getLongUnaligned_0 7 rfl rfl)
theorem dJ18_getLongUnaligned_10 : decode cJ18_getLongUnaligned 10 = .ok (.aload_n 0, 1) := dk_42 (dk_at dksJ18_getLongUnaligned_0 10 rfl rfl)
theorem dJ18_getLongUnaligned_11 : decode cJ18_getLongUnaligned 11 = .ok (.aload_n 1, 1) := dk_43 (dk_at dksJ18_getLongUnaligned_0 11 rfl rfl)
theorem dJ18_getLongUnaligned_12 : decode cJ18_getLongUnaligned 12 = .ok (.lload_n 2, 1) := dk_32 (dk_at dksJ18_getLongUnaligned_0 12 rfl rfl)
theorem dJ18_getLongUnaligned_13 : decode cJ18_getLongUnaligned 13 = .ok (.invokevirtual 27, 3) := dk_182 0 27 (dk_at dksJ18_getLongUnaligned_0 13 rfl rfl)
theorem dJ18_getLongUnaligned_16 : decode cJ18_getLongUnaligned 16 = .ok (.lreturn, 1) := dk_173 (dk_at dksJ18_getLongUnaligned_0 16 rfl rfl)
theorem dJ18_getLongUnaligned_17 : decode cJ18_getLongUnaligned 17 = .ok (.lload_n 2, 1) := dk_32 (dk_at dksJ18_getLongUnaligned_0 17 rfl rfl)
theorem dJ18_getLongUnaligned_18 : decode cJ18_getLongUnaligned 18 = .ok (.ldc2_w 349, 3) := dk_20 1 93 (dk_at dksJ18_getLongUnaligned_0 18 rfl rfl)
theorem dJ18_getLongUnaligned_21 : decode cJ18_getLongUnaligned 21 = .ok (.land, 1) := dk_127 (dk_at dksJ18_getLongUnaligned_0 21 rfl rfl)
theorem dJ18_getLongUnaligned_22 : decode cJ18_getLongUnaligned 22 = .ok (.lconst 0, 1) := dk_9 (dk_at dksJ18_getLongUnaligned_0 22 rfl rfl)
theorem dJ18_getLongUnaligned_23 : decode cJ18_getLongUnaligned 23 = .ok (.lcmp, 1) := dk_148 (dk_at dksJ18_getLongUnaligned_0 23 rfl rfl)
theorem dJ18_getLongUnaligned_24 : decode cJ18_getLongUnaligned 24 = .ok (.ifCond .ne 23, 3) := dk_154 0 23 (dk_at dksJ18_getLongUnaligned_1 0 rfl rfl)
theorem dJ18_getLongUnaligned_27 : decode cJ18_getLongUnaligned 27 = .ok (.aload_n 0, 1) := dk_42 (dk_at dksJ18_getLongUnaligned_1 3 rfl rfl)
theorem dJ18_getLongUnaligned_28 : decode cJ18_getLongUnaligned 28 = .ok (.aload_n 1, 1) := dk_43 (dk_at dksJ18_getLongUnaligned_1 4 rfl rfl)
theorem dJ18_getLongUnaligned_29 : decode cJ18_getLongUnaligned 29 = .ok (.lload_n 2, 1) := dk_32 (dk_at dksJ18_getLongUnaligned_1 5 rfl rfl)
theorem dJ18_getLongUnaligned_30 : decode cJ18_getLongUnaligned 30 = .ok (.invokevirtual 17, 3) := dk_182 0 17 (dk_at dksJ18_getLongUnaligned_1 6 rfl rfl)
theorem dJ18_getLongUnaligned_33 : decode cJ18_getLongUnaligned 33 = .ok (.aload_n 0, 1) := dk_42 (dk_at dksJ18_getLongUnaligned_1 9 rfl rfl)
theorem dJ18_getLongUnaligned_34 : decode cJ18_getLongUnaligned 34 = .ok (.aload_n 1, 1) := dk_43 (dk_at dksJ18_getLongUnaligned_1 10 rfl rfl)
theorem dJ18_getLongUnaligned_35 : decode cJ18_getLongUnaligned 35 = .ok (.lload_n 2, 1) := dk_32 (dk_at dksJ18_getLongUnaligned_1 11 rfl rfl)
theorem dJ18_getLongUnaligned_36 : decode cJ18_getLongUnaligned 36 = .ok (.ldc2_w 205, 3) := dk_20 0 205 (dk_at dksJ18_getLongUnaligned_1 12 rfl rfl)
theorem dJ18_getLongUnaligned_39 : decode cJ18_getLongUnaligned 39 = .ok (.ladd, 1) := dk_97 (dk_at dksJ18_getLongUnaligned_1 15 rfl rfl)
theorem dJ18_getLongUnaligned_40 : decode cJ18_getLongUnaligned 40 = .ok (.invokevirtual 17, 3) := dk_182 0 17 (dk_at dksJ18_getLongUnaligned_1 16 rfl rfl)
theorem dJ18_getLongUnaligned_43 : decode cJ18_getLongUnaligned 43 = .ok (.invokestatic 698, 3) := dk_184 2 186 (dk_at dksJ18_getLongUnaligned_1 19 rfl rfl)
theorem dJ18_getLongUnaligned_46 : decode cJ18_getLongUnaligned 46 = .ok (.lreturn, 1) := dk_173 (dk_at dksJ18_getLongUnaligned_1 22 rfl rfl)
theorem dJ18_getLongUnaligned_47 : decode cJ18_getLongUnaligned 47 = .ok (.lload_n 2, 1) := dk_32 (dk_at dksJ18_getLongUnaligned_1 23 rfl rfl)
theorem dJ18_getLongUnaligned_48 : decode cJ18_getLongUnaligned 48 = .ok (.lconst 1, 1) := dk_10 (dk_at dksJ18_getLongUnaligned_2 0 rfl rfl)
theorem dJ18_getLongUnaligned_49 : decode cJ18_getLongUnaligned 49 = .ok (.land, 1) := dk_127 (dk_at dksJ18_getLongUnaligned_2 1 rfl rfl)
theorem dJ18_getLongUnaligned_50 : decode cJ18_getLongUnaligned 50 = .ok (.lconst 0, 1) := dk_9 (dk_at dksJ18_getLongUnaligned_2 2 rfl rfl)
theorem dJ18_getLongUnaligned_51 : decode cJ18_getLongUnaligned 51 = .ok (.lcmp, 1) := dk_148 (dk_at dksJ18_getLongUnaligned_2 3 rfl rfl)
theorem dJ18_getLongUnaligned_52 : decode cJ18_getLongUnaligned 52 = .ok (.ifCond .ne 43, 3) := dk_154 0 43 (dk_at dksJ18_getLongUnaligned_2 4 rfl rfl)
theorem dJ18_getLongUnaligned_55 : decode cJ18_getLongUnaligned 55 = .ok (.aload_n 0, 1) := dk_42 (dk_at dksJ18_getLongUnaligned_2 7 rfl rfl)
theorem dJ18_getLongUnaligned_56 : decode cJ18_getLongUnaligned 56 = .ok (.aload_n 1, 1) := dk_43 (dk_at dksJ18_getLongUnaligned_2 8 rfl rfl)
theorem dJ18_getLongUnaligned_57 : decode cJ18_getLongUnaligned 57 = .ok (.lload_n 2, 1) := dk_32 (dk_at dksJ18_getLongUnaligned_2 9 rfl rfl)
theorem dJ18_getLongUnaligned_58 : decode cJ18_getLongUnaligned 58 = .ok (.invokevirtual 47, 3) := dk_182 0 47 (dk_at dksJ18_getLongUnaligned_2 10 rfl rfl)
theorem dJ18_getLongUnaligned_61 : decode cJ18_getLongUnaligned 61 = .ok (.aload_n 0, 1) := dk_42 (dk_at dksJ18_getLongUnaligned_2 13 rfl rfl)
theorem dJ18_getLongUnaligned_62 : decode cJ18_getLongUnaligned 62 = .ok (.aload_n 1, 1) := dk_43 (dk_at dksJ18_getLongUnaligned_2 14 rfl rfl)
theorem dJ18_getLongUnaligned_63 : decode cJ18_getLongUnaligned 63 = .ok (.lload_n 2, 1) := dk_32 (dk_at dksJ18_getLongUnaligned_2 15 rfl rfl)
theorem dJ18_getLongUnaligned_64 : decode cJ18_getLongUnaligned 64 = .ok (.ldc2_w 203, 3) := dk_20 0 203 (dk_at dksJ18_getLongUnaligned_2 16 rfl rfl)
theorem dJ18_getLongUnaligned_67 : decode cJ18_getLongUnaligned 67 = .ok (.ladd, 1) := dk_97 (dk_at dksJ18_getLongUnaligned_2 19 rfl rfl)
theorem dJ18_getLongUnaligned_68 : decode cJ18_getLongUnaligned 68 = .ok (.invokevirtual 47, 3) := dk_182 0 47 (dk_at dksJ18_getLongUnaligned_2 20 rfl rfl)
theorem dJ18_getLongUnaligned_71 : decode cJ18_getLongUnaligned 71 = .ok (.aload_n 0, 1) := dk_42 (dk_at dksJ18_getLongUnaligned_2 23 rfl rfl)
theorem dJ18_getLongUnaligned_72 : decode cJ18_getLongUnaligned 72 = .ok (.aload_n 1, 1) := dk_43 (dk_at dksJ18_getLongUnaligned_3 0 rfl rfl)
theorem dJ18_getLongUnaligned_73 : decode cJ18_getLongUnaligned 73 = .ok (.lload_n 2, 1) := dk_32 (dk_at dksJ18_getLongUnaligned_3 1 rfl rfl)
theorem dJ18_getLongUnaligned_74 : decode cJ18_getLongUnaligned 74 = .ok (.ldc2_w 205, 3) := dk_20 0 205 (dk_at dksJ18_getLongUnaligned_3 2 rfl rfl)
theorem dJ18_getLongUnaligned_77 : decode cJ18_getLongUnaligned 77 = .ok (.ladd, 1) := dk_97 (dk_at dksJ18_getLongUnaligned_3 5 rfl rfl)
theorem dJ18_getLongUnaligned_78 : decode cJ18_getLongUnaligned 78 = .ok (.invokevirtual 47, 3) := dk_182 0 47 (dk_at dksJ18_getLongUnaligned_3 6 rfl rfl)
theorem dJ18_getLongUnaligned_81 : decode cJ18_getLongUnaligned 81 = .ok (.aload_n 0, 1) := dk_42 (dk_at dksJ18_getLongUnaligned_3 9 rfl rfl)
theorem dJ18_getLongUnaligned_82 : decode cJ18_getLongUnaligned 82 = .ok (.aload_n 1, 1) := dk_43 (dk_at dksJ18_getLongUnaligned_3 10 rfl rfl)
theorem dJ18_getLongUnaligned_83 : decode cJ18_getLongUnaligned 83 = .ok (.lload_n 2, 1) := dk_32 (dk_at dksJ18_getLongUnaligned_3 11 rfl rfl)
theorem dJ18_getLongUnaligned_84 : decode cJ18_getLongUnaligned 84 = .ok (.ldc2_w 702, 3) := dk_20 2 190 (dk_at dksJ18_getLongUnaligned_3 12 rfl rfl)
theorem dJ18_getLongUnaligned_87 : decode cJ18_getLongUnaligned 87 = .ok (.ladd, 1) := dk_97 (dk_at dksJ18_getLongUnaligned_3 15 rfl rfl)
theorem dJ18_getLongUnaligned_88 : decode cJ18_getLongUnaligned 88 = .ok (.invokevirtual 47, 3) := dk_182 0 47 (dk_at dksJ18_getLongUnaligned_3 16 rfl rfl)
theorem dJ18_getLongUnaligned_91 : decode cJ18_getLongUnaligned 91 = .ok (.invokestatic 704, 3) := dk_184 2 192 (dk_at dksJ18_getLongUnaligned_3 19 rfl rfl)
theorem dJ18_getLongUnaligned_94 : decode cJ18_getLongUnaligned 94 = .ok (.lreturn, 1) := dk_173 (dk_at dksJ18_getLongUnaligned_3 22 rfl rfl)
theorem dJ18_getLongUnaligned_95 : decode cJ18_getLongUnaligned 95 = .ok (.aload_n 0, 1) := dk_42 (dk_at dksJ18_getLongUnaligned_3 23 rfl rfl)
theorem dJ18_getLongUnaligned_96 : decode cJ18_getLongUnaligned 96 = .ok (.aload_n 1, 1) := dk_43 (dk_at dksJ18_getLongUnaligned_4 0 rfl rfl)
theorem dJ18_getLongUnaligned_97 : decode cJ18_getLongUnaligned 97 = .ok (.lload_n 2, 1) := dk_32 (dk_at dksJ18_getLongUnaligned_4 1 rfl rfl)
theorem dJ18_getLongUnaligned_98 : decode cJ18_getLongUnaligned 98 = .ok (.invokevirtual 39, 3) := dk_182 0 39 (dk_at dksJ18_getLongUnaligned_4 2 rfl rfl)
theorem dJ18_getLongUnaligned_101 : decode cJ18_getLongUnaligned 101 = .ok (.aload_n 0, 1) := dk_42 (dk_at dksJ18_getLongUnaligned_4 5 rfl rfl)
theorem dJ18_getLongUnaligned_102 : decode cJ18_getLongUnaligned 102 = .ok (.aload_n 1, 1) := dk_43 (dk_at dksJ18_getLongUnaligned_4 6 rfl rfl)
theorem dJ18_getLongUnaligned_103 : decode cJ18_getLongUnaligned 103 = .ok (.lload_n 2, 1) := dk_32 (dk_at dksJ18_getLongUnaligned_4 7 rfl rfl)
theorem dJ18_getLongUnaligned_104 : decode cJ18_getLongUnaligned 104 = .ok (.lconst 1, 1) := dk_10 (dk_at dksJ18_getLongUnaligned_4 8 rfl rfl)
theorem dJ18_getLongUnaligned_105 : decode cJ18_getLongUnaligned 105 = .ok (.ladd, 1) := dk_97 (dk_at dksJ18_getLongUnaligned_4 9 rfl rfl)
theorem dJ18_getLongUnaligned_106 : decode cJ18_getLongUnaligned 106 = .ok (.invokevirtual 39, 3) := dk_182 0 39 (dk_at dksJ18_getLongUnaligned_4 10 rfl rfl)
theorem dJ18_getLongUnaligned_109 : decode cJ18_getLongUnaligned 109 = .ok (.aload_n 0, 1) := dk_42 (dk_at dksJ18_getLongUnaligned_4 13 rfl rfl)
theorem dJ18_getLongUnaligned_110 : decode cJ18_getLongUnaligned 110 = .ok (.aload_n 1, 1) := dk_43 (dk_at dksJ18_getLongUnaligned_4 14 rfl rfl)
theorem dJ18_getLongUnaligned_111 : decode cJ18_getLongUnaligned 111 = .ok (.lload_n 2, 1) := dk_32 (dk_at dksJ18_getLongUnaligned_4 15 rfl rfl)
theorem dJ18_getLongUnaligned_112 : decode cJ18_getLongUnaligned 112 = .ok (.ldc2_w 203, 3) := dk_20 0 203 (dk_at dksJ18_getLongUnaligned_4 16 rfl rfl)
theorem dJ18_getLongUnaligned_115 : decode cJ18_getLongUnaligned 115 = .ok (.ladd, 1) := dk_97 (dk_at dksJ18_getLongUnaligned_4 19 rfl rfl)
theorem dJ18_getLongUnaligned_116 : decode cJ18_getLongUnaligned 116 = .ok (.invokevirtual 39, 3) := dk_182 0 39 (dk_at dksJ18_getLongUnaligned_4 20 rfl rfl)
theorem dJ18_getLongUnaligned_119 : decode cJ18_getLongUnaligned 119 = .ok (.aload_n 0, 1) := dk_42 (dk_at dksJ18_getLongUnaligned_4 23 rfl rfl)
theorem dJ18_getLongUnaligned_120 : decode cJ18_getLongUnaligned 120 = .ok (.aload_n 1, 1) := dk_43 (dk_at dksJ18_getLongUnaligned_5 0 rfl rfl)
theorem dJ18_getLongUnaligned_121 : decode cJ18_getLongUnaligned 121 = .ok (.lload_n 2, 1) := dk_32 (dk_at dksJ18_getLongUnaligned_5 1 rfl rfl)
theorem dJ18_getLongUnaligned_122 : decode cJ18_getLongUnaligned 122 = .ok (.ldc2_w 349, 3) := dk_20 1 93 (dk_at dksJ18_getLongUnaligned_5 2 rfl rfl)
theorem dJ18_getLongUnaligned_125 : decode cJ18_getLongUnaligned 125 = .ok (.ladd, 1) := dk_97 (dk_at dksJ18_getLongUnaligned_5 5 rfl rfl)
theorem dJ18_getLongUnaligned_126 : decode cJ18_getLongUnaligned 126 = .ok (.invokevirtual 39, 3) := dk_182 0 39 (dk_at dksJ18_getLongUnaligned_5 6 rfl rfl)
theorem dJ18_getLongUnaligned_129 : decode cJ18_getLongUnaligned 129 = .ok (.aload_n 0, 1) := dk_42 (dk_at dksJ18_getLongUnaligned_5 9 rfl rfl)
theorem dJ18_getLongUnaligned_130 : decode cJ18_getLongUnaligned 130 = .ok (.aload_n 1, 1) := dk_43 (dk_at dksJ18_getLongUnaligned_5 10 rfl rfl)
theorem dJ18_getLongUnaligned_131 : decode cJ18_getLongUnaligned 131 = .ok (.lload_n 2, 1) := dk_32 (dk_at dksJ18_getLongUnaligned_5 11 rfl rfl)
theorem dJ18_getLongUnaligned_132 : decode cJ18_getLongUnaligned 132 = .ok (.ldc2_w 205, 3) := dk_20 0 205 (dk_at dksJ18_getLongUnaligned_5 12 rfl rfl)
theorem dJ18_getLongUnaligned_135 : decode cJ18_getLongUnaligned 135 = .ok (.ladd, 1) := dk_97 (dk_at dksJ18_getLongUnaligned_5 15 rfl rfl)
theorem dJ18_getLongUnaligned_136 : decode cJ18_getLongUnaligned 136 = .ok (.invokevirtual 39, 3) := dk_182 0 39 (dk_at dksJ18_getLongUnaligned_5 16 rfl rfl)
theorem dJ18_getLongUnaligned_139 : decode cJ18_getLongUnaligned 139 = .ok (.aload_n 0, 1) := dk_42 (dk_at dksJ18_getLongUnaligned_5 19 rfl rfl)
theorem dJ18_getLongUnaligned_140 : decode cJ18_getLongUnaligned 140 = .ok (.aload_n 1, 1) := dk_43 (dk_at dksJ18_getLongUnaligned_5 20 rfl rfl)
theorem dJ18_getLongUnaligned_141 : decode cJ18_getLongUnaligned 141 = .ok (.lload_n 2, 1) := dk_32 (dk_at dksJ18_getLongUnaligned_5 21 rfl rfl)
theorem dJ18_getLongUnaligned_142 : decode cJ18_getLongUnaligned 142 = .ok (.ldc2_w 707, 3) := dk_20 2 195 (dk_at dksJ18_getLongUnaligned_6 0 rfl rfl)
theorem dJ18_getLongUnaligned_145 : decode cJ18_getLongUnaligned 145 = .ok (.ladd, 1) := dk_97 (dk_at dksJ18_getLongUnaligned_6 3 rfl rfl)
theorem dJ18_getLongUnaligned_146 : decode cJ18_getLongUnaligned 146 = .ok (.invokevirtual 39, 3) := dk_182 0 39 (dk_at dksJ18_getLongUnaligned_6 4 rfl rfl)
theorem dJ18_getLongUnaligned_149 : decode cJ18_getLongUnaligned 149 = .ok (.aload_n 0, 1) := dk_42 (dk_at dksJ18_getLongUnaligned_6 7 rfl rfl)
theorem dJ18_getLongUnaligned_150 : decode cJ18_getLongUnaligned 150 = .ok (.aload_n 1, 1) := dk_43 (dk_at dksJ18_getLongUnaligned_6 8 rfl rfl)
theorem dJ18_getLongUnaligned_151 : decode cJ18_getLongUnaligned 151 = .ok (.lload_n 2, 1) := dk_32 (dk_at dksJ18_getLongUnaligned_6 9 rfl rfl)
theorem dJ18_getLongUnaligned_152 : decode cJ18_getLongUnaligned 152 = .ok (.ldc2_w 702, 3) := dk_20 2 190 (dk_at dksJ18_getLongUnaligned_6 10 rfl rfl)
theorem dJ18_getLongUnaligned_155 : decode cJ18_getLongUnaligned 155 = .ok (.ladd, 1) := dk_97 (dk_at dksJ18_getLongUnaligned_6 13 rfl rfl)
theorem dJ18_getLongUnaligned_156 : decode cJ18_getLongUnaligned 156 = .ok (.invokevirtual 39, 3) := dk_182 0 39 (dk_at dksJ18_getLongUnaligned_6 14 rfl rfl)
theorem dJ18_getLongUnaligned_159 : decode cJ18_getLongUnaligned 159 = .ok (.aload_n 0, 1) := dk_42 (dk_at dksJ18_getLongUnaligned_6 17 rfl rfl)
theorem dJ18_getLongUnaligned_160 : decode cJ18_getLongUnaligned 160 = .ok (.aload_n 1, 1) := dk_43 (dk_at dksJ18_getLongUnaligned_6 18 rfl rfl)
theorem dJ18_getLongUnaligned_161 : decode cJ18_getLongUnaligned 161 = .ok (.lload_n 2, 1) := dk_32 (dk_at dksJ18_getLongUnaligned_6 19 rfl rfl)
theorem dJ18_getLongUnaligned_162 : decode cJ18_getLongUnaligned 162 = .ok (.ldc2_w 696, 3) := dk_20 2 184 (dk_at dksJ18_getLongUnaligned_6 20 rfl rfl)
theorem dJ18_getLongUnaligned_165 : decode cJ18_getLongUnaligned 165 = .ok (.ladd, 1) := dk_97 (dk_at dksJ18_getLongUnaligned_6 23 rfl rfl)
theorem dJ18_getLongUnaligned_166 : decode cJ18_getLongUnaligned 166 = .ok (.invokevirtual 39, 3) := dk_182 0 39 (dk_at dksJ18_getLongUnaligned_7 0 rfl rfl)
theorem dJ18_getLongUnaligned_169 : decode cJ18_getLongUnaligned 169 = .ok (.invokestatic 709, 3) := dk_184 2 197 (dk_at dksJ18_getLongUnaligned_7 3 rfl rfl)
theorem dJ18_getLongUnaligned_172 : decode cJ18_getLongUnaligned 172 = .ok (.lreturn, 1) := dk_173 (dk_at dksJ18_getLongUnaligned_7 6 rfl rfl)
theorem c59001 : jtCode 59001 = cJ18_getLongUnaligned := rfl
theorem F59001_0 (d : Nat) (a0 : Nat) (v1 : Value) (j2 : Int64) (h : AH) : G2 d 59001 0 [.ref a0, v1, .long j2, jhalf] [] h = if (lcm (j2 &&& 7) 0) = 0 then (zkR v1 (zcJ (M2 d 90003 [.ref a0, v1, .long j2] h) (fun x1 h2 => some (.inl (some (.long x1)), h2)) ()) ()) else (if (lcm (j2 &&& 3) 0) = 0 then (zkR v1 (G2 d 59001 30 [.ref a0, v1, .long j2, jhalf] [.long j2, v1, .ref a0] h) ()) else (if (lcm (j2 &&& 1) 0) = 0 then (zkR v1 (G2 d 59001 58 [.ref a0, v1, .long j2, jhalf] [.long j2, v1, .ref a0] h) ()) else (zkR v1 (G2 d 59001 98 [.ref a0, v1, .long j2, jhalf] [.long j2, v1, .ref a0] h) ()))) := by
  refine (g_lload_nH c59001 dJ18_getLongUnaligned_0 rfl rfl).trans ?_
  refine (g_ldc2H (x := 7) c59001 dJ18_getLongUnaligned_1 rfl).trans ?_
  refine (g_landH c59001 dJ18_getLongUnaligned_4).trans ?_
  refine (g_lconstH (x := 0) c59001 dJ18_getLongUnaligned_5 rfl).trans ?_
  refine (g_lcmpH c59001 dJ18_getLongUnaligned_6).trans ?_
  refine (g_if_neH (tgt := 17) c59001 dJ18_getLongUnaligned_7 rfl).trans (if_cg ?_ ?_)
  · skip
    refine (g_aload_nH c59001 dJ18_getLongUnaligned_10 rfl).trans ?_
    refine (g_aload_nVH c59001 dJ18_getLongUnaligned_11 rfl).trans (ckR_cg ?_)
    refine (g_lload_nH c59001 dJ18_getLongUnaligned_12 rfl rfl).trans ?_
    refine (g_virtualH (as := [.ref a0, v1, .long j2]) (rest := []) c59001 dJ18_getLongUnaligned_13 rfl rfl rfl rfl rfl).trans ((jback_JH (κx := cX) (fun e h => jthrow_outH rfl)).trans (cJ_cg fun x1 h2 => ?_))
    exact g_lreturnH c59001 dJ18_getLongUnaligned_16 rfl
  · skip
    refine (g_lload_nH c59001 dJ18_getLongUnaligned_17 rfl rfl).trans ?_
    refine (g_ldc2H (x := 3) c59001 dJ18_getLongUnaligned_18 rfl).trans ?_
    refine (g_landH c59001 dJ18_getLongUnaligned_21).trans ?_
    refine (g_lconstH (x := 0) c59001 dJ18_getLongUnaligned_22 rfl).trans ?_
    refine (g_lcmpH c59001 dJ18_getLongUnaligned_23).trans ?_
    refine (g_if_neH (tgt := 47) c59001 dJ18_getLongUnaligned_24 rfl).trans (if_cg ?_ ?_)
    · skip
      refine (g_aload_nH c59001 dJ18_getLongUnaligned_27 rfl).trans ?_
      refine (g_aload_nVH c59001 dJ18_getLongUnaligned_28 rfl).trans (ckR_cg ?_)
      refine (g_lload_nH c59001 dJ18_getLongUnaligned_29 rfl rfl).trans ?_
      rfl
    · skip
      refine (g_lload_nH c59001 dJ18_getLongUnaligned_47 rfl rfl).trans ?_
      refine (g_lconstH (x := 1) c59001 dJ18_getLongUnaligned_48 rfl).trans ?_
      refine (g_landH c59001 dJ18_getLongUnaligned_49).trans ?_
      refine (g_lconstH (x := 0) c59001 dJ18_getLongUnaligned_50 rfl).trans ?_
      refine (g_lcmpH c59001 dJ18_getLongUnaligned_51).trans ?_
      refine (g_if_neH (tgt := 95) c59001 dJ18_getLongUnaligned_52 rfl).trans (if_cg ?_ ?_)
      · skip
        refine (g_aload_nH c59001 dJ18_getLongUnaligned_55 rfl).trans ?_
        refine (g_aload_nVH c59001 dJ18_getLongUnaligned_56 rfl).trans (ckR_cg ?_)
        refine (g_lload_nH c59001 dJ18_getLongUnaligned_57 rfl rfl).trans ?_
        rfl
      · skip
        refine (g_aload_nH c59001 dJ18_getLongUnaligned_95 rfl).trans ?_
        refine (g_aload_nVH c59001 dJ18_getLongUnaligned_96 rfl).trans (ckR_cg ?_)
        refine (g_lload_nH c59001 dJ18_getLongUnaligned_97 rfl rfl).trans ?_
        rfl
theorem Y59001 {d : Nat} {a0 : Nat} {v1 : Value} {j2 : Int64} (h : AH) (hv1 : isR v1 = true) (hr : jrecv 59001 [.ref a0, v1, .long j2] h = true) : M2 (d + 1) 59001 [.ref a0, v1, .long j2] h = G2 d 59001 0 [.ref a0, v1, .long j2, jhalf] [] h := M2_eq rfl rfl hr (by simp only [jent, jargL_R hv1, jargL]; rfl)
/-! java/lang/Number.<init>()V -/
abbrev cJ19_init : ByteArray := prog_49_method_1_code
theorem dJ19_init_0 : decode cJ19_init 0 = .ok (.aload_n 0, 1) := by decide +kernel
theorem dJ19_init_1 : decode cJ19_init 1 = .ok (.invokespecial 1, 3) := by decide +kernel
theorem dJ19_init_4 : decode cJ19_init 4 = .ok (.return_, 1) := by decide +kernel
theorem c60900 : jtCode 60900 = cJ19_init := rfl
theorem F60900_0 (d : Nat) (a0 : Nat) (h : AH) : G2 d 60900 0 [.ref a0] [] h = zcV (M2 d 90000 [.ref a0] h) (fun h2 => some (.inl none, h2)) () := by
  refine (g_aload_nH c60900 dJ19_init_0 rfl).trans ?_
  refine (g_specialH (as := [.ref a0]) (rest := []) c60900 dJ19_init_1 rfl rfl rfl rfl rfl).trans ((jback_VH (κx := cX) (fun e h => jthrow_outH rfl)).trans (cV_cg fun h2 => ?_))
  exact g_returnH c60900 dJ19_init_4 rfl
theorem Y60900 {d : Nat} {a0 : Nat} (h : AH) (hr : jrecv 60900 [.ref a0] h = true) : M2 (d + 1) 60900 [.ref a0] h = G2 d 60900 0 [.ref a0] [] h := M2_eq rfl rfl hr rfl
/-! java/lang/Long.numberOfTrailingZeros(J)I -/
theorem F61002_0 (d : Nat) (j0 : Int64) (h : AH) : G2 d 61002 0 [.long j0, jhalf, jno] [] h = if ((j0).toInt32) = 0 then (zcI (M2 d 62007 [.int ((((j0.toUInt64 >>> ((32 : Int32).toInt64.toUInt64 &&& 63)).toInt64)).toInt32)] h) (fun x1 h2 => some (.inl (some (.int (32 + x1))), h2)) ()) else (zcI (M2 d 62007 [.int ((j0).toInt32)] h) (fun x3 h4 => some (.inl (some (.int x3)), h4)) ()) := by
  refine (g_lload_nH c61002 dJ20_numberOfTrailingZeros_0 rfl rfl).trans ?_
  refine (g_l2iH c61002 dJ20_numberOfTrailingZeros_1).trans ?_
  refine (g_istore_nH (L' := [.long j0, jhalf, .int ((j0).toInt32)]) c61002 dJ20_numberOfTrailingZeros_2 rfl rfl).trans ?_
  refine (g_iload_nH c61002 dJ20_numberOfTrailingZeros_3 rfl).trans ?_
  refine (g_if_neH (tgt := 21) c61002 dJ20_numberOfTrailingZeros_4 rfl).trans (if_cg ?_ ?_)
  · skip
    refine (g_bipushH (x := 32) c61002 dJ20_numberOfTrailingZeros_7 rfl).trans ?_
    refine (g_lload_nH c61002 dJ20_numberOfTrailingZeros_9 rfl rfl).trans ?_
    refine (g_bipushH (x := 32) c61002 dJ20_numberOfTrailingZeros_10 rfl).trans ?_
    refine (g_lushrH c61002 dJ20_numberOfTrailingZeros_12).trans ?_
    refine (g_l2iH c61002 dJ20_numberOfTrailingZeros_13).trans ?_
    refine (g_staticH (as := [.int ((((j0.toUInt64 >>> ((32 : Int32).toInt64.toUInt64 &&& 63)).toInt64)).toInt32)]) (rest := [.int 32]) c61002 dJ20_numberOfTrailingZeros_14 rfl rfl rfl rfl rfl).trans ((jback_IH (κx := cX) (fun e h => jthrow_outH rfl)).trans (cI_cg fun x1 h2 => ?_))
    refine (g_iaddH c61002 dJ20_numberOfTrailingZeros_17).trans ?_
    refine (g_gotoH (tgt := 25) c61002 dJ20_numberOfTrailingZeros_18 rfl).trans ?_
    exact g_ireturnH c61002 dJ20_numberOfTrailingZeros_25 rfl
  · skip
    refine (g_iload_nH c61002 dJ20_numberOfTrailingZeros_21 rfl).trans ?_
    refine (g_staticH (as := [.int ((j0).toInt32)]) (rest := []) c61002 dJ20_numberOfTrailingZeros_22 rfl rfl rfl rfl rfl).trans ((jback_IH (κx := cX) (fun e h => jthrow_outH rfl)).trans (cI_cg fun x3 h4 => ?_))
    exact g_ireturnH c61002 dJ20_numberOfTrailingZeros_25 rfl
theorem Y61002 {d : Nat} {j0 : Int64} (h : AH) : M2 (d + 1) 61002 [.long j0] h = G2 d 61002 0 [.long j0, jhalf, jno] [] h := M2_eq rfl rfl rfl rfl
/-! java/lang/Integer.intValue()I -/
abbrev cJ21_intValue : ByteArray := prog_44_method_27_code
theorem dJ21_intValue_0 : decode cJ21_intValue 0 = .ok (.aload_n 0, 1) := by decide +kernel
theorem dJ21_intValue_1 : decode cJ21_intValue 1 = .ok (.getfield 205, 3) := by decide +kernel
theorem dJ21_intValue_4 : decode cJ21_intValue 4 = .ok (.ireturn, 1) := by decide +kernel
theorem c62005 : jtCode 62005 = cJ21_intValue := rfl
theorem F62005_0 (d : Nat) (a0 : Nat) (h : AH) : G2 d 62005 0 [.ref a0] [] h = zpI (jf (jc h (.ref a0)) [62, 162] 0) (fun x1 => some (.inl (some (.int x1)), h)) () := by
  refine (g_aload_nH c62005 dJ21_intValue_0 rfl).trans ?_
  refine (g_getIH c62005 dJ21_intValue_1 rfl rfl).trans (rI_cg fun x1 => ?_)
  exact g_ireturnH c62005 dJ21_intValue_4 rfl
theorem Y62005 {d : Nat} {a0 : Nat} (h : AH) (hr : jrecv 62005 [.ref a0] h = true) : M2 (d + 1) 62005 [.ref a0] h = G2 d 62005 0 [.ref a0] [] h := M2_eq rfl rfl hr rfl
/-! java/lang/Integer.numberOfTrailingZeros(I)I -/
theorem F62007_0 (d : Nat) (i0 : Int32) (h : AH) : G2 d 62007 0 [.int i0, jno] [] h = if 0 < ((i0 ^^^ (-1)) &&& (i0 - 1)) then (if ((i0 ^^^ (-1)) &&& (i0 - 1)) ≤ 65536 then (G2 d 62007 34 [.int ((i0 ^^^ (-1)) &&& (i0 - 1)), .int 1] [] h) else (G2 d 62007 34 [.int ((((i0 ^^^ (-1)) &&& (i0 - 1)).toUInt32 >>> ((16 : Int32).toUInt32 &&& Int32.toUInt32 31)).toInt32), .int (1 + 16)] [] h)) else (some (.inl (some (.int (((i0 ^^^ (-1)) &&& (i0 - 1)) &&& 32))), h)) := by
  refine (g_iload_nH c62007 dJ21_numberOfTrailingZeros_0 rfl).trans ?_
  refine (g_iconstH (x := (-1)) c62007 dJ21_numberOfTrailingZeros_1 rfl).trans ?_
  refine (g_ixorH c62007 dJ21_numberOfTrailingZeros_2).trans ?_
  refine (g_iload_nH c62007 dJ21_numberOfTrailingZeros_3 rfl).trans ?_
  refine (g_iconstH (x := 1) c62007 dJ21_numberOfTrailingZeros_4 rfl).trans ?_
  refine (g_isubH c62007 dJ21_numberOfTrailingZeros_5).trans ?_
  refine (g_iandH c62007 dJ21_numberOfTrailingZeros_6).trans ?_
  refine (g_istore_nH (L' := [.int ((i0 ^^^ (-1)) &&& (i0 - 1)), jno]) c62007 dJ21_numberOfTrailingZeros_7 rfl rfl).trans ?_
  refine (g_iload_nH c62007 dJ21_numberOfTrailingZeros_8 rfl).trans ?_
  refine (g_if_gtH (tgt := 17) c62007 dJ21_numberOfTrailingZeros_9 rfl).trans (if_cg ?_ ?_)
  · skip
    refine (g_iconstH (x := 1) c62007 dJ21_numberOfTrailingZeros_17 rfl).trans ?_
    refine (g_istore_nH (L' := [.int ((i0 ^^^ (-1)) &&& (i0 - 1)), .int 1]) c62007 dJ21_numberOfTrailingZeros_18 rfl rfl).trans ?_
    refine (g_iload_nH c62007 dJ21_numberOfTrailingZeros_19 rfl).trans ?_
    refine (g_ldcwIH (x := 65536) c62007 dJ21_numberOfTrailingZeros_20 rfl rfl).trans ?_
    refine (g_icmp_leH (tgt := 34) c62007 dJ21_numberOfTrailingZeros_23 rfl).trans (if_cg ?_ ?_)
    · skip
      rfl
    · skip
      refine (g_iincH (c := 16) (L' := [.int ((i0 ^^^ (-1)) &&& (i0 - 1)), .int (1 + 16)]) c62007 dJ21_numberOfTrailingZeros_26 rfl rfl rfl rfl).trans ?_
      refine (g_iload_nH c62007 dJ21_numberOfTrailingZeros_29 rfl).trans ?_
      refine (g_bipushH (x := 16) c62007 dJ21_numberOfTrailingZeros_30 rfl).trans ?_
      refine (g_iushrH c62007 dJ21_numberOfTrailingZeros_32).trans ?_
      refine (g_istore_nH (L' := [.int ((((i0 ^^^ (-1)) &&& (i0 - 1)).toUInt32 >>> ((16 : Int32).toUInt32 &&& Int32.toUInt32 31)).toInt32), .int (1 + 16)]) c62007 dJ21_numberOfTrailingZeros_33 rfl rfl).trans ?_
      rfl
  · skip
    refine (g_iload_nH c62007 dJ21_numberOfTrailingZeros_12 rfl).trans ?_
    refine (g_bipushH (x := 32) c62007 dJ21_numberOfTrailingZeros_13 rfl).trans ?_
    refine (g_iandH c62007 dJ21_numberOfTrailingZeros_15).trans ?_
    exact g_ireturnH c62007 dJ21_numberOfTrailingZeros_16 rfl
theorem F62007_34 (d : Nat) (i0 : Int32) (i1 : Int32) (h : AH) : G2 d 62007 34 [.int i0, .int i1] [] h = if i0 ≤ 256 then (if i0 ≤ 16 then (G2 d 62007 62 [.int i0, .int i1] [] h) else (G2 d 62007 62 [.int ((i0.toUInt32 >>> ((4 : Int32).toUInt32 &&& Int32.toUInt32 31)).toInt32), .int (i1 + 4)] [] h)) else (if ((i0.toUInt32 >>> ((8 : Int32).toUInt32 &&& Int32.toUInt32 31)).toInt32) ≤ 16 then (G2 d 62007 62 [.int ((i0.toUInt32 >>> ((8 : Int32).toUInt32 &&& Int32.toUInt32 31)).toInt32), .int (i1 + 8)] [] h) else (G2 d 62007 62 [.int ((((i0.toUInt32 >>> ((8 : Int32).toUInt32 &&& Int32.toUInt32 31)).toInt32).toUInt32 >>> ((4 : Int32).toUInt32 &&& Int32.toUInt32 31)).toInt32), .int ((i1 + 8) + 4)] [] h)) := by
  refine (g_iload_nH c62007 dJ21_numberOfTrailingZeros_34 rfl).trans ?_
  refine (g_sipushH (x := 256) c62007 dJ21_numberOfTrailingZeros_35 rfl).trans ?_
  refine (g_icmp_leH (tgt := 49) c62007 dJ21_numberOfTrailingZeros_38 rfl).trans (if_cg ?_ ?_)
  · skip
    refine (g_iload_nH c62007 dJ21_numberOfTrailingZeros_49 rfl).trans ?_
    refine (g_bipushH (x := 16) c62007 dJ21_numberOfTrailingZeros_50 rfl).trans ?_
    refine (g_icmp_leH (tgt := 62) c62007 dJ21_numberOfTrailingZeros_52 rfl).trans (if_cg ?_ ?_)
    · skip
      rfl
    · skip
      refine (g_iincH (c := 4) (L' := [.int i0, .int (i1 + 4)]) c62007 dJ21_numberOfTrailingZeros_55 rfl rfl rfl rfl).trans ?_
      refine (g_iload_nH c62007 dJ21_numberOfTrailingZeros_58 rfl).trans ?_
      refine (g_iconstH (x := 4) c62007 dJ21_numberOfTrailingZeros_59 rfl).trans ?_
      refine (g_iushrH c62007 dJ21_numberOfTrailingZeros_60).trans ?_
      refine (g_istore_nH (L' := [.int ((i0.toUInt32 >>> ((4 : Int32).toUInt32 &&& Int32.toUInt32 31)).toInt32), .int (i1 + 4)]) c62007 dJ21_numberOfTrailingZeros_61 rfl rfl).trans ?_
      rfl
  · skip
    refine (g_iincH (c := 8) (L' := [.int i0, .int (i1 + 8)]) c62007 dJ21_numberOfTrailingZeros_41 rfl rfl rfl rfl).trans ?_
    refine (g_iload_nH c62007 dJ21_numberOfTrailingZeros_44 rfl).trans ?_
    refine (g_bipushH (x := 8) c62007 dJ21_numberOfTrailingZeros_45 rfl).trans ?_
    refine (g_iushrH c62007 dJ21_numberOfTrailingZeros_47).trans ?_
    refine (g_istore_nH (L' := [.int ((i0.toUInt32 >>> ((8 : Int32).toUInt32 &&& Int32.toUInt32 31)).toInt32), .int (i1 + 8)]) c62007 dJ21_numberOfTrailingZeros_48 rfl rfl).trans ?_
    refine (g_iload_nH c62007 dJ21_numberOfTrailingZeros_49 rfl).trans ?_
    refine (g_bipushH (x := 16) c62007 dJ21_numberOfTrailingZeros_50 rfl).trans ?_
    refine (g_icmp_leH (tgt := 62) c62007 dJ21_numberOfTrailingZeros_52 rfl).trans (if_cg ?_ ?_)
    · skip
      rfl
    · skip
      refine (g_iincH (c := 4) (L' := [.int ((i0.toUInt32 >>> ((8 : Int32).toUInt32 &&& Int32.toUInt32 31)).toInt32), .int ((i1 + 8) + 4)]) c62007 dJ21_numberOfTrailingZeros_55 rfl rfl rfl rfl).trans ?_
      refine (g_iload_nH c62007 dJ21_numberOfTrailingZeros_58 rfl).trans ?_
      refine (g_iconstH (x := 4) c62007 dJ21_numberOfTrailingZeros_59 rfl).trans ?_
      refine (g_iushrH c62007 dJ21_numberOfTrailingZeros_60).trans ?_
      refine (g_istore_nH (L' := [.int ((((i0.toUInt32 >>> ((8 : Int32).toUInt32 &&& Int32.toUInt32 31)).toInt32).toUInt32 >>> ((4 : Int32).toUInt32 &&& Int32.toUInt32 31)).toInt32), .int ((i1 + 8) + 4)]) c62007 dJ21_numberOfTrailingZeros_61 rfl rfl).trans ?_
      rfl
theorem F62007_62 (d : Nat) (i0 : Int32) (i1 : Int32) (h : AH) : G2 d 62007 62 [.int i0, .int i1] [] h = if i0 ≤ 4 then (some (.inl (some (.int (i1 + ((i0.toUInt32 >>> ((1 : Int32).toUInt32 &&& Int32.toUInt32 31)).toInt32)))), h)) else (some (.inl (some (.int ((i1 + 2) + ((((i0.toUInt32 >>> ((2 : Int32).toUInt32 &&& Int32.toUInt32 31)).toInt32).toUInt32 >>> ((1 : Int32).toUInt32 &&& Int32.toUInt32 31)).toInt32)))), h)) := by
  refine (g_iload_nH c62007 dJ21_numberOfTrailingZeros_62 rfl).trans ?_
  refine (g_iconstH (x := 4) c62007 dJ21_numberOfTrailingZeros_63 rfl).trans ?_
  refine (g_icmp_leH (tgt := 74) c62007 dJ21_numberOfTrailingZeros_64 rfl).trans (if_cg ?_ ?_)
  · skip
    refine (g_iload_nH c62007 dJ21_numberOfTrailingZeros_74 rfl).trans ?_
    refine (g_iload_nH c62007 dJ21_numberOfTrailingZeros_75 rfl).trans ?_
    refine (g_iconstH (x := 1) c62007 dJ21_numberOfTrailingZeros_76 rfl).trans ?_
    refine (g_iushrH c62007 dJ21_numberOfTrailingZeros_77).trans ?_
    refine (g_iaddH c62007 dJ21_numberOfTrailingZeros_78).trans ?_
    exact g_ireturnH c62007 dJ21_numberOfTrailingZeros_79 rfl
  · skip
    refine (g_iincH (c := 2) (L' := [.int i0, .int (i1 + 2)]) c62007 dJ21_numberOfTrailingZeros_67 rfl rfl rfl rfl).trans ?_
    refine (g_iload_nH c62007 dJ21_numberOfTrailingZeros_70 rfl).trans ?_
    refine (g_iconstH (x := 2) c62007 dJ21_numberOfTrailingZeros_71 rfl).trans ?_
    refine (g_iushrH c62007 dJ21_numberOfTrailingZeros_72).trans ?_
    refine (g_istore_nH (L' := [.int ((i0.toUInt32 >>> ((2 : Int32).toUInt32 &&& Int32.toUInt32 31)).toInt32), .int (i1 + 2)]) c62007 dJ21_numberOfTrailingZeros_73 rfl rfl).trans ?_
    refine (g_iload_nH c62007 dJ21_numberOfTrailingZeros_74 rfl).trans ?_
    refine (g_iload_nH c62007 dJ21_numberOfTrailingZeros_75 rfl).trans ?_
    refine (g_iconstH (x := 1) c62007 dJ21_numberOfTrailingZeros_76 rfl).trans ?_
    refine (g_iushrH c62007 dJ21_numberOfTrailingZeros_77).trans ?_
    refine (g_iaddH c62007 dJ21_numberOfTrailingZeros_78).trans ?_
    exact g_ireturnH c62007 dJ21_numberOfTrailingZeros_79 rfl
theorem Y62007 {d : Nat} {i0 : Int32} (h : AH) : M2 (d + 1) 62007 [.int i0] h = G2 d 62007 0 [.int i0, jno] [] h := M2_eq rfl rfl rfl rfl
/-! java/lang/Integer.valueOf(I)Ljava/lang/Integer; -/
abbrev cJ21_valueOf : ByteArray := prog_44_method_22_code
def dkwJ21_valueOf_1 : List UInt8 := [187, 0, 1, 89, 26, 183, 0, 199, 176]
abbrev dktJ21_valueOf_1 : List UInt8 := dkwJ21_valueOf_1 ++ []
def dkwJ21_valueOf_0 : List UInt8 := [26, 16, 128, 161, 0, 20, 26, 178, 0, 191, 163, 0, 13, 178, 0, 195, 26, 17, 0, 128, 96, 50, 176]
abbrev dktJ21_valueOf_0 : List UInt8 := dkwJ21_valueOf_0 ++ dktJ21_valueOf_1
theorem dksJ21_valueOf_0 : cJ21_valueOf.data.toList.drop 0 = dktJ21_valueOf_0 := by decide +kernel
theorem dksJ21_valueOf_1 : cJ21_valueOf.data.toList.drop 23 = dktJ21_valueOf_1 := dk_seg dksJ21_valueOf_0 23 rfl rfl
theorem dJ21_valueOf_0 : decode cJ21_valueOf 0 = .ok (.iload_n 0, 1) := dk_26 (dk_at dksJ21_valueOf_0 0 rfl rfl)
theorem dJ21_valueOf_1 : decode cJ21_valueOf 1 = .ok (.bipush (-128), 2) := dk_16 128 (dk_at dksJ21_valueOf_0 1 rfl rfl)
theorem dJ21_valueOf_3 : decode cJ21_valueOf 3 = .ok (.if_icmp .lt 20, 3) := dk_161 0 20 (dk_at dksJ21_valueOf_0 3 rfl rfl)
theorem dJ21_valueOf_6 : decode cJ21_valueOf 6 = .ok (.iload_n 0, 1) := dk_26 (dk_at dksJ21_valueOf_0 6 rfl rfl)
theorem dJ21_valueOf_7 : decode cJ21_valueOf 7 = .ok (.getstatic 191, 3) := dk_178 0 191 (dk_at dksJ21_valueOf_0 7 rfl rfl)
theorem dJ21_valueOf_10 : decode cJ21_valueOf 10 = .ok (.if_icmp .gt 13, 3) := dk_163 0 13 (dk_at dksJ21_valueOf_0 10 rfl rfl)
theorem dJ21_valueOf_13 : decode cJ21_valueOf 13 = .ok (.getstatic 195, 3) := dk_178 0 195 (dk_at dksJ21_valueOf_0 13 rfl rfl)
theorem dJ21_valueOf_16 : decode cJ21_valueOf 16 = .ok (.iload_n 0, 1) := dk_26 (dk_at dksJ21_valueOf_0 16 rfl rfl)
theorem dJ21_valueOf_17 : decode cJ21_valueOf 17 = .ok (.sipush 128, 3) := dk_17 0 128 (dk_at dksJ21_valueOf_0 17 rfl rfl)
theorem dJ21_valueOf_20 : decode cJ21_valueOf 20 = .ok (.iadd, 1) := dk_96 (dk_at dksJ21_valueOf_0 20 rfl rfl)
theorem dJ21_valueOf_21 : decode cJ21_valueOf 21 = .ok (.aaload, 1) := dk_50 (dk_at dksJ21_valueOf_0 21 rfl rfl)
theorem dJ21_valueOf_22 : decode cJ21_valueOf 22 = .ok (.areturn, 1) := dk_176 (dk_at dksJ21_valueOf_0 22 rfl rfl)
theorem dJ21_valueOf_23 : decode cJ21_valueOf 23 = .ok (.new 1, 3) := dk_187 0 1 (dk_at dksJ21_valueOf_1 0 rfl rfl)
theorem dJ21_valueOf_26 : decode cJ21_valueOf 26 = .ok (.dup, 1) := dk_89 (dk_at dksJ21_valueOf_1 3 rfl rfl)
theorem dJ21_valueOf_27 : decode cJ21_valueOf 27 = .ok (.iload_n 0, 1) := dk_26 (dk_at dksJ21_valueOf_1 4 rfl rfl)
theorem dJ21_valueOf_28 : decode cJ21_valueOf 28 = .ok (.invokespecial 199, 3) := dk_183 0 199 (dk_at dksJ21_valueOf_1 5 rfl rfl)
theorem dJ21_valueOf_31 : decode cJ21_valueOf 31 = .ok (.areturn, 1) := dk_176 (dk_at dksJ21_valueOf_1 8 rfl rfl)
theorem c62009 : jtCode 62009 = cJ21_valueOf := rfl
theorem F62009_0 (d : Nat) (i0 : Int32) (h : AH) : G2 d 62009 0 [.int i0] [] h = if i0 < (-128) then (zqH (jpush h (62, 1, jL [.int 0])) (fun h1 => zcV (M2 d 62900 [.ref h.1, .int i0] h1) (fun h3 => some (.inl (some (.ref h.1)), h3)) ()) ()) else (if 127 < i0 then (zqH (jpush h (62, 1, jL [.int 0])) (fun h4 => zcV (M2 d 62900 [.ref h.1, .int i0] h4) (fun h6 => some (.inl (some (.ref h.1)), h6)) ()) ()) else (zpR (je h 6) (fun r7 => zqG h r7 [1040, 1041, 1050, 1060, 1071] (i0 + 128) (fun w8 => zpR w8 (fun r9 => ckR r9 (some (.inl (some r9), h))) ()) ()) ())) := by
  refine (g_iload_nH c62009 dJ21_valueOf_0 rfl).trans ?_
  refine (g_bipushH (x := (-128)) c62009 dJ21_valueOf_1 rfl).trans ?_
  refine (g_icmp_ltH (tgt := 23) c62009 dJ21_valueOf_3 rfl).trans (if_cg ?_ ?_)
  · skip
    refine (g_newH (l := [.int 0]) c62009 dJ21_valueOf_23 rfl rfl).trans ?_
    refine nmZ ?_
    generalize jpush h (62, 1, jL [.int 0]) = h1
    refine (g_dup_rH c62009 dJ21_valueOf_26).trans ?_
    refine (g_iload_nH c62009 dJ21_valueOf_27 rfl).trans ?_
    refine (g_specialH (as := [.ref h.1, .int i0]) (rest := [.ref h.1]) c62009 dJ21_valueOf_28 rfl rfl rfl rfl rfl).trans ((jback_VH (κx := cX) (fun e h => jthrow_outH rfl)).trans (cV_cg fun h3 => ?_))
    exact g_areturn_rH c62009 dJ21_valueOf_31 rfl
  · skip
    refine (g_iload_nH c62009 dJ21_valueOf_6 rfl).trans ?_
    refine (g_getsIH (x := 127) c62009 dJ21_valueOf_7 rfl rfl).trans ?_
    refine (g_icmp_gtH (tgt := 23) c62009 dJ21_valueOf_10 rfl).trans (if_cg ?_ ?_)
    · skip
      refine (g_newH (l := [.int 0]) c62009 dJ21_valueOf_23 rfl rfl).trans ?_
      refine nmZ ?_
      generalize jpush h (62, 1, jL [.int 0]) = h4
      refine (g_dup_rH c62009 dJ21_valueOf_26).trans ?_
      refine (g_iload_nH c62009 dJ21_valueOf_27 rfl).trans ?_
      refine (g_specialH (as := [.ref h.1, .int i0]) (rest := [.ref h.1]) c62009 dJ21_valueOf_28 rfl rfl rfl rfl rfl).trans ((jback_VH (κx := cX) (fun e h => jthrow_outH rfl)).trans (cV_cg fun h6 => ?_))
      exact g_areturn_rH c62009 dJ21_valueOf_31 rfl
    · skip
      refine (g_getsRH (k := 6) c62009 dJ21_valueOf_13 rfl rfl).trans (rR_cg fun r7 => ?_)
      refine (g_iload_nH c62009 dJ21_valueOf_16 rfl).trans ?_
      refine (g_sipushH (x := 128) c62009 dJ21_valueOf_17 rfl).trans ?_
      refine (g_iaddH c62009 dJ21_valueOf_20).trans ?_
      refine (g_aaloadH c62009 dJ21_valueOf_21).trans (aG_cg fun w8 => rR_cg fun r9 => ?_)
      exact g_areturnH c62009 dJ21_valueOf_22 rfl
theorem Y62009 {d : Nat} {i0 : Int32} (h : AH) : M2 (d + 1) 62009 [.int i0] h = G2 d 62009 0 [.int i0] [] h := M2_eq rfl rfl rfl rfl
/-! java/lang/Integer.<init>(I)V -/
abbrev cJ21_init : ByteArray := prog_44_method_23_code
def dkwJ21_init_0 : List UInt8 := [42, 183, 0, 202, 42, 27, 181, 0, 205, 177]
abbrev dktJ21_init_0 : List UInt8 := dkwJ21_init_0 ++ []
theorem dksJ21_init_0 : cJ21_init.data.toList.drop 0 = dktJ21_init_0 := by decide +kernel
theorem dJ21_init_0 : decode cJ21_init 0 = .ok (.aload_n 0, 1) := dk_42 (dk_at dksJ21_init_0 0 rfl rfl)
theorem dJ21_init_1 : decode cJ21_init 1 = .ok (.invokespecial 202, 3) := dk_183 0 202 (dk_at dksJ21_init_0 1 rfl rfl)
theorem dJ21_init_4 : decode cJ21_init 4 = .ok (.aload_n 0, 1) := dk_42 (dk_at dksJ21_init_0 4 rfl rfl)
theorem dJ21_init_5 : decode cJ21_init 5 = .ok (.iload_n 1, 1) := dk_27 (dk_at dksJ21_init_0 5 rfl rfl)
theorem dJ21_init_6 : decode cJ21_init 6 = .ok (.putfield 205, 3) := dk_181 0 205 (dk_at dksJ21_init_0 6 rfl rfl)
theorem dJ21_init_9 : decode cJ21_init 9 = .ok (.return_, 1) := dk_177 (dk_at dksJ21_init_0 9 rfl rfl)
theorem c62900 : jtCode 62900 = cJ21_init := rfl
theorem F62900_0 (d : Nat) (a0 : Nat) (i1 : Int32) (h : AH) : G2 d 62900 0 [.ref a0, .int i1] [] h = zcV (M2 d 60900 [.ref a0] h) (fun h2 => zqF h2 (.ref a0) [62, 162] 0 0 (.int i1) (fun h3 => some (.inl none, h3)) ()) () := by
  refine (g_aload_nH c62900 dJ21_init_0 rfl).trans ?_
  refine (g_specialH (as := [.ref a0]) (rest := []) c62900 dJ21_init_1 rfl rfl rfl rfl rfl).trans ((jback_VH (κx := cX) (fun e h => jthrow_outH rfl)).trans (cV_cg fun h2 => ?_))
  refine (g_aload_nH c62900 dJ21_init_4 rfl).trans ?_
  refine (g_iload_nH c62900 dJ21_init_5 rfl).trans ?_
  refine (g_putFH c62900 dJ21_init_6 rfl rfl).trans (pF_cg fun h3 => ?_)
  exact g_returnH c62900 dJ21_init_9 rfl
theorem Y62900 {d : Nat} {a0 : Nat} {i1 : Int32} (h : AH) (hr : jrecv 62900 [.ref a0, .int i1] h = true) : M2 (d + 1) 62900 [.ref a0, .int i1] h = G2 d 62900 0 [.ref a0, .int i1] [] h := M2_eq rfl rfl hr rfl
/-! java/util/ArrayDeque.inc(II)I -/
theorem F63005_0 (d : Nat) (i0 : Int32) (i1 : Int32) (h : AH) : G2 d 63005 0 [.int i0, .int i1] [] h = if (i0 + 1) < i1 then (some (.inl (some (.int (i0 + 1))), h)) else (some (.inl (some (.int 0)), h)) := by
  refine (g_iincH (c := 1) (L' := [.int (i0 + 1), .int i1]) c63005 dJ22_inc_0 rfl rfl rfl rfl).trans ?_
  refine (g_iload_nH c63005 dJ22_inc_3 rfl).trans ?_
  refine (g_iload_nH c63005 dJ22_inc_4 rfl).trans ?_
  refine (g_icmp_ltH (tgt := 10) c63005 dJ22_inc_5 rfl).trans (if_cg ?_ ?_)
  · skip
    refine (g_iload_nH c63005 dJ22_inc_10 rfl).trans ?_
    exact g_ireturnH c63005 dJ22_inc_11 rfl
  · skip
    refine (g_iconstH (x := 0) c63005 dJ22_inc_8 rfl).trans ?_
    refine (g_istore_nH (L' := [.int 0, .int i1]) c63005 dJ22_inc_9 rfl rfl).trans ?_
    refine (g_iload_nH c63005 dJ22_inc_10 rfl).trans ?_
    exact g_ireturnH c63005 dJ22_inc_11 rfl
theorem Y63005 {d : Nat} {i0 : Int32} {i1 : Int32} (h : AH) : M2 (d + 1) 63005 [.int i0, .int i1] h = G2 d 63005 0 [.int i0, .int i1] [] h := M2_eq rfl rfl rfl rfl
/-! java/util/ArrayDeque.sub(III)I -/
theorem F63012_0 (d : Nat) (i0 : Int32) (i1 : Int32) (i2 : Int32) (h : AH) : G2 d 63012 0 [.int i0, .int i1, .int i2] [] h = if 0 ≤ (i0 - i1) then (some (.inl (some (.int (i0 - i1))), h)) else (some (.inl (some (.int ((i0 - i1) + i2))), h)) := by
  refine (g_iload_nH c63012 dJ22_sub_0 rfl).trans ?_
  refine (g_iload_nH c63012 dJ22_sub_1 rfl).trans ?_
  refine (g_isubH c63012 dJ22_sub_2).trans ?_
  refine (g_dup_iH c63012 dJ22_sub_3).trans ?_
  refine (g_istore_nH (L' := [.int (i0 - i1), .int i1, .int i2]) c63012 dJ22_sub_4 rfl rfl).trans ?_
  refine (g_if_geH (tgt := 12) c63012 dJ22_sub_5 rfl).trans (if_cg ?_ ?_)
  · skip
    refine (g_iload_nH c63012 dJ22_sub_12 rfl).trans ?_
    exact g_ireturnH c63012 dJ22_sub_13 rfl
  · skip
    refine (g_iload_nH c63012 dJ22_sub_8 rfl).trans ?_
    refine (g_iload_nH c63012 dJ22_sub_9 rfl).trans ?_
    refine (g_iaddH c63012 dJ22_sub_10).trans ?_
    refine (g_istore_nH (L' := [.int ((i0 - i1) + i2), .int i1, .int i2]) c63012 dJ22_sub_11 rfl rfl).trans ?_
    refine (g_iload_nH c63012 dJ22_sub_12 rfl).trans ?_
    exact g_ireturnH c63012 dJ22_sub_13 rfl
theorem Y63012 {d : Nat} {i0 : Int32} {i1 : Int32} {i2 : Int32} (h : AH) : M2 (d + 1) 63012 [.int i0, .int i1, .int i2] h = G2 d 63012 0 [.int i0, .int i1, .int i2] [] h := M2_eq rfl rfl rfl rfl
/-! java/lang/RuntimeException.<init>()V -/
abbrev cJ24_init_2 : ByteArray := prog_50_method_1_code
theorem dJ24_init_2_0 : decode cJ24_init_2 0 = .ok (.aload_n 0, 1) := by decide +kernel
theorem dJ24_init_2_1 : decode cJ24_init_2 1 = .ok (.invokespecial 1, 3) := by decide +kernel
theorem dJ24_init_2_4 : decode cJ24_init_2 4 = .ok (.return_, 1) := by decide +kernel
theorem c65901 : jtCode 65901 = cJ24_init_2 := rfl
theorem F65901_0 (d : Nat) (a0 : Nat) (h : AH) : G2 d 65901 0 [.ref a0] [] h = zcV (M2 d 57902 [.ref a0] h) (fun h2 => some (.inl none, h2)) () := by
  refine (g_aload_nH c65901 dJ24_init_2_0 rfl).trans ?_
  refine (g_specialH (as := [.ref a0]) (rest := []) c65901 dJ24_init_2_1 rfl rfl rfl rfl rfl).trans ((jback_VH (κx := cX) (fun e h => jthrow_outH rfl)).trans (cV_cg fun h2 => ?_))
  exact g_returnH c65901 dJ24_init_2_4 rfl
theorem Y65901 {d : Nat} {a0 : Nat} (h : AH) (hr : jrecv 65901 [.ref a0] h = true) : M2 (d + 1) 65901 [.ref a0] h = G2 d 65901 0 [.ref a0] [] h := M2_eq rfl rfl hr rfl
/-! java/util/ArrayList$Itr.checkForComodification()V -/
theorem F67000_0 (d : Nat) (a0 : Nat) (h : AH) : G2 d 67000 0 [.ref a0] [] h = zpR (jf (jc h (.ref a0)) [67, 74] 3) (fun r1 => zpI (jf (jc h r1) [43, 47] 0) (fun x2 => zpI (jf (jc h (.ref a0)) [67, 74] 2) (fun x3 => if x2 = x3 then (some (.inl none, h)) else (zqH (jpush h (69, 6, jL [.null, .null, .null, .null, .null, .int 0])) (fun h4 => zcV (M2 d 69900 [.ref h.1] h4) (fun h6 => aT h6 h.1 (cX h.1 h6)) ()) ())) ()) ()) () := by
  refine (g_aload_nH c67000 dJ26_checkForComodification_0 rfl).trans ?_
  refine (g_getRH c67000 dJ26_checkForComodification_1 rfl).trans (rR_cg fun r1 => ?_)
  refine (g_getIH c67000 dJ26_checkForComodification_4 rfl rfl).trans (rI_cg fun x2 => ?_)
  refine (g_aload_nH c67000 dJ26_checkForComodification_7 rfl).trans ?_
  refine (g_getIH c67000 dJ26_checkForComodification_8 rfl rfl).trans (rI_cg fun x3 => ?_)
  refine (g_icmp_eqH (tgt := 22) c67000 dJ26_checkForComodification_11 rfl).trans (if_cg ?_ ?_)
  · skip
    exact g_returnH c67000 dJ26_checkForComodification_22 rfl
  · skip
    refine (g_newH (l := [.null, .null, .null, .null, .null, .int 0]) c67000 dJ26_checkForComodification_14 rfl rfl).trans ?_
    refine nmZ ?_
    generalize jpush h (69, 6, jL [.null, .null, .null, .null, .null, .int 0]) = h4
    refine (g_dup_rH c67000 dJ26_checkForComodification_17).trans ?_
    refine (g_specialH (as := [.ref h.1]) (rest := [.ref h.1]) c67000 dJ26_checkForComodification_18 rfl rfl rfl rfl rfl).trans ((jback_VH (κx := cX) (fun e h => jthrow_outH rfl)).trans (cV_cg fun h6 => ?_))
    exact g_athrowH c67000 dJ26_checkForComodification_21 rfl
theorem Y67000 {d : Nat} {a0 : Nat} (h : AH) (hr : jrecv 67000 [.ref a0] h = true) : M2 (d + 1) 67000 [.ref a0] h = G2 d 67000 0 [.ref a0] [] h := M2_eq rfl rfl hr rfl
/-! java/lang/IllegalStateException.<init>()V -/
abbrev cJ27_init : ByteArray := prog_43_method_1_code
theorem dJ27_init_0 : decode cJ27_init 0 = .ok (.aload_n 0, 1) := by decide +kernel
theorem dJ27_init_1 : decode cJ27_init 1 = .ok (.invokespecial 1, 3) := by decide +kernel
theorem dJ27_init_4 : decode cJ27_init 4 = .ok (.return_, 1) := by decide +kernel
theorem c68900 : jtCode 68900 = cJ27_init := rfl
theorem F68900_0 (d : Nat) (a0 : Nat) (h : AH) : G2 d 68900 0 [.ref a0] [] h = zcV (M2 d 65901 [.ref a0] h) (fun h2 => some (.inl none, h2)) () := by
  refine (g_aload_nH c68900 dJ27_init_0 rfl).trans ?_
  refine (g_specialH (as := [.ref a0]) (rest := []) c68900 dJ27_init_1 rfl rfl rfl rfl rfl).trans ((jback_VH (κx := cX) (fun e h => jthrow_outH rfl)).trans (cV_cg fun h2 => ?_))
  exact g_returnH c68900 dJ27_init_4 rfl
theorem Y68900 {d : Nat} {a0 : Nat} (h : AH) (hr : jrecv 68900 [.ref a0] h = true) : M2 (d + 1) 68900 [.ref a0] h = G2 d 68900 0 [.ref a0] [] h := M2_eq rfl rfl hr rfl
/-! java/util/ConcurrentModificationException.<init>()V -/
abbrev cJ28_init : ByteArray := prog_76_method_1_code
theorem dJ28_init_0 : decode cJ28_init 0 = .ok (.aload_n 0, 1) := by decide +kernel
theorem dJ28_init_1 : decode cJ28_init 1 = .ok (.invokespecial 1, 3) := by decide +kernel
theorem dJ28_init_4 : decode cJ28_init 4 = .ok (.return_, 1) := by decide +kernel
theorem c69900 : jtCode 69900 = cJ28_init := rfl
theorem F69900_0 (d : Nat) (a0 : Nat) (h : AH) : G2 d 69900 0 [.ref a0] [] h = zcV (M2 d 65901 [.ref a0] h) (fun h2 => some (.inl none, h2)) () := by
  refine (g_aload_nH c69900 dJ28_init_0 rfl).trans ?_
  refine (g_specialH (as := [.ref a0]) (rest := []) c69900 dJ28_init_1 rfl rfl rfl rfl rfl).trans ((jback_VH (κx := cX) (fun e h => jthrow_outH rfl)).trans (cV_cg fun h2 => ?_))
  exact g_returnH c69900 dJ28_init_4 rfl
theorem Y69900 {d : Nat} {a0 : Nat} (h : AH) (hr : jrecv 69900 [.ref a0] h = true) : M2 (d + 1) 69900 [.ref a0] h = G2 d 69900 0 [.ref a0] [] h := M2_eq rfl rfl hr rfl
/-! java/util/LinkedList$Node.<init>(Ljava/util/LinkedList$Node;Ljava/lang/Object;Ljava/util/LinkedList$Node;)V -/
abbrev cJ29_init : ByteArray := prog_81_method_1_code
def dkwJ29_init_0 : List UInt8 := [42, 183, 0, 1, 42, 44, 181, 0, 7, 42, 45, 181, 0, 13, 42, 43, 181, 0, 17, 177]
abbrev dktJ29_init_0 : List UInt8 := dkwJ29_init_0 ++ []
theorem dksJ29_init_0 : cJ29_init.data.toList.drop 0 = dktJ29_init_0 := by decide +kernel
theorem dJ29_init_0 : decode cJ29_init 0 = .ok (.aload_n 0, 1) := dk_42 (dk_at dksJ29_init_0 0 rfl rfl)
theorem dJ29_init_1 : decode cJ29_init 1 = .ok (.invokespecial 1, 3) := dk_183 0 1 (dk_at dksJ29_init_0 1 rfl rfl)
theorem dJ29_init_4 : decode cJ29_init 4 = .ok (.aload_n 0, 1) := dk_42 (dk_at dksJ29_init_0 4 rfl rfl)
theorem dJ29_init_5 : decode cJ29_init 5 = .ok (.aload_n 2, 1) := dk_44 (dk_at dksJ29_init_0 5 rfl rfl)
theorem dJ29_init_6 : decode cJ29_init 6 = .ok (.putfield 7, 3) := dk_181 0 7 (dk_at dksJ29_init_0 6 rfl rfl)
theorem dJ29_init_9 : decode cJ29_init 9 = .ok (.aload_n 0, 1) := dk_42 (dk_at dksJ29_init_0 9 rfl rfl)
theorem dJ29_init_10 : decode cJ29_init 10 = .ok (.aload_n 3, 1) := dk_45 (dk_at dksJ29_init_0 10 rfl rfl)
theorem dJ29_init_11 : decode cJ29_init 11 = .ok (.putfield 13, 3) := dk_181 0 13 (dk_at dksJ29_init_0 11 rfl rfl)
theorem dJ29_init_14 : decode cJ29_init 14 = .ok (.aload_n 0, 1) := dk_42 (dk_at dksJ29_init_0 14 rfl rfl)
theorem dJ29_init_15 : decode cJ29_init 15 = .ok (.aload_n 1, 1) := dk_43 (dk_at dksJ29_init_0 15 rfl rfl)
theorem dJ29_init_16 : decode cJ29_init 16 = .ok (.putfield 17, 3) := dk_181 0 17 (dk_at dksJ29_init_0 16 rfl rfl)
theorem dJ29_init_19 : decode cJ29_init 19 = .ok (.return_, 1) := dk_177 (dk_at dksJ29_init_0 19 rfl rfl)
theorem c70900 : jtCode 70900 = cJ29_init := rfl
theorem F70900_0 (d : Nat) (a0 : Nat) (v1 : Value) (v2 : Value) (v3 : Value) (h : AH) : G2 d 70900 0 [.ref a0, v1, v2, v3] [] h = zcV (M2 d 90000 [.ref a0] h) (fun h2 => zkR v2 (zqF h2 (.ref a0) [70] 0 2 v2 (fun h3 => zkR v3 (zqF h3 (.ref a0) [70] 1 2 v3 (fun h4 => zkR v1 (zqF h4 (.ref a0) [70] 2 2 v1 (fun h5 => some (.inl none, h5)) ()) ()) ()) ()) ()) ()) () := by
  refine (g_aload_nH c70900 dJ29_init_0 rfl).trans ?_
  refine (g_specialH (as := [.ref a0]) (rest := []) c70900 dJ29_init_1 rfl rfl rfl rfl rfl).trans ((jback_VH (κx := cX) (fun e h => jthrow_outH rfl)).trans (cV_cg fun h2 => ?_))
  refine (g_aload_nH c70900 dJ29_init_4 rfl).trans ?_
  refine (g_aload_nVH c70900 dJ29_init_5 rfl).trans (ckR_cg ?_)
  refine (g_putH c70900 dJ29_init_6 rfl).trans (pF_cg fun h3 => ?_)
  refine (g_aload_nH c70900 dJ29_init_9 rfl).trans ?_
  refine (g_aload_nVH c70900 dJ29_init_10 rfl).trans (ckR_cg ?_)
  refine (g_putH c70900 dJ29_init_11 rfl).trans (pF_cg fun h4 => ?_)
  refine (g_aload_nH c70900 dJ29_init_14 rfl).trans ?_
  refine (g_aload_nVH c70900 dJ29_init_15 rfl).trans (ckR_cg ?_)
  refine (g_putH c70900 dJ29_init_16 rfl).trans (pF_cg fun h5 => ?_)
  exact g_returnH c70900 dJ29_init_19 rfl
theorem Y70900 {d : Nat} {a0 : Nat} {v1 : Value} {v2 : Value} {v3 : Value} (h : AH) (hv1 : isR v1 = true) (hv2 : isR v2 = true) (hv3 : isR v3 = true) (hr : jrecv 70900 [.ref a0, v1, v2, v3] h = true) : M2 (d + 1) 70900 [.ref a0, v1, v2, v3] h = G2 d 70900 0 [.ref a0, v1, v2, v3] [] h := M2_eq rfl rfl hr (by simp only [jent, jargL_R hv1, jargL_R hv2, jargL_R hv3, jargL]; rfl)
/-! java/util/Collections.sort(Ljava/util/List;)V -/
abbrev cJ30_sort : ByteArray := prog_73_method_2_code
def dkwJ30_sort_0 : List UInt8 := [42, 1, 185, 0, 7, 2, 0, 177]
abbrev dktJ30_sort_0 : List UInt8 := dkwJ30_sort_0 ++ []
theorem dksJ30_sort_0 : cJ30_sort.data.toList.drop 0 = dktJ30_sort_0 := by decide +kernel
theorem dJ30_sort_0 : decode cJ30_sort 0 = .ok (.aload_n 0, 1) := dk_42 (dk_at dksJ30_sort_0 0 rfl rfl)
theorem dJ30_sort_1 : decode cJ30_sort 1 = .ok (.aconst_null, 1) := dk_1 (dk_at dksJ30_sort_0 1 rfl rfl)
theorem dJ30_sort_2 : decode cJ30_sort 2 = .ok (.invokeinterface 7 2, 5) := by decide +kernel
theorem dJ30_sort_7 : decode cJ30_sort 7 = .ok (.return_, 1) := dk_177 (dk_at dksJ30_sort_0 7 rfl rfl)
theorem c71000 : jtCode 71000 = cJ30_sort := rfl
theorem F71000_0 (d : Nat) (v0 : Value) (h : AH) : G2 d 71000 0 [v0] [] h = zkR v0 (zcV (MvH d 9146 [v0, .null] h) (fun h2 => some (.inl none, h2)) ()) () := by
  refine (g_aload_nVH c71000 dJ30_sort_0 rfl).trans (ckR_cg ?_)
  refine (g_aconst_nullH c71000 dJ30_sort_1).trans ?_
  refine (g_faceH (as := [v0, .null]) (rest := []) c71000 dJ30_sort_2 rfl rfl rfl rfl rfl).trans ((jback_VH (κx := cX) (fun e h => jthrow_outH rfl)).trans (cV_cg fun h2 => ?_))
  exact g_returnH c71000 dJ30_sort_7 rfl
theorem Y71000 {d : Nat} {v0 : Value} (h : AH) (hv0 : isR v0 = true) : M2 (d + 1) 71000 [v0] h = G2 d 71000 0 [v0] [] h := M2_eq rfl rfl rfl (by simp only [jent, jargL_R hv0, jargL]; rfl)
/-! java/util/ComparableTimSort.binarySort([Ljava/lang/Object;III)V -/
abbrev cJ31_binarySort : ByteArray := prog_74_method_3_code
def dkwJ31_binarySort_10 : List UInt8 := [132, 3, 1, 167, 255, 69, 177]
abbrev dktJ31_binarySort_10 : List UInt8 := dkwJ31_binarySort_10 ++ []
def dkwJ31_binarySort_9 : List UInt8 := [167, 0, 16, 42, 21, 5, 42, 21, 5, 4, 96, 21, 7, 184, 0, 75, 42, 21, 5, 25, 4, 83]
abbrev dktJ31_binarySort_9 : List UInt8 := dkwJ31_binarySort_9 ++ dktJ31_binarySort_10
def dkwJ31_binarySort_8 : List UInt8 := [42, 21, 5, 5, 96, 42, 21, 5, 4, 96, 50, 83, 42, 21, 5, 4, 96, 42, 21, 5, 50, 83]
abbrev dktJ31_binarySort_8 : List UInt8 := dkwJ31_binarySort_8 ++ dktJ31_binarySort_9
def dkwJ31_binarySort_7 : List UInt8 := [171, 0, 0, 0, 50, 0, 0, 0, 2, 0, 0, 0, 1, 0, 0, 0, 37, 0, 0, 0, 2, 0, 0, 0, 25]
abbrev dktJ31_binarySort_7 : List UInt8 := dkwJ31_binarySort_7 ++ dktJ31_binarySort_8
def dkwJ31_binarySort_6 : List UInt8 := [100, 54, 7, 21, 7]
abbrev dktJ31_binarySort_6 : List UInt8 := dkwJ31_binarySort_6 ++ dktJ31_binarySort_7
def dkwJ31_binarySort_5 : List UInt8 := [178, 0, 37, 154, 0, 18, 21, 5, 21, 6, 159, 0, 11, 187, 0, 41, 89, 183, 0, 43, 191, 29, 21, 5]
abbrev dktJ31_binarySort_5 : List UInt8 := dkwJ31_binarySort_5 ++ dktJ31_binarySort_6
def dkwJ31_binarySort_4 : List UInt8 := [185, 0, 71, 2, 0, 156, 0, 10, 21, 7, 54, 6, 167, 0, 9, 21, 7, 4, 96, 54, 5, 167, 255, 213]
abbrev dktJ31_binarySort_4 : List UInt8 := dkwJ31_binarySort_4 ++ dktJ31_binarySort_5
def dkwJ31_binarySort_3 : List UInt8 := [21, 5, 21, 6, 162, 0, 42, 21, 5, 21, 6, 96, 4, 124, 54, 7, 25, 4, 42, 21, 7, 50]
abbrev dktJ31_binarySort_3 : List UInt8 := dkwJ31_binarySort_3 ++ dktJ31_binarySort_4
def dkwJ31_binarySort_2 : List UInt8 := [29, 54, 6, 178, 0, 37, 154, 0, 18, 21, 5, 21, 6, 164, 0, 11, 187, 0, 41, 89, 183, 0, 43, 191]
abbrev dktJ31_binarySort_2 : List UInt8 := dkwJ31_binarySort_2 ++ dktJ31_binarySort_3
def dkwJ31_binarySort_1 : List UInt8 := [29, 27, 160, 0, 6, 132, 3, 1, 29, 28, 162, 0, 188, 42, 29, 50, 192, 0, 69, 58, 4, 27, 54, 5]
abbrev dktJ31_binarySort_1 : List UInt8 := dkwJ31_binarySort_1 ++ dktJ31_binarySort_2
def dkwJ31_binarySort_0 : List UInt8 := [178, 0, 37, 154, 0, 21, 27, 29, 163, 0, 8, 29, 28, 164, 0, 11, 187, 0, 41, 89, 183, 0, 43, 191]
abbrev dktJ31_binarySort_0 : List UInt8 := dkwJ31_binarySort_0 ++ dktJ31_binarySort_1
theorem dksJ31_binarySort_0 : cJ31_binarySort.data.toList.drop 0 = dktJ31_binarySort_0 := by decide +kernel
theorem dksJ31_binarySort_1 : cJ31_binarySort.data.toList.drop 24 = dktJ31_binarySort_1 := dk_seg dksJ31_binarySort_0 24 rfl rfl
theorem dksJ31_binarySort_2 : cJ31_binarySort.data.toList.drop 48 = dktJ31_binarySort_2 := dk_seg dksJ31_binarySort_1 24 rfl rfl
theorem dksJ31_binarySort_3 : cJ31_binarySort.data.toList.drop 72 = dktJ31_binarySort_3 := dk_seg dksJ31_binarySort_2 24 rfl rfl
theorem dksJ31_binarySort_4 : cJ31_binarySort.data.toList.drop 94 = dktJ31_binarySort_4 := dk_seg dksJ31_binarySort_3 22 rfl rfl
theorem dksJ31_binarySort_5 : cJ31_binarySort.data.toList.drop 118 = dktJ31_binarySort_5 := dk_seg dksJ31_binarySort_4 24 rfl rfl
theorem dksJ31_binarySort_6 : cJ31_binarySort.data.toList.drop 142 = dktJ31_binarySort_6 := dk_seg dksJ31_binarySort_5 24 rfl rfl
theorem dksJ31_binarySort_7 : cJ31_binarySort.data.toList.drop 147 = dktJ31_binarySort_7 := dk_seg dksJ31_binarySort_6 5 rfl rfl
theorem dksJ31_binarySort_8 : cJ31_binarySort.data.toList.drop 172 = dktJ31_binarySort_8 := dk_seg dksJ31_binarySort_7 25 rfl rfl
theorem dksJ31_binarySort_9 : cJ31_binarySort.data.toList.drop 194 = dktJ31_binarySort_9 := dk_seg dksJ31_binarySort_8 22 rfl rfl
theorem dksJ31_binarySort_10 : cJ31_binarySort.data.toList.drop 216 = dktJ31_binarySort_10 := dk_seg dksJ31_binarySort_9 22 rfl rfl
theorem dJ31_binarySort_0 : decode cJ31_binarySort 0 = .ok (.getstatic 37, 3) := dk_178 0 37 (dk_at dksJ31_binarySort_0 0 rfl rfl)
theorem dJ31_binarySort_3 : decode cJ31_binarySort 3 = .ok (.ifCond .ne 21, 3) := dk_154 0 21 (dk_at dksJ31_binarySort_0 3 rfl rfl)
theorem dJ31_binarySort_6 : decode cJ31_binarySort 6 = .ok (.iload_n 1, 1) := dk_27 (dk_at dksJ31_binarySort_0 6 rfl rfl)
theorem dJ31_binarySort_7 : decode cJ31_binarySort 7 = .ok (.iload_n 3, 1) := dk_29 (dk_at dksJ31_binarySort_0 7 rfl rfl)
theorem dJ31_binarySort_8 : decode cJ31_binarySort 8 = .ok (.if_icmp .gt 8, 3) := dk_163 0 8 (dk_at dksJ31_binarySort_0 8 rfl rfl)
theorem dJ31_binarySort_11 : decode cJ31_binarySort 11 = .ok (.iload_n 3, 1) := dk_29 (dk_at dksJ31_binarySort_0 11 rfl rfl)
theorem dJ31_binarySort_12 : decode cJ31_binarySort 12 = .ok (.iload_n 2, 1) := dk_28 (dk_at dksJ31_binarySort_0 12 rfl rfl)
theorem dJ31_binarySort_13 : decode cJ31_binarySort 13 = .ok (.if_icmp .le 11, 3) := dk_164 0 11 (dk_at dksJ31_binarySort_0 13 rfl rfl)
theorem dJ31_binarySort_16 : decode cJ31_binarySort 16 = .ok (.new 41, 3) := dk_187 0 41 (dk_at dksJ31_binarySort_0 16 rfl rfl)
theorem dJ31_binarySort_19 : decode cJ31_binarySort 19 = .ok (.dup, 1) := dk_89 (dk_at dksJ31_binarySort_0 19 rfl rfl)
theorem dJ31_binarySort_20 : decode cJ31_binarySort 20 = .ok (.invokespecial 43, 3) := dk_183 0 43 (dk_at dksJ31_binarySort_0 20 rfl rfl)
theorem dJ31_binarySort_23 : decode cJ31_binarySort 23 = .ok (.athrow, 1) := dk_191 (dk_at dksJ31_binarySort_0 23 rfl rfl)
theorem dJ31_binarySort_24 : decode cJ31_binarySort 24 = .ok (.iload_n 3, 1) := dk_29 (dk_at dksJ31_binarySort_1 0 rfl rfl)
theorem dJ31_binarySort_25 : decode cJ31_binarySort 25 = .ok (.iload_n 1, 1) := dk_27 (dk_at dksJ31_binarySort_1 1 rfl rfl)
theorem dJ31_binarySort_26 : decode cJ31_binarySort 26 = .ok (.if_icmp .ne 6, 3) := dk_160 0 6 (dk_at dksJ31_binarySort_1 2 rfl rfl)
theorem dJ31_binarySort_29 : decode cJ31_binarySort 29 = .ok (.iinc 3 1, 3) := dk_132 3 1 (dk_at dksJ31_binarySort_1 5 rfl rfl)
theorem dJ31_binarySort_32 : decode cJ31_binarySort 32 = .ok (.iload_n 3, 1) := dk_29 (dk_at dksJ31_binarySort_1 8 rfl rfl)
theorem dJ31_binarySort_33 : decode cJ31_binarySort 33 = .ok (.iload_n 2, 1) := dk_28 (dk_at dksJ31_binarySort_1 9 rfl rfl)
theorem dJ31_binarySort_34 : decode cJ31_binarySort 34 = .ok (.if_icmp .ge 188, 3) := dk_162 0 188 (dk_at dksJ31_binarySort_1 10 rfl rfl)
theorem dJ31_binarySort_37 : decode cJ31_binarySort 37 = .ok (.aload_n 0, 1) := dk_42 (dk_at dksJ31_binarySort_1 13 rfl rfl)
theorem dJ31_binarySort_38 : decode cJ31_binarySort 38 = .ok (.iload_n 3, 1) := dk_29 (dk_at dksJ31_binarySort_1 14 rfl rfl)
theorem dJ31_binarySort_39 : decode cJ31_binarySort 39 = .ok (.aaload, 1) := dk_50 (dk_at dksJ31_binarySort_1 15 rfl rfl)
theorem dJ31_binarySort_40 : decode cJ31_binarySort 40 = .ok (.checkcast 69, 3) := dk_192 0 69 (dk_at dksJ31_binarySort_1 16 rfl rfl)
theorem dJ31_binarySort_43 : decode cJ31_binarySort 43 = .ok (.astore 4, 2) := dk_58 4 (dk_at dksJ31_binarySort_1 19 rfl rfl)
theorem dJ31_binarySort_45 : decode cJ31_binarySort 45 = .ok (.iload_n 1, 1) := dk_27 (dk_at dksJ31_binarySort_1 21 rfl rfl)
theorem dJ31_binarySort_46 : decode cJ31_binarySort 46 = .ok (.istore 5, 2) := dk_54 5 (dk_at dksJ31_binarySort_1 22 rfl rfl)
theorem dJ31_binarySort_48 : decode cJ31_binarySort 48 = .ok (.iload_n 3, 1) := dk_29 (dk_at dksJ31_binarySort_2 0 rfl rfl)
theorem dJ31_binarySort_49 : decode cJ31_binarySort 49 = .ok (.istore 6, 2) := dk_54 6 (dk_at dksJ31_binarySort_2 1 rfl rfl)
theorem dJ31_binarySort_51 : decode cJ31_binarySort 51 = .ok (.getstatic 37, 3) := dk_178 0 37 (dk_at dksJ31_binarySort_2 3 rfl rfl)
theorem dJ31_binarySort_54 : decode cJ31_binarySort 54 = .ok (.ifCond .ne 18, 3) := dk_154 0 18 (dk_at dksJ31_binarySort_2 6 rfl rfl)
theorem dJ31_binarySort_57 : decode cJ31_binarySort 57 = .ok (.iload 5, 2) := dk_21 5 (dk_at dksJ31_binarySort_2 9 rfl rfl)
theorem dJ31_binarySort_59 : decode cJ31_binarySort 59 = .ok (.iload 6, 2) := dk_21 6 (dk_at dksJ31_binarySort_2 11 rfl rfl)
theorem dJ31_binarySort_61 : decode cJ31_binarySort 61 = .ok (.if_icmp .le 11, 3) := dk_164 0 11 (dk_at dksJ31_binarySort_2 13 rfl rfl)
theorem dJ31_binarySort_64 : decode cJ31_binarySort 64 = .ok (.new 41, 3) := dk_187 0 41 (dk_at dksJ31_binarySort_2 16 rfl rfl)
theorem dJ31_binarySort_67 : decode cJ31_binarySort 67 = .ok (.dup, 1) := dk_89 (dk_at dksJ31_binarySort_2 19 rfl rfl)
theorem dJ31_binarySort_68 : decode cJ31_binarySort 68 = .ok (.invokespecial 43, 3) := dk_183 0 43 (dk_at dksJ31_binarySort_2 20 rfl rfl)
theorem dJ31_binarySort_71 : decode cJ31_binarySort 71 = .ok (.athrow, 1) := dk_191 (dk_at dksJ31_binarySort_2 23 rfl rfl)
theorem dJ31_binarySort_72 : decode cJ31_binarySort 72 = .ok (.iload 5, 2) := dk_21 5 (dk_at dksJ31_binarySort_3 0 rfl rfl)
theorem dJ31_binarySort_74 : decode cJ31_binarySort 74 = .ok (.iload 6, 2) := dk_21 6 (dk_at dksJ31_binarySort_3 2 rfl rfl)
theorem dJ31_binarySort_76 : decode cJ31_binarySort 76 = .ok (.if_icmp .ge 42, 3) := dk_162 0 42 (dk_at dksJ31_binarySort_3 4 rfl rfl)
theorem dJ31_binarySort_79 : decode cJ31_binarySort 79 = .ok (.iload 5, 2) := dk_21 5 (dk_at dksJ31_binarySort_3 7 rfl rfl)
theorem dJ31_binarySort_81 : decode cJ31_binarySort 81 = .ok (.iload 6, 2) := dk_21 6 (dk_at dksJ31_binarySort_3 9 rfl rfl)
theorem dJ31_binarySort_83 : decode cJ31_binarySort 83 = .ok (.iadd, 1) := dk_96 (dk_at dksJ31_binarySort_3 11 rfl rfl)
theorem dJ31_binarySort_84 : decode cJ31_binarySort 84 = .ok (.iconst 1, 1) := dk_4 (dk_at dksJ31_binarySort_3 12 rfl rfl)
theorem dJ31_binarySort_85 : decode cJ31_binarySort 85 = .ok (.iushr, 1) := dk_124 (dk_at dksJ31_binarySort_3 13 rfl rfl)
theorem dJ31_binarySort_86 : decode cJ31_binarySort 86 = .ok (.istore 7, 2) := dk_54 7 (dk_at dksJ31_binarySort_3 14 rfl rfl)
theorem dJ31_binarySort_88 : decode cJ31_binarySort 88 = .ok (.aload 4, 2) := dk_25 4 (dk_at dksJ31_binarySort_3 16 rfl rfl)
theorem dJ31_binarySort_90 : decode cJ31_binarySort 90 = .ok (.aload_n 0, 1) := dk_42 (dk_at dksJ31_binarySort_3 18 rfl rfl)
theorem dJ31_binarySort_91 : decode cJ31_binarySort 91 = .ok (.iload 7, 2) := dk_21 7 (dk_at dksJ31_binarySort_3 19 rfl rfl)
theorem dJ31_binarySort_93 : decode cJ31_binarySort 93 = .ok (.aaload, 1) := dk_50 (dk_at dksJ31_binarySort_3 21 rfl rfl)
theorem dJ31_binarySort_94 : decode cJ31_binarySort 94 = .ok (.invokeinterface 71 2, 5) := by decide +kernel
theorem dJ31_binarySort_99 : decode cJ31_binarySort 99 = .ok (.ifCond .ge 10, 3) := dk_156 0 10 (dk_at dksJ31_binarySort_4 5 rfl rfl)
theorem dJ31_binarySort_102 : decode cJ31_binarySort 102 = .ok (.iload 7, 2) := dk_21 7 (dk_at dksJ31_binarySort_4 8 rfl rfl)
theorem dJ31_binarySort_104 : decode cJ31_binarySort 104 = .ok (.istore 6, 2) := dk_54 6 (dk_at dksJ31_binarySort_4 10 rfl rfl)
theorem dJ31_binarySort_106 : decode cJ31_binarySort 106 = .ok (.goto 9, 3) := dk_167 0 9 (dk_at dksJ31_binarySort_4 12 rfl rfl)
theorem dJ31_binarySort_109 : decode cJ31_binarySort 109 = .ok (.iload 7, 2) := dk_21 7 (dk_at dksJ31_binarySort_4 15 rfl rfl)
theorem dJ31_binarySort_111 : decode cJ31_binarySort 111 = .ok (.iconst 1, 1) := dk_4 (dk_at dksJ31_binarySort_4 17 rfl rfl)
theorem dJ31_binarySort_112 : decode cJ31_binarySort 112 = .ok (.iadd, 1) := dk_96 (dk_at dksJ31_binarySort_4 18 rfl rfl)
theorem dJ31_binarySort_113 : decode cJ31_binarySort 113 = .ok (.istore 5, 2) := dk_54 5 (dk_at dksJ31_binarySort_4 19 rfl rfl)
theorem dJ31_binarySort_115 : decode cJ31_binarySort 115 = .ok (.goto (-43), 3) := dk_167 255 213 (dk_at dksJ31_binarySort_4 21 rfl rfl)
theorem dJ31_binarySort_118 : decode cJ31_binarySort 118 = .ok (.getstatic 37, 3) := dk_178 0 37 (dk_at dksJ31_binarySort_5 0 rfl rfl)
theorem dJ31_binarySort_121 : decode cJ31_binarySort 121 = .ok (.ifCond .ne 18, 3) := dk_154 0 18 (dk_at dksJ31_binarySort_5 3 rfl rfl)
theorem dJ31_binarySort_124 : decode cJ31_binarySort 124 = .ok (.iload 5, 2) := dk_21 5 (dk_at dksJ31_binarySort_5 6 rfl rfl)
theorem dJ31_binarySort_126 : decode cJ31_binarySort 126 = .ok (.iload 6, 2) := dk_21 6 (dk_at dksJ31_binarySort_5 8 rfl rfl)
theorem dJ31_binarySort_128 : decode cJ31_binarySort 128 = .ok (.if_icmp .eq 11, 3) := dk_159 0 11 (dk_at dksJ31_binarySort_5 10 rfl rfl)
theorem dJ31_binarySort_131 : decode cJ31_binarySort 131 = .ok (.new 41, 3) := dk_187 0 41 (dk_at dksJ31_binarySort_5 13 rfl rfl)
theorem dJ31_binarySort_134 : decode cJ31_binarySort 134 = .ok (.dup, 1) := dk_89 (dk_at dksJ31_binarySort_5 16 rfl rfl)
theorem dJ31_binarySort_135 : decode cJ31_binarySort 135 = .ok (.invokespecial 43, 3) := dk_183 0 43 (dk_at dksJ31_binarySort_5 17 rfl rfl)
theorem dJ31_binarySort_138 : decode cJ31_binarySort 138 = .ok (.athrow, 1) := dk_191 (dk_at dksJ31_binarySort_5 20 rfl rfl)
theorem dJ31_binarySort_139 : decode cJ31_binarySort 139 = .ok (.iload_n 3, 1) := dk_29 (dk_at dksJ31_binarySort_5 21 rfl rfl)
theorem dJ31_binarySort_140 : decode cJ31_binarySort 140 = .ok (.iload 5, 2) := dk_21 5 (dk_at dksJ31_binarySort_5 22 rfl rfl)
theorem dJ31_binarySort_142 : decode cJ31_binarySort 142 = .ok (.isub, 1) := dk_100 (dk_at dksJ31_binarySort_6 0 rfl rfl)
theorem dJ31_binarySort_143 : decode cJ31_binarySort 143 = .ok (.istore 7, 2) := dk_54 7 (dk_at dksJ31_binarySort_6 1 rfl rfl)
theorem dJ31_binarySort_145 : decode cJ31_binarySort 145 = .ok (.iload 7, 2) := dk_21 7 (dk_at dksJ31_binarySort_6 3 rfl rfl)
theorem dJ31_binarySort_147 : decode cJ31_binarySort 147 = .ok (.lookupswitch 50 #[(1, 37), (2, 25)], 25) := by decide +kernel
theorem dJ31_binarySort_172 : decode cJ31_binarySort 172 = .ok (.aload_n 0, 1) := dk_42 (dk_at dksJ31_binarySort_8 0 rfl rfl)
theorem dJ31_binarySort_173 : decode cJ31_binarySort 173 = .ok (.iload 5, 2) := dk_21 5 (dk_at dksJ31_binarySort_8 1 rfl rfl)
theorem dJ31_binarySort_175 : decode cJ31_binarySort 175 = .ok (.iconst 2, 1) := dk_5 (dk_at dksJ31_binarySort_8 3 rfl rfl)
theorem dJ31_binarySort_176 : decode cJ31_binarySort 176 = .ok (.iadd, 1) := dk_96 (dk_at dksJ31_binarySort_8 4 rfl rfl)
theorem dJ31_binarySort_177 : decode cJ31_binarySort 177 = .ok (.aload_n 0, 1) := dk_42 (dk_at dksJ31_binarySort_8 5 rfl rfl)
theorem dJ31_binarySort_178 : decode cJ31_binarySort 178 = .ok (.iload 5, 2) := dk_21 5 (dk_at dksJ31_binarySort_8 6 rfl rfl)
theorem dJ31_binarySort_180 : decode cJ31_binarySort 180 = .ok (.iconst 1, 1) := dk_4 (dk_at dksJ31_binarySort_8 8 rfl rfl)
theorem dJ31_binarySort_181 : decode cJ31_binarySort 181 = .ok (.iadd, 1) := dk_96 (dk_at dksJ31_binarySort_8 9 rfl rfl)
theorem dJ31_binarySort_182 : decode cJ31_binarySort 182 = .ok (.aaload, 1) := dk_50 (dk_at dksJ31_binarySort_8 10 rfl rfl)
theorem dJ31_binarySort_183 : decode cJ31_binarySort 183 = .ok (.aastore, 1) := dk_83 (dk_at dksJ31_binarySort_8 11 rfl rfl)
theorem dJ31_binarySort_184 : decode cJ31_binarySort 184 = .ok (.aload_n 0, 1) := dk_42 (dk_at dksJ31_binarySort_8 12 rfl rfl)
theorem dJ31_binarySort_185 : decode cJ31_binarySort 185 = .ok (.iload 5, 2) := dk_21 5 (dk_at dksJ31_binarySort_8 13 rfl rfl)
theorem dJ31_binarySort_187 : decode cJ31_binarySort 187 = .ok (.iconst 1, 1) := dk_4 (dk_at dksJ31_binarySort_8 15 rfl rfl)
theorem dJ31_binarySort_188 : decode cJ31_binarySort 188 = .ok (.iadd, 1) := dk_96 (dk_at dksJ31_binarySort_8 16 rfl rfl)
theorem dJ31_binarySort_189 : decode cJ31_binarySort 189 = .ok (.aload_n 0, 1) := dk_42 (dk_at dksJ31_binarySort_8 17 rfl rfl)
theorem dJ31_binarySort_190 : decode cJ31_binarySort 190 = .ok (.iload 5, 2) := dk_21 5 (dk_at dksJ31_binarySort_8 18 rfl rfl)
theorem dJ31_binarySort_192 : decode cJ31_binarySort 192 = .ok (.aaload, 1) := dk_50 (dk_at dksJ31_binarySort_8 20 rfl rfl)
theorem dJ31_binarySort_193 : decode cJ31_binarySort 193 = .ok (.aastore, 1) := dk_83 (dk_at dksJ31_binarySort_8 21 rfl rfl)
theorem dJ31_binarySort_194 : decode cJ31_binarySort 194 = .ok (.goto 16, 3) := dk_167 0 16 (dk_at dksJ31_binarySort_9 0 rfl rfl)
theorem dJ31_binarySort_197 : decode cJ31_binarySort 197 = .ok (.aload_n 0, 1) := dk_42 (dk_at dksJ31_binarySort_9 3 rfl rfl)
theorem dJ31_binarySort_198 : decode cJ31_binarySort 198 = .ok (.iload 5, 2) := dk_21 5 (dk_at dksJ31_binarySort_9 4 rfl rfl)
theorem dJ31_binarySort_200 : decode cJ31_binarySort 200 = .ok (.aload_n 0, 1) := dk_42 (dk_at dksJ31_binarySort_9 6 rfl rfl)
theorem dJ31_binarySort_201 : decode cJ31_binarySort 201 = .ok (.iload 5, 2) := dk_21 5 (dk_at dksJ31_binarySort_9 7 rfl rfl)
theorem dJ31_binarySort_203 : decode cJ31_binarySort 203 = .ok (.iconst 1, 1) := dk_4 (dk_at dksJ31_binarySort_9 9 rfl rfl)
theorem dJ31_binarySort_204 : decode cJ31_binarySort 204 = .ok (.iadd, 1) := dk_96 (dk_at dksJ31_binarySort_9 10 rfl rfl)
theorem dJ31_binarySort_205 : decode cJ31_binarySort 205 = .ok (.iload 7, 2) := dk_21 7 (dk_at dksJ31_binarySort_9 11 rfl rfl)
theorem dJ31_binarySort_207 : decode cJ31_binarySort 207 = .ok (.invokestatic 75, 3) := dk_184 0 75 (dk_at dksJ31_binarySort_9 13 rfl rfl)
theorem dJ31_binarySort_210 : decode cJ31_binarySort 210 = .ok (.aload_n 0, 1) := dk_42 (dk_at dksJ31_binarySort_9 16 rfl rfl)
theorem dJ31_binarySort_211 : decode cJ31_binarySort 211 = .ok (.iload 5, 2) := dk_21 5 (dk_at dksJ31_binarySort_9 17 rfl rfl)
theorem dJ31_binarySort_213 : decode cJ31_binarySort 213 = .ok (.aload 4, 2) := dk_25 4 (dk_at dksJ31_binarySort_9 19 rfl rfl)
theorem dJ31_binarySort_215 : decode cJ31_binarySort 215 = .ok (.aastore, 1) := dk_83 (dk_at dksJ31_binarySort_9 21 rfl rfl)
theorem dJ31_binarySort_216 : decode cJ31_binarySort 216 = .ok (.iinc 3 1, 3) := dk_132 3 1 (dk_at dksJ31_binarySort_10 0 rfl rfl)
theorem dJ31_binarySort_219 : decode cJ31_binarySort 219 = .ok (.goto (-187), 3) := dk_167 255 69 (dk_at dksJ31_binarySort_10 3 rfl rfl)
theorem dJ31_binarySort_222 : decode cJ31_binarySort 222 = .ok (.return_, 1) := dk_177 (dk_at dksJ31_binarySort_10 6 rfl rfl)
theorem c72000 : jtCode 72000 = cJ31_binarySort := rfl
theorem F72000_0 (d : Nat) (v0 : Value) (i1 : Int32) (i2 : Int32) (i3 : Int32) (h : AH) : G2 d 72000 0 [v0, .int i1, .int i2, .int i3, jno, jno, jno, jno] [] h = if (1 : Int32) = 0 then (if i3 < i1 then (G2 d 72000 16 [v0, .int i1, .int i2, .int i3, jno, jno, jno, jno] [] h) else (if i3 ≤ i2 then (if i3 = i1 then (G2 d 72000 32 [v0, .int i1, .int i2, .int (i3 + 1), jno, jno, jno, jno] [] h) else (G2 d 72000 32 [v0, .int i1, .int i2, .int i3, jno, jno, jno, jno] [] h)) else (G2 d 72000 16 [v0, .int i1, .int i2, .int i3, jno, jno, jno, jno] [] h))) else (if i3 = i1 then (G2 d 72000 32 [v0, .int i1, .int i2, .int (i3 + 1), jno, jno, jno, jno] [] h) else (G2 d 72000 32 [v0, .int i1, .int i2, .int i3, jno, jno, jno, jno] [] h)) := by
  refine (g_getsIH (x := 1) c72000 dJ31_binarySort_0 rfl rfl).trans ?_
  refine (g_if_neH (tgt := 24) c72000 dJ31_binarySort_3 rfl).trans (if_cg ?_ ?_)
  · skip
    refine (g_iload_nH c72000 dJ31_binarySort_6 rfl).trans ?_
    refine (g_iload_nH c72000 dJ31_binarySort_7 rfl).trans ?_
    refine (g_icmp_gtH (tgt := 16) c72000 dJ31_binarySort_8 rfl).trans (if_cg ?_ ?_)
    · skip
      rfl
    · skip
      refine (g_iload_nH c72000 dJ31_binarySort_11 rfl).trans ?_
      refine (g_iload_nH c72000 dJ31_binarySort_12 rfl).trans ?_
      refine (g_icmp_leH (tgt := 24) c72000 dJ31_binarySort_13 rfl).trans (if_cg ?_ ?_)
      · skip
        refine (g_iload_nH c72000 dJ31_binarySort_24 rfl).trans ?_
        refine (g_iload_nH c72000 dJ31_binarySort_25 rfl).trans ?_
        refine (g_icmp_neH (tgt := 32) c72000 dJ31_binarySort_26 rfl).trans (if_cg ?_ ?_)
        · skip
          refine (g_iincH (c := 1) (L' := [v0, .int i1, .int i2, .int (i3 + 1), jno, jno, jno, jno]) c72000 dJ31_binarySort_29 rfl rfl rfl rfl).trans ?_
          rfl
        · skip
          rfl
      · skip
        rfl
  · skip
    refine (g_iload_nH c72000 dJ31_binarySort_24 rfl).trans ?_
    refine (g_iload_nH c72000 dJ31_binarySort_25 rfl).trans ?_
    refine (g_icmp_neH (tgt := 32) c72000 dJ31_binarySort_26 rfl).trans (if_cg ?_ ?_)
    · skip
      refine (g_iincH (c := 1) (L' := [v0, .int i1, .int i2, .int (i3 + 1), jno, jno, jno, jno]) c72000 dJ31_binarySort_29 rfl rfl rfl rfl).trans ?_
      rfl
    · skip
      rfl
theorem F72000_32 (d : Nat) (v0 : Value) (i1 : Int32) (i2 : Int32) (i3 : Int32) (v4 : Value) (v5 : Value) (v6 : Value) (v7 : Value) (h : AH) : G2 d 72000 32 [v0, .int i1, .int i2, .int i3, v4, v5, v6, v7] [] h = if i2 ≤ i3 then (some (.inl none, h)) else (zkR v0 (zqG h v0 [1040, 1041, 1050, 1060, 1071] i3 (fun w1 => zpR w1 (fun r2 => zqK h r2 [24, 49, 50, 62, 150, 162] (zkR r2 (if (1 : Int32) = 0 then (if i1 ≤ i3 then (G2 d 72000 72 [v0, .int i1, .int i2, .int i3, r2, .int i1, .int i3, v7] [] h) else (G2 d 72000 64 [v0, .int i1, .int i2, .int i3, r2, .int i1, .int i3, v7] [] h)) else (G2 d 72000 72 [v0, .int i1, .int i2, .int i3, r2, .int i1, .int i3, v7] [] h)) ()) ()) ()) ()) ()) := by
  refine (g_iload_nH c72000 dJ31_binarySort_32 rfl).trans ?_
  refine (g_iload_nH c72000 dJ31_binarySort_33 rfl).trans ?_
  refine (g_icmp_geH (tgt := 222) c72000 dJ31_binarySort_34 rfl).trans (if_cg ?_ ?_)
  · skip
    exact g_returnH c72000 dJ31_binarySort_222 rfl
  · skip
    refine (g_aload_nVH c72000 dJ31_binarySort_37 rfl).trans (ckR_cg ?_)
    refine (g_iload_nH c72000 dJ31_binarySort_38 rfl).trans ?_
    refine (g_aaloadH c72000 dJ31_binarySort_39).trans (aG_cg fun w1 => rR_cg fun r2 => ?_)
    refine (g_castH c72000 dJ31_binarySort_40 rfl).trans (cK_cg ?_)
    refine (g_astoreVH (L' := [v0, .int i1, .int i2, .int i3, r2, v5, v6, v7]) c72000 dJ31_binarySort_43 rfl rfl).trans (ckR_cg ?_)
    refine (g_iload_nH c72000 dJ31_binarySort_45 rfl).trans ?_
    refine (g_istoreH (L' := [v0, .int i1, .int i2, .int i3, r2, .int i1, v6, v7]) c72000 dJ31_binarySort_46 rfl rfl).trans ?_
    refine (g_iload_nH c72000 dJ31_binarySort_48 rfl).trans ?_
    refine (g_istoreH (L' := [v0, .int i1, .int i2, .int i3, r2, .int i1, .int i3, v7]) c72000 dJ31_binarySort_49 rfl rfl).trans ?_
    refine (g_getsIH (x := 1) c72000 dJ31_binarySort_51 rfl rfl).trans ?_
    refine (g_if_neH (tgt := 72) c72000 dJ31_binarySort_54 rfl).trans (if_cg ?_ ?_)
    · skip
      refine (g_iloadH c72000 dJ31_binarySort_57 rfl).trans ?_
      refine (g_iloadH c72000 dJ31_binarySort_59 rfl).trans ?_
      refine (g_icmp_leH (tgt := 72) c72000 dJ31_binarySort_61 rfl).trans (if_cg ?_ ?_)
      · skip
        rfl
      · skip
        rfl
    · skip
      rfl
theorem F72000_72 (d : Nat) (v0 : Value) (i1 : Int32) (i2 : Int32) (i3 : Int32) (v4 : Value) (i5 : Int32) (i6 : Int32) (v7 : Value) (h : AH) : G2 d 72000 72 [v0, .int i1, .int i2, .int i3, v4, .int i5, .int i6, v7] [] h = if i6 ≤ i5 then (if (1 : Int32) = 0 then (if i5 = i6 then (G2 d 72000 (lkT (i3 - i5) [(1, 184), (2, 172)] 197) [v0, .int i1, .int i2, .int i3, v4, .int i5, .int i6, .int (i3 - i5)] [] h) else (G2 d 72000 131 [v0, .int i1, .int i2, .int i3, v4, .int i5, .int i6, v7] [] h)) else (G2 d 72000 (lkT (i3 - i5) [(1, 184), (2, 172)] 197) [v0, .int i1, .int i2, .int i3, v4, .int i5, .int i6, .int (i3 - i5)] [] h)) else (zkR v4 (zkR v0 (zqG h v0 [1040, 1041, 1050, 1060, 1071] (((i5 + i6).toUInt32 >>> ((1 : Int32).toUInt32 &&& Int32.toUInt32 31)).toInt32) (fun w1 => zpR w1 (fun r2 => zcI (MvH d 9147 [v4, r2] h) (fun x3 h4 => if 0 ≤ x3 then (G2 d 72000 72 [v0, .int i1, .int i2, .int i3, v4, .int ((((i5 + i6).toUInt32 >>> ((1 : Int32).toUInt32 &&& Int32.toUInt32 31)).toInt32) + 1), .int i6, .int (((i5 + i6).toUInt32 >>> ((1 : Int32).toUInt32 &&& Int32.toUInt32 31)).toInt32)] [] h4) else (G2 d 72000 72 [v0, .int i1, .int i2, .int i3, v4, .int i5, .int (((i5 + i6).toUInt32 >>> ((1 : Int32).toUInt32 &&& Int32.toUInt32 31)).toInt32), .int (((i5 + i6).toUInt32 >>> ((1 : Int32).toUInt32 &&& Int32.toUInt32 31)).toInt32)] [] h4)) ()) ()) ()) ()) ()) := by
  refine (g_iloadH c72000 dJ31_binarySort_72 rfl).trans ?_
  refine (g_iloadH c72000 dJ31_binarySort_74 rfl).trans ?_
  refine (g_icmp_geH (tgt := 118) c72000 dJ31_binarySort_76 rfl).trans (if_cg ?_ ?_)
  · skip
    refine (g_getsIH (x := 1) c72000 dJ31_binarySort_118 rfl rfl).trans ?_
    refine (g_if_neH (tgt := 139) c72000 dJ31_binarySort_121 rfl).trans (if_cg ?_ ?_)
    · skip
      refine (g_iloadH c72000 dJ31_binarySort_124 rfl).trans ?_
      refine (g_iloadH c72000 dJ31_binarySort_126 rfl).trans ?_
      refine (g_icmp_eqH (tgt := 139) c72000 dJ31_binarySort_128 rfl).trans (if_cg ?_ ?_)
      · skip
        refine (g_iload_nH c72000 dJ31_binarySort_139 rfl).trans ?_
        refine (g_iloadH c72000 dJ31_binarySort_140 rfl).trans ?_
        refine (g_isubH c72000 dJ31_binarySort_142).trans ?_
        refine (g_istoreH (L' := [v0, .int i1, .int i2, .int i3, v4, .int i5, .int i6, .int (i3 - i5)]) c72000 dJ31_binarySort_143 rfl rfl).trans ?_
        refine (g_iloadH c72000 dJ31_binarySort_145 rfl).trans ?_
        exact (g_lookupH c72000 ⟨_, dJ31_binarySort_147⟩ (by decide) (by decide) (by decide) (tl := [(1, 184), (2, 172)]) (td := 197) rfl rfl).trans rfl
      · skip
        rfl
    · skip
      refine (g_iload_nH c72000 dJ31_binarySort_139 rfl).trans ?_
      refine (g_iloadH c72000 dJ31_binarySort_140 rfl).trans ?_
      refine (g_isubH c72000 dJ31_binarySort_142).trans ?_
      refine (g_istoreH (L' := [v0, .int i1, .int i2, .int i3, v4, .int i5, .int i6, .int (i3 - i5)]) c72000 dJ31_binarySort_143 rfl rfl).trans ?_
      refine (g_iloadH c72000 dJ31_binarySort_145 rfl).trans ?_
      exact (g_lookupH c72000 ⟨_, dJ31_binarySort_147⟩ (by decide) (by decide) (by decide) (tl := [(1, 184), (2, 172)]) (td := 197) rfl rfl).trans rfl
  · skip
    refine (g_iloadH c72000 dJ31_binarySort_79 rfl).trans ?_
    refine (g_iloadH c72000 dJ31_binarySort_81 rfl).trans ?_
    refine (g_iaddH c72000 dJ31_binarySort_83).trans ?_
    refine (g_iconstH (x := 1) c72000 dJ31_binarySort_84 rfl).trans ?_
    refine (g_iushrH c72000 dJ31_binarySort_85).trans ?_
    refine (g_istoreH (L' := [v0, .int i1, .int i2, .int i3, v4, .int i5, .int i6, .int (((i5 + i6).toUInt32 >>> ((1 : Int32).toUInt32 &&& Int32.toUInt32 31)).toInt32)]) c72000 dJ31_binarySort_86 rfl rfl).trans ?_
    refine (g_aloadVH c72000 dJ31_binarySort_88 rfl).trans (ckR_cg ?_)
    refine (g_aload_nVH c72000 dJ31_binarySort_90 rfl).trans (ckR_cg ?_)
    refine (g_iloadH c72000 dJ31_binarySort_91 rfl).trans ?_
    refine (g_aaloadH c72000 dJ31_binarySort_93).trans (aG_cg fun w1 => rR_cg fun r2 => ?_)
    refine (g_faceH (as := [v4, r2]) (rest := []) c72000 dJ31_binarySort_94 rfl rfl rfl rfl rfl).trans ((jback_IH (κx := cX) (fun e h => jthrow_outH rfl)).trans (cI_cg fun x3 h4 => ?_))
    refine (g_if_geH (tgt := 109) c72000 dJ31_binarySort_99 rfl).trans (if_cg ?_ ?_)
    · skip
      refine (g_iloadH c72000 dJ31_binarySort_109 rfl).trans ?_
      refine (g_iconstH (x := 1) c72000 dJ31_binarySort_111 rfl).trans ?_
      refine (g_iaddH c72000 dJ31_binarySort_112).trans ?_
      refine (g_istoreH (L' := [v0, .int i1, .int i2, .int i3, v4, .int ((((i5 + i6).toUInt32 >>> ((1 : Int32).toUInt32 &&& Int32.toUInt32 31)).toInt32) + 1), .int i6, .int (((i5 + i6).toUInt32 >>> ((1 : Int32).toUInt32 &&& Int32.toUInt32 31)).toInt32)]) c72000 dJ31_binarySort_113 rfl rfl).trans ?_
      refine (g_gotoH (tgt := 72) c72000 dJ31_binarySort_115 rfl).trans ?_
      rfl
    · skip
      refine (g_iloadH c72000 dJ31_binarySort_102 rfl).trans ?_
      refine (g_istoreH (L' := [v0, .int i1, .int i2, .int i3, v4, .int i5, .int (((i5 + i6).toUInt32 >>> ((1 : Int32).toUInt32 &&& Int32.toUInt32 31)).toInt32), .int (((i5 + i6).toUInt32 >>> ((1 : Int32).toUInt32 &&& Int32.toUInt32 31)).toInt32)]) c72000 dJ31_binarySort_104 rfl rfl).trans ?_
      refine (g_gotoH (tgt := 115) c72000 dJ31_binarySort_106 rfl).trans ?_
      refine (g_gotoH (tgt := 72) c72000 dJ31_binarySort_115 rfl).trans ?_
      rfl
theorem F72000_172 (d : Nat) (v0 : Value) (i1 : Int32) (i2 : Int32) (i3 : Int32) (v4 : Value) (i5 : Int32) (i6 : Int32) (i7 : Int32) (h : AH) : G2 d 72000 172 [v0, .int i1, .int i2, .int i3, v4, .int i5, .int i6, .int i7] [] h = zkR v0 (zkR v0 (zqG h v0 [1040, 1041, 1050, 1060, 1071] (i5 + 1) (fun w1 => zpR w1 (fun r2 => zqA h v0 r2 (i5 + 2) (fun h3 => G2 d 72000 184 [v0, .int i1, .int i2, .int i3, v4, .int i5, .int i6, .int i7] [] h3) ()) ()) ()) ()) () := by
  refine (g_aload_nVH c72000 dJ31_binarySort_172 rfl).trans (ckR_cg ?_)
  refine (g_iloadH c72000 dJ31_binarySort_173 rfl).trans ?_
  refine (g_iconstH (x := 2) c72000 dJ31_binarySort_175 rfl).trans ?_
  refine (g_iaddH c72000 dJ31_binarySort_176).trans ?_
  refine (g_aload_nVH c72000 dJ31_binarySort_177 rfl).trans (ckR_cg ?_)
  refine (g_iloadH c72000 dJ31_binarySort_178 rfl).trans ?_
  refine (g_iconstH (x := 1) c72000 dJ31_binarySort_180 rfl).trans ?_
  refine (g_iaddH c72000 dJ31_binarySort_181).trans ?_
  refine (g_aaloadH c72000 dJ31_binarySort_182).trans (aG_cg fun w1 => rR_cg fun r2 => ?_)
  refine (g_aastoreH c72000 dJ31_binarySort_183).trans (aSr_cg fun h3 => ?_)
  rfl
theorem F72000_184 (d : Nat) (v0 : Value) (i1 : Int32) (i2 : Int32) (i3 : Int32) (v4 : Value) (i5 : Int32) (i6 : Int32) (i7 : Int32) (h : AH) : G2 d 72000 184 [v0, .int i1, .int i2, .int i3, v4, .int i5, .int i6, .int i7] [] h = zkR v0 (zkR v0 (zqG h v0 [1040, 1041, 1050, 1060, 1071] i5 (fun w1 => zpR w1 (fun r2 => zqA h v0 r2 (i5 + 1) (fun h3 => zkR v0 (zkR v4 (zqA h3 v0 v4 i5 (fun h4 => G2 d 72000 32 [v0, .int i1, .int i2, .int (i3 + 1), v4, .int i5, .int i6, .int i7] [] h4) ()) ()) ()) ()) ()) ()) ()) () := by
  refine (g_aload_nVH c72000 dJ31_binarySort_184 rfl).trans (ckR_cg ?_)
  refine (g_iloadH c72000 dJ31_binarySort_185 rfl).trans ?_
  refine (g_iconstH (x := 1) c72000 dJ31_binarySort_187 rfl).trans ?_
  refine (g_iaddH c72000 dJ31_binarySort_188).trans ?_
  refine (g_aload_nVH c72000 dJ31_binarySort_189 rfl).trans (ckR_cg ?_)
  refine (g_iloadH c72000 dJ31_binarySort_190 rfl).trans ?_
  refine (g_aaloadH c72000 dJ31_binarySort_192).trans (aG_cg fun w1 => rR_cg fun r2 => ?_)
  refine (g_aastoreH c72000 dJ31_binarySort_193).trans (aSr_cg fun h3 => ?_)
  refine (g_gotoH (tgt := 210) c72000 dJ31_binarySort_194 rfl).trans ?_
  refine (g_aload_nVH c72000 dJ31_binarySort_210 rfl).trans (ckR_cg ?_)
  refine (g_iloadH c72000 dJ31_binarySort_211 rfl).trans ?_
  refine (g_aloadVH c72000 dJ31_binarySort_213 rfl).trans (ckR_cg ?_)
  refine (g_aastoreH c72000 dJ31_binarySort_215).trans (aSr_cg fun h4 => ?_)
  refine (g_iincH (c := 1) (L' := [v0, .int i1, .int i2, .int (i3 + 1), v4, .int i5, .int i6, .int i7]) c72000 dJ31_binarySort_216 rfl rfl rfl rfl).trans ?_
  refine (g_gotoH (tgt := 32) c72000 dJ31_binarySort_219 rfl).trans ?_
  rfl
theorem F72000_197 (d : Nat) (v0 : Value) (i1 : Int32) (i2 : Int32) (i3 : Int32) (v4 : Value) (i5 : Int32) (i6 : Int32) (i7 : Int32) (h : AH) : G2 d 72000 197 [v0, .int i1, .int i2, .int i3, v4, .int i5, .int i6, .int i7] [] h = zkR v0 (zkR v0 (zcV (M2 d 90001 [v0, .int i5, v0, .int (i5 + 1), .int i7] h) (fun h2 => zkR v0 (zkR v4 (zqA h2 v0 v4 i5 (fun h3 => G2 d 72000 32 [v0, .int i1, .int i2, .int (i3 + 1), v4, .int i5, .int i6, .int i7] [] h3) ()) ()) ()) ()) ()) () := by
  refine (g_aload_nVH c72000 dJ31_binarySort_197 rfl).trans (ckR_cg ?_)
  refine (g_iloadH c72000 dJ31_binarySort_198 rfl).trans ?_
  refine (g_aload_nVH c72000 dJ31_binarySort_200 rfl).trans (ckR_cg ?_)
  refine (g_iloadH c72000 dJ31_binarySort_201 rfl).trans ?_
  refine (g_iconstH (x := 1) c72000 dJ31_binarySort_203 rfl).trans ?_
  refine (g_iaddH c72000 dJ31_binarySort_204).trans ?_
  refine (g_iloadH c72000 dJ31_binarySort_205 rfl).trans ?_
  refine (g_staticH (as := [v0, .int i5, v0, .int (i5 + 1), .int i7]) (rest := []) c72000 dJ31_binarySort_207 rfl rfl rfl rfl rfl).trans ((jback_VH (κx := cX) (fun e h => jthrow_outH rfl)).trans (cV_cg fun h2 => ?_))
  refine (g_aload_nVH c72000 dJ31_binarySort_210 rfl).trans (ckR_cg ?_)
  refine (g_iloadH c72000 dJ31_binarySort_211 rfl).trans ?_
  refine (g_aloadVH c72000 dJ31_binarySort_213 rfl).trans (ckR_cg ?_)
  refine (g_aastoreH c72000 dJ31_binarySort_215).trans (aSr_cg fun h3 => ?_)
  refine (g_iincH (c := 1) (L' := [v0, .int i1, .int i2, .int (i3 + 1), v4, .int i5, .int i6, .int i7]) c72000 dJ31_binarySort_216 rfl rfl rfl rfl).trans ?_
  refine (g_gotoH (tgt := 32) c72000 dJ31_binarySort_219 rfl).trans ?_
  rfl
theorem Y72000 {d : Nat} {v0 : Value} {i1 : Int32} {i2 : Int32} {i3 : Int32} (h : AH) (hv0 : isR v0 = true) : M2 (d + 1) 72000 [v0, .int i1, .int i2, .int i3] h = G2 d 72000 0 [v0, .int i1, .int i2, .int i3, jno, jno, jno, jno] [] h := M2_eq rfl rfl rfl (by simp only [jent, jargL_R hv0, jargL]; rfl)
/-! java/util/ComparableTimSort.countRunAndMakeAscending([Ljava/lang/Object;II)I -/
abbrev cJ31_countRunAndMakeAscending : ByteArray := prog_74_method_4_code
def dkwJ31_countRunAndMakeAscending_5 : List UInt8 := [29, 27, 100, 172]
abbrev dktJ31_countRunAndMakeAscending_5 : List UInt8 := dkwJ31_countRunAndMakeAscending_5 ++ []
def dkwJ31_countRunAndMakeAscending_4 : List UInt8 := [29, 50, 192, 0, 69, 42, 29, 4, 100, 50, 185, 0, 71, 2, 0, 155, 0, 9, 132, 3, 1, 167, 255, 229]
abbrev dktJ31_countRunAndMakeAscending_4 : List UInt8 := dkwJ31_countRunAndMakeAscending_4 ++ dktJ31_countRunAndMakeAscending_5
def dkwJ31_countRunAndMakeAscending_3 : List UInt8 := [156, 0, 9, 132, 3, 1, 167, 255, 229, 42, 27, 29, 184, 0, 81, 167, 0, 33, 29, 28, 162, 0, 28, 42]
abbrev dktJ31_countRunAndMakeAscending_3 : List UInt8 := dkwJ31_countRunAndMakeAscending_3 ++ dktJ31_countRunAndMakeAscending_4
def dkwJ31_countRunAndMakeAscending_2 : List UInt8 := [156, 0, 42, 29, 28, 162, 0, 28, 42, 29, 50, 192, 0, 69, 42, 29, 4, 100, 50, 185, 0, 71, 2, 0]
abbrev dktJ31_countRunAndMakeAscending_2 : List UInt8 := dkwJ31_countRunAndMakeAscending_2 ++ dktJ31_countRunAndMakeAscending_3
def dkwJ31_countRunAndMakeAscending_1 : List UInt8 := [28, 160, 0, 5, 4, 172, 42, 29, 132, 3, 1, 50, 192, 0, 69, 42, 27, 50, 185, 0, 71, 2, 0]
abbrev dktJ31_countRunAndMakeAscending_1 : List UInt8 := dkwJ31_countRunAndMakeAscending_1 ++ dktJ31_countRunAndMakeAscending_2
def dkwJ31_countRunAndMakeAscending_0 : List UInt8 := [178, 0, 37, 154, 0, 16, 27, 28, 161, 0, 11, 187, 0, 41, 89, 183, 0, 43, 191, 27, 4, 96, 62, 29]
abbrev dktJ31_countRunAndMakeAscending_0 : List UInt8 := dkwJ31_countRunAndMakeAscending_0 ++ dktJ31_countRunAndMakeAscending_1
theorem dksJ31_countRunAndMakeAscending_0 : cJ31_countRunAndMakeAscending.data.toList.drop 0 = dktJ31_countRunAndMakeAscending_0 := by decide +kernel
theorem dksJ31_countRunAndMakeAscending_1 : cJ31_countRunAndMakeAscending.data.toList.drop 24 = dktJ31_countRunAndMakeAscending_1 := dk_seg dksJ31_countRunAndMakeAscending_0 24 rfl rfl
theorem dksJ31_countRunAndMakeAscending_2 : cJ31_countRunAndMakeAscending.data.toList.drop 47 = dktJ31_countRunAndMakeAscending_2 := dk_seg dksJ31_countRunAndMakeAscending_1 23 rfl rfl
theorem dksJ31_countRunAndMakeAscending_3 : cJ31_countRunAndMakeAscending.data.toList.drop 71 = dktJ31_countRunAndMakeAscending_3 := dk_seg dksJ31_countRunAndMakeAscending_2 24 rfl rfl
theorem dksJ31_countRunAndMakeAscending_4 : cJ31_countRunAndMakeAscending.data.toList.drop 95 = dktJ31_countRunAndMakeAscending_4 := dk_seg dksJ31_countRunAndMakeAscending_3 24 rfl rfl
theorem dksJ31_countRunAndMakeAscending_5 : cJ31_countRunAndMakeAscending.data.toList.drop 119 = dktJ31_countRunAndMakeAscending_5 := dk_seg dksJ31_countRunAndMakeAscending_4 24 rfl rfl
theorem dJ31_countRunAndMakeAscending_0 : decode cJ31_countRunAndMakeAscending 0 = .ok (.getstatic 37, 3) := dk_178 0 37 (dk_at dksJ31_countRunAndMakeAscending_0 0 rfl rfl)
theorem dJ31_countRunAndMakeAscending_3 : decode cJ31_countRunAndMakeAscending 3 = .ok (.ifCond .ne 16, 3) := dk_154 0 16 (dk_at dksJ31_countRunAndMakeAscending_0 3 rfl rfl)
theorem dJ31_countRunAndMakeAscending_6 : decode cJ31_countRunAndMakeAscending 6 = .ok (.iload_n 1, 1) := dk_27 (dk_at dksJ31_countRunAndMakeAscending_0 6 rfl rfl)
theorem dJ31_countRunAndMakeAscending_7 : decode cJ31_countRunAndMakeAscending 7 = .ok (.iload_n 2, 1) := dk_28 (dk_at dksJ31_countRunAndMakeAscending_0 7 rfl rfl)
theorem dJ31_countRunAndMakeAscending_8 : decode cJ31_countRunAndMakeAscending 8 = .ok (.if_icmp .lt 11, 3) := dk_161 0 11 (dk_at dksJ31_countRunAndMakeAscending_0 8 rfl rfl)
theorem dJ31_countRunAndMakeAscending_11 : decode cJ31_countRunAndMakeAscending 11 = .ok (.new 41, 3) := dk_187 0 41 (dk_at dksJ31_countRunAndMakeAscending_0 11 rfl rfl)
theorem dJ31_countRunAndMakeAscending_14 : decode cJ31_countRunAndMakeAscending 14 = .ok (.dup, 1) := dk_89 (dk_at dksJ31_countRunAndMakeAscending_0 14 rfl rfl)
theorem dJ31_countRunAndMakeAscending_15 : decode cJ31_countRunAndMakeAscending 15 = .ok (.invokespecial 43, 3) := dk_183 0 43 (dk_at dksJ31_countRunAndMakeAscending_0 15 rfl rfl)
theorem dJ31_countRunAndMakeAscending_18 : decode cJ31_countRunAndMakeAscending 18 = .ok (.athrow, 1) := dk_191 (dk_at dksJ31_countRunAndMakeAscending_0 18 rfl rfl)
theorem dJ31_countRunAndMakeAscending_19 : decode cJ31_countRunAndMakeAscending 19 = .ok (.iload_n 1, 1) := dk_27 (dk_at dksJ31_countRunAndMakeAscending_0 19 rfl rfl)
theorem dJ31_countRunAndMakeAscending_20 : decode cJ31_countRunAndMakeAscending 20 = .ok (.iconst 1, 1) := dk_4 (dk_at dksJ31_countRunAndMakeAscending_0 20 rfl rfl)
theorem dJ31_countRunAndMakeAscending_21 : decode cJ31_countRunAndMakeAscending 21 = .ok (.iadd, 1) := dk_96 (dk_at dksJ31_countRunAndMakeAscending_0 21 rfl rfl)
theorem dJ31_countRunAndMakeAscending_22 : decode cJ31_countRunAndMakeAscending 22 = .ok (.istore_n 3, 1) := dk_62 (dk_at dksJ31_countRunAndMakeAscending_0 22 rfl rfl)
theorem dJ31_countRunAndMakeAscending_23 : decode cJ31_countRunAndMakeAscending 23 = .ok (.iload_n 3, 1) := dk_29 (dk_at dksJ31_countRunAndMakeAscending_0 23 rfl rfl)
theorem dJ31_countRunAndMakeAscending_24 : decode cJ31_countRunAndMakeAscending 24 = .ok (.iload_n 2, 1) := dk_28 (dk_at dksJ31_countRunAndMakeAscending_1 0 rfl rfl)
theorem dJ31_countRunAndMakeAscending_25 : decode cJ31_countRunAndMakeAscending 25 = .ok (.if_icmp .ne 5, 3) := dk_160 0 5 (dk_at dksJ31_countRunAndMakeAscending_1 1 rfl rfl)
theorem dJ31_countRunAndMakeAscending_28 : decode cJ31_countRunAndMakeAscending 28 = .ok (.iconst 1, 1) := dk_4 (dk_at dksJ31_countRunAndMakeAscending_1 4 rfl rfl)
theorem dJ31_countRunAndMakeAscending_29 : decode cJ31_countRunAndMakeAscending 29 = .ok (.ireturn, 1) := dk_172 (dk_at dksJ31_countRunAndMakeAscending_1 5 rfl rfl)
theorem dJ31_countRunAndMakeAscending_30 : decode cJ31_countRunAndMakeAscending 30 = .ok (.aload_n 0, 1) := dk_42 (dk_at dksJ31_countRunAndMakeAscending_1 6 rfl rfl)
theorem dJ31_countRunAndMakeAscending_31 : decode cJ31_countRunAndMakeAscending 31 = .ok (.iload_n 3, 1) := dk_29 (dk_at dksJ31_countRunAndMakeAscending_1 7 rfl rfl)
theorem dJ31_countRunAndMakeAscending_32 : decode cJ31_countRunAndMakeAscending 32 = .ok (.iinc 3 1, 3) := dk_132 3 1 (dk_at dksJ31_countRunAndMakeAscending_1 8 rfl rfl)
theorem dJ31_countRunAndMakeAscending_35 : decode cJ31_countRunAndMakeAscending 35 = .ok (.aaload, 1) := dk_50 (dk_at dksJ31_countRunAndMakeAscending_1 11 rfl rfl)
theorem dJ31_countRunAndMakeAscending_36 : decode cJ31_countRunAndMakeAscending 36 = .ok (.checkcast 69, 3) := dk_192 0 69 (dk_at dksJ31_countRunAndMakeAscending_1 12 rfl rfl)
theorem dJ31_countRunAndMakeAscending_39 : decode cJ31_countRunAndMakeAscending 39 = .ok (.aload_n 0, 1) := dk_42 (dk_at dksJ31_countRunAndMakeAscending_1 15 rfl rfl)
theorem dJ31_countRunAndMakeAscending_40 : decode cJ31_countRunAndMakeAscending 40 = .ok (.iload_n 1, 1) := dk_27 (dk_at dksJ31_countRunAndMakeAscending_1 16 rfl rfl)
theorem dJ31_countRunAndMakeAscending_41 : decode cJ31_countRunAndMakeAscending 41 = .ok (.aaload, 1) := dk_50 (dk_at dksJ31_countRunAndMakeAscending_1 17 rfl rfl)
theorem dJ31_countRunAndMakeAscending_42 : decode cJ31_countRunAndMakeAscending 42 = .ok (.invokeinterface 71 2, 5) := by decide +kernel
theorem dJ31_countRunAndMakeAscending_47 : decode cJ31_countRunAndMakeAscending 47 = .ok (.ifCond .ge 42, 3) := dk_156 0 42 (dk_at dksJ31_countRunAndMakeAscending_2 0 rfl rfl)
theorem dJ31_countRunAndMakeAscending_50 : decode cJ31_countRunAndMakeAscending 50 = .ok (.iload_n 3, 1) := dk_29 (dk_at dksJ31_countRunAndMakeAscending_2 3 rfl rfl)
theorem dJ31_countRunAndMakeAscending_51 : decode cJ31_countRunAndMakeAscending 51 = .ok (.iload_n 2, 1) := dk_28 (dk_at dksJ31_countRunAndMakeAscending_2 4 rfl rfl)
theorem dJ31_countRunAndMakeAscending_52 : decode cJ31_countRunAndMakeAscending 52 = .ok (.if_icmp .ge 28, 3) := dk_162 0 28 (dk_at dksJ31_countRunAndMakeAscending_2 5 rfl rfl)
theorem dJ31_countRunAndMakeAscending_55 : decode cJ31_countRunAndMakeAscending 55 = .ok (.aload_n 0, 1) := dk_42 (dk_at dksJ31_countRunAndMakeAscending_2 8 rfl rfl)
theorem dJ31_countRunAndMakeAscending_56 : decode cJ31_countRunAndMakeAscending 56 = .ok (.iload_n 3, 1) := dk_29 (dk_at dksJ31_countRunAndMakeAscending_2 9 rfl rfl)
theorem dJ31_countRunAndMakeAscending_57 : decode cJ31_countRunAndMakeAscending 57 = .ok (.aaload, 1) := dk_50 (dk_at dksJ31_countRunAndMakeAscending_2 10 rfl rfl)
theorem dJ31_countRunAndMakeAscending_58 : decode cJ31_countRunAndMakeAscending 58 = .ok (.checkcast 69, 3) := dk_192 0 69 (dk_at dksJ31_countRunAndMakeAscending_2 11 rfl rfl)
theorem dJ31_countRunAndMakeAscending_61 : decode cJ31_countRunAndMakeAscending 61 = .ok (.aload_n 0, 1) := dk_42 (dk_at dksJ31_countRunAndMakeAscending_2 14 rfl rfl)
theorem dJ31_countRunAndMakeAscending_62 : decode cJ31_countRunAndMakeAscending 62 = .ok (.iload_n 3, 1) := dk_29 (dk_at dksJ31_countRunAndMakeAscending_2 15 rfl rfl)
theorem dJ31_countRunAndMakeAscending_63 : decode cJ31_countRunAndMakeAscending 63 = .ok (.iconst 1, 1) := dk_4 (dk_at dksJ31_countRunAndMakeAscending_2 16 rfl rfl)
theorem dJ31_countRunAndMakeAscending_64 : decode cJ31_countRunAndMakeAscending 64 = .ok (.isub, 1) := dk_100 (dk_at dksJ31_countRunAndMakeAscending_2 17 rfl rfl)
theorem dJ31_countRunAndMakeAscending_65 : decode cJ31_countRunAndMakeAscending 65 = .ok (.aaload, 1) := dk_50 (dk_at dksJ31_countRunAndMakeAscending_2 18 rfl rfl)
theorem dJ31_countRunAndMakeAscending_66 : decode cJ31_countRunAndMakeAscending 66 = .ok (.invokeinterface 71 2, 5) := by decide +kernel
theorem dJ31_countRunAndMakeAscending_71 : decode cJ31_countRunAndMakeAscending 71 = .ok (.ifCond .ge 9, 3) := dk_156 0 9 (dk_at dksJ31_countRunAndMakeAscending_3 0 rfl rfl)
theorem dJ31_countRunAndMakeAscending_74 : decode cJ31_countRunAndMakeAscending 74 = .ok (.iinc 3 1, 3) := dk_132 3 1 (dk_at dksJ31_countRunAndMakeAscending_3 3 rfl rfl)
theorem dJ31_countRunAndMakeAscending_77 : decode cJ31_countRunAndMakeAscending 77 = .ok (.goto (-27), 3) := dk_167 255 229 (dk_at dksJ31_countRunAndMakeAscending_3 6 rfl rfl)
theorem dJ31_countRunAndMakeAscending_80 : decode cJ31_countRunAndMakeAscending 80 = .ok (.aload_n 0, 1) := dk_42 (dk_at dksJ31_countRunAndMakeAscending_3 9 rfl rfl)
theorem dJ31_countRunAndMakeAscending_81 : decode cJ31_countRunAndMakeAscending 81 = .ok (.iload_n 1, 1) := dk_27 (dk_at dksJ31_countRunAndMakeAscending_3 10 rfl rfl)
theorem dJ31_countRunAndMakeAscending_82 : decode cJ31_countRunAndMakeAscending 82 = .ok (.iload_n 3, 1) := dk_29 (dk_at dksJ31_countRunAndMakeAscending_3 11 rfl rfl)
theorem dJ31_countRunAndMakeAscending_83 : decode cJ31_countRunAndMakeAscending 83 = .ok (.invokestatic 81, 3) := dk_184 0 81 (dk_at dksJ31_countRunAndMakeAscending_3 12 rfl rfl)
theorem dJ31_countRunAndMakeAscending_86 : decode cJ31_countRunAndMakeAscending 86 = .ok (.goto 33, 3) := dk_167 0 33 (dk_at dksJ31_countRunAndMakeAscending_3 15 rfl rfl)
theorem dJ31_countRunAndMakeAscending_89 : decode cJ31_countRunAndMakeAscending 89 = .ok (.iload_n 3, 1) := dk_29 (dk_at dksJ31_countRunAndMakeAscending_3 18 rfl rfl)
theorem dJ31_countRunAndMakeAscending_90 : decode cJ31_countRunAndMakeAscending 90 = .ok (.iload_n 2, 1) := dk_28 (dk_at dksJ31_countRunAndMakeAscending_3 19 rfl rfl)
theorem dJ31_countRunAndMakeAscending_91 : decode cJ31_countRunAndMakeAscending 91 = .ok (.if_icmp .ge 28, 3) := dk_162 0 28 (dk_at dksJ31_countRunAndMakeAscending_3 20 rfl rfl)
theorem dJ31_countRunAndMakeAscending_94 : decode cJ31_countRunAndMakeAscending 94 = .ok (.aload_n 0, 1) := dk_42 (dk_at dksJ31_countRunAndMakeAscending_3 23 rfl rfl)
theorem dJ31_countRunAndMakeAscending_95 : decode cJ31_countRunAndMakeAscending 95 = .ok (.iload_n 3, 1) := dk_29 (dk_at dksJ31_countRunAndMakeAscending_4 0 rfl rfl)
theorem dJ31_countRunAndMakeAscending_96 : decode cJ31_countRunAndMakeAscending 96 = .ok (.aaload, 1) := dk_50 (dk_at dksJ31_countRunAndMakeAscending_4 1 rfl rfl)
theorem dJ31_countRunAndMakeAscending_97 : decode cJ31_countRunAndMakeAscending 97 = .ok (.checkcast 69, 3) := dk_192 0 69 (dk_at dksJ31_countRunAndMakeAscending_4 2 rfl rfl)
theorem dJ31_countRunAndMakeAscending_100 : decode cJ31_countRunAndMakeAscending 100 = .ok (.aload_n 0, 1) := dk_42 (dk_at dksJ31_countRunAndMakeAscending_4 5 rfl rfl)
theorem dJ31_countRunAndMakeAscending_101 : decode cJ31_countRunAndMakeAscending 101 = .ok (.iload_n 3, 1) := dk_29 (dk_at dksJ31_countRunAndMakeAscending_4 6 rfl rfl)
theorem dJ31_countRunAndMakeAscending_102 : decode cJ31_countRunAndMakeAscending 102 = .ok (.iconst 1, 1) := dk_4 (dk_at dksJ31_countRunAndMakeAscending_4 7 rfl rfl)
theorem dJ31_countRunAndMakeAscending_103 : decode cJ31_countRunAndMakeAscending 103 = .ok (.isub, 1) := dk_100 (dk_at dksJ31_countRunAndMakeAscending_4 8 rfl rfl)
theorem dJ31_countRunAndMakeAscending_104 : decode cJ31_countRunAndMakeAscending 104 = .ok (.aaload, 1) := dk_50 (dk_at dksJ31_countRunAndMakeAscending_4 9 rfl rfl)
theorem dJ31_countRunAndMakeAscending_105 : decode cJ31_countRunAndMakeAscending 105 = .ok (.invokeinterface 71 2, 5) := by decide +kernel
theorem dJ31_countRunAndMakeAscending_110 : decode cJ31_countRunAndMakeAscending 110 = .ok (.ifCond .lt 9, 3) := dk_155 0 9 (dk_at dksJ31_countRunAndMakeAscending_4 15 rfl rfl)
theorem dJ31_countRunAndMakeAscending_113 : decode cJ31_countRunAndMakeAscending 113 = .ok (.iinc 3 1, 3) := dk_132 3 1 (dk_at dksJ31_countRunAndMakeAscending_4 18 rfl rfl)
theorem dJ31_countRunAndMakeAscending_116 : decode cJ31_countRunAndMakeAscending 116 = .ok (.goto (-27), 3) := dk_167 255 229 (dk_at dksJ31_countRunAndMakeAscending_4 21 rfl rfl)
theorem dJ31_countRunAndMakeAscending_119 : decode cJ31_countRunAndMakeAscending 119 = .ok (.iload_n 3, 1) := dk_29 (dk_at dksJ31_countRunAndMakeAscending_5 0 rfl rfl)
theorem dJ31_countRunAndMakeAscending_120 : decode cJ31_countRunAndMakeAscending 120 = .ok (.iload_n 1, 1) := dk_27 (dk_at dksJ31_countRunAndMakeAscending_5 1 rfl rfl)
theorem dJ31_countRunAndMakeAscending_121 : decode cJ31_countRunAndMakeAscending 121 = .ok (.isub, 1) := dk_100 (dk_at dksJ31_countRunAndMakeAscending_5 2 rfl rfl)
theorem dJ31_countRunAndMakeAscending_122 : decode cJ31_countRunAndMakeAscending 122 = .ok (.ireturn, 1) := dk_172 (dk_at dksJ31_countRunAndMakeAscending_5 3 rfl rfl)
theorem c72001 : jtCode 72001 = cJ31_countRunAndMakeAscending := rfl
theorem F72001_0 (d : Nat) (v0 : Value) (i1 : Int32) (i2 : Int32) (h : AH) : G2 d 72001 0 [v0, .int i1, .int i2, jno] [] h = if (1 : Int32) = 0 then (if i1 < i2 then (G2 d 72001 19 [v0, .int i1, .int i2, jno] [] h) else (G2 d 72001 11 [v0, .int i1, .int i2, jno] [] h)) else (G2 d 72001 19 [v0, .int i1, .int i2, jno] [] h) := by
  refine (g_getsIH (x := 1) c72001 dJ31_countRunAndMakeAscending_0 rfl rfl).trans ?_
  refine (g_if_neH (tgt := 19) c72001 dJ31_countRunAndMakeAscending_3 rfl).trans (if_cg ?_ ?_)
  · skip
    refine (g_iload_nH c72001 dJ31_countRunAndMakeAscending_6 rfl).trans ?_
    refine (g_iload_nH c72001 dJ31_countRunAndMakeAscending_7 rfl).trans ?_
    refine (g_icmp_ltH (tgt := 19) c72001 dJ31_countRunAndMakeAscending_8 rfl).trans (if_cg ?_ ?_)
    · skip
      rfl
    · skip
      rfl
  · skip
    rfl
theorem F72001_19 (d : Nat) (v0 : Value) (i1 : Int32) (i2 : Int32) (h : AH) : G2 d 72001 19 [v0, .int i1, .int i2, jno] [] h = if (i1 + 1) = i2 then (some (.inl (some (.int 1)), h)) else (zkR v0 (zqG h v0 [1040, 1041, 1050, 1060, 1071] (i1 + 1) (fun w1 => zpR w1 (fun r2 => zqK h r2 [24, 49, 50, 62, 150, 162] (zkR v0 (zqG h v0 [1040, 1041, 1050, 1060, 1071] i1 (fun w3 => zpR w3 (fun r4 => zcI (MvH d 9147 [r2, r4] h) (fun x5 h6 => if 0 ≤ x5 then (G2 d 72001 89 [v0, .int i1, .int i2, .int ((i1 + 1) + 1)] [] h6) else (G2 d 72001 50 [v0, .int i1, .int i2, .int ((i1 + 1) + 1)] [] h6)) ()) ()) ()) ()) ()) ()) ()) ()) := by
  refine (g_iload_nH c72001 dJ31_countRunAndMakeAscending_19 rfl).trans ?_
  refine (g_iconstH (x := 1) c72001 dJ31_countRunAndMakeAscending_20 rfl).trans ?_
  refine (g_iaddH c72001 dJ31_countRunAndMakeAscending_21).trans ?_
  refine (g_istore_nH (L' := [v0, .int i1, .int i2, .int (i1 + 1)]) c72001 dJ31_countRunAndMakeAscending_22 rfl rfl).trans ?_
  refine (g_iload_nH c72001 dJ31_countRunAndMakeAscending_23 rfl).trans ?_
  refine (g_iload_nH c72001 dJ31_countRunAndMakeAscending_24 rfl).trans ?_
  refine (g_icmp_neH (tgt := 30) c72001 dJ31_countRunAndMakeAscending_25 rfl).trans (if_cg ?_ ?_)
  · skip
    refine (g_iconstH (x := 1) c72001 dJ31_countRunAndMakeAscending_28 rfl).trans ?_
    exact g_ireturnH c72001 dJ31_countRunAndMakeAscending_29 rfl
  · skip
    refine (g_aload_nVH c72001 dJ31_countRunAndMakeAscending_30 rfl).trans (ckR_cg ?_)
    refine (g_iload_nH c72001 dJ31_countRunAndMakeAscending_31 rfl).trans ?_
    refine (g_iincH (c := 1) (L' := [v0, .int i1, .int i2, .int ((i1 + 1) + 1)]) c72001 dJ31_countRunAndMakeAscending_32 rfl rfl rfl rfl).trans ?_
    refine (g_aaloadH c72001 dJ31_countRunAndMakeAscending_35).trans (aG_cg fun w1 => rR_cg fun r2 => ?_)
    refine (g_castH c72001 dJ31_countRunAndMakeAscending_36 rfl).trans (cK_cg ?_)
    refine (g_aload_nVH c72001 dJ31_countRunAndMakeAscending_39 rfl).trans (ckR_cg ?_)
    refine (g_iload_nH c72001 dJ31_countRunAndMakeAscending_40 rfl).trans ?_
    refine (g_aaloadH c72001 dJ31_countRunAndMakeAscending_41).trans (aG_cg fun w3 => rR_cg fun r4 => ?_)
    refine (g_faceH (as := [r2, r4]) (rest := []) c72001 dJ31_countRunAndMakeAscending_42 rfl rfl rfl rfl rfl).trans ((jback_IH (κx := cX) (fun e h => jthrow_outH rfl)).trans (cI_cg fun x5 h6 => ?_))
    refine (g_if_geH (tgt := 89) c72001 dJ31_countRunAndMakeAscending_47 rfl).trans (if_cg ?_ ?_)
    · skip
      rfl
    · skip
      rfl
theorem F72001_50 (d : Nat) (v0 : Value) (i1 : Int32) (i2 : Int32) (i3 : Int32) (h : AH) : G2 d 72001 50 [v0, .int i1, .int i2, .int i3] [] h = if i2 ≤ i3 then (zkR v0 (zcV (M2 d 72012 [v0, .int i1, .int i3] h) (fun h2 => some (.inl (some (.int (i3 - i1))), h2)) ()) ()) else (zkR v0 (zqG h v0 [1040, 1041, 1050, 1060, 1071] i3 (fun w3 => zpR w3 (fun r4 => zqK h r4 [24, 49, 50, 62, 150, 162] (zkR v0 (zqG h v0 [1040, 1041, 1050, 1060, 1071] (i3 - 1) (fun w5 => zpR w5 (fun r6 => zcI (MvH d 9147 [r4, r6] h) (fun x7 h8 => if 0 ≤ x7 then (zkR v0 (zcV (M2 d 72012 [v0, .int i1, .int i3] h8) (fun h10 => some (.inl (some (.int (i3 - i1))), h10)) ()) ()) else (G2 d 72001 50 [v0, .int i1, .int i2, .int (i3 + 1)] [] h8)) ()) ()) ()) ()) ()) ()) ()) ()) := by
  refine (g_iload_nH c72001 dJ31_countRunAndMakeAscending_50 rfl).trans ?_
  refine (g_iload_nH c72001 dJ31_countRunAndMakeAscending_51 rfl).trans ?_
  refine (g_icmp_geH (tgt := 80) c72001 dJ31_countRunAndMakeAscending_52 rfl).trans (if_cg ?_ ?_)
  · skip
    refine (g_aload_nVH c72001 dJ31_countRunAndMakeAscending_80 rfl).trans (ckR_cg ?_)
    refine (g_iload_nH c72001 dJ31_countRunAndMakeAscending_81 rfl).trans ?_
    refine (g_iload_nH c72001 dJ31_countRunAndMakeAscending_82 rfl).trans ?_
    refine (g_staticH (as := [v0, .int i1, .int i3]) (rest := []) c72001 dJ31_countRunAndMakeAscending_83 rfl rfl rfl rfl rfl).trans ((jback_VH (κx := cX) (fun e h => jthrow_outH rfl)).trans (cV_cg fun h2 => ?_))
    refine (g_gotoH (tgt := 119) c72001 dJ31_countRunAndMakeAscending_86 rfl).trans ?_
    refine (g_iload_nH c72001 dJ31_countRunAndMakeAscending_119 rfl).trans ?_
    refine (g_iload_nH c72001 dJ31_countRunAndMakeAscending_120 rfl).trans ?_
    refine (g_isubH c72001 dJ31_countRunAndMakeAscending_121).trans ?_
    exact g_ireturnH c72001 dJ31_countRunAndMakeAscending_122 rfl
  · skip
    refine (g_aload_nVH c72001 dJ31_countRunAndMakeAscending_55 rfl).trans (ckR_cg ?_)
    refine (g_iload_nH c72001 dJ31_countRunAndMakeAscending_56 rfl).trans ?_
    refine (g_aaloadH c72001 dJ31_countRunAndMakeAscending_57).trans (aG_cg fun w3 => rR_cg fun r4 => ?_)
    refine (g_castH c72001 dJ31_countRunAndMakeAscending_58 rfl).trans (cK_cg ?_)
    refine (g_aload_nVH c72001 dJ31_countRunAndMakeAscending_61 rfl).trans (ckR_cg ?_)
    refine (g_iload_nH c72001 dJ31_countRunAndMakeAscending_62 rfl).trans ?_
    refine (g_iconstH (x := 1) c72001 dJ31_countRunAndMakeAscending_63 rfl).trans ?_
    refine (g_isubH c72001 dJ31_countRunAndMakeAscending_64).trans ?_
    refine (g_aaloadH c72001 dJ31_countRunAndMakeAscending_65).trans (aG_cg fun w5 => rR_cg fun r6 => ?_)
    refine (g_faceH (as := [r4, r6]) (rest := []) c72001 dJ31_countRunAndMakeAscending_66 rfl rfl rfl rfl rfl).trans ((jback_IH (κx := cX) (fun e h => jthrow_outH rfl)).trans (cI_cg fun x7 h8 => ?_))
    refine (g_if_geH (tgt := 80) c72001 dJ31_countRunAndMakeAscending_71 rfl).trans (if_cg ?_ ?_)
    · skip
      refine (g_aload_nVH c72001 dJ31_countRunAndMakeAscending_80 rfl).trans (ckR_cg ?_)
      refine (g_iload_nH c72001 dJ31_countRunAndMakeAscending_81 rfl).trans ?_
      refine (g_iload_nH c72001 dJ31_countRunAndMakeAscending_82 rfl).trans ?_
      refine (g_staticH (as := [v0, .int i1, .int i3]) (rest := []) c72001 dJ31_countRunAndMakeAscending_83 rfl rfl rfl rfl rfl).trans ((jback_VH (κx := cX) (fun e h => jthrow_outH rfl)).trans (cV_cg fun h10 => ?_))
      refine (g_gotoH (tgt := 119) c72001 dJ31_countRunAndMakeAscending_86 rfl).trans ?_
      refine (g_iload_nH c72001 dJ31_countRunAndMakeAscending_119 rfl).trans ?_
      refine (g_iload_nH c72001 dJ31_countRunAndMakeAscending_120 rfl).trans ?_
      refine (g_isubH c72001 dJ31_countRunAndMakeAscending_121).trans ?_
      exact g_ireturnH c72001 dJ31_countRunAndMakeAscending_122 rfl
    · skip
      refine (g_iincH (c := 1) (L' := [v0, .int i1, .int i2, .int (i3 + 1)]) c72001 dJ31_countRunAndMakeAscending_74 rfl rfl rfl rfl).trans ?_
      refine (g_gotoH (tgt := 50) c72001 dJ31_countRunAndMakeAscending_77 rfl).trans ?_
      rfl
theorem F72001_89 (d : Nat) (v0 : Value) (i1 : Int32) (i2 : Int32) (i3 : Int32) (h : AH) : G2 d 72001 89 [v0, .int i1, .int i2, .int i3] [] h = if i2 ≤ i3 then (some (.inl (some (.int (i3 - i1))), h)) else (zkR v0 (zqG h v0 [1040, 1041, 1050, 1060, 1071] i3 (fun w1 => zpR w1 (fun r2 => zqK h r2 [24, 49, 50, 62, 150, 162] (zkR v0 (zqG h v0 [1040, 1041, 1050, 1060, 1071] (i3 - 1) (fun w3 => zpR w3 (fun r4 => zcI (MvH d 9147 [r2, r4] h) (fun x5 h6 => if x5 < 0 then (some (.inl (some (.int (i3 - i1))), h6)) else (G2 d 72001 89 [v0, .int i1, .int i2, .int (i3 + 1)] [] h6)) ()) ()) ()) ()) ()) ()) ()) ()) := by
  refine (g_iload_nH c72001 dJ31_countRunAndMakeAscending_89 rfl).trans ?_
  refine (g_iload_nH c72001 dJ31_countRunAndMakeAscending_90 rfl).trans ?_
  refine (g_icmp_geH (tgt := 119) c72001 dJ31_countRunAndMakeAscending_91 rfl).trans (if_cg ?_ ?_)
  · skip
    refine (g_iload_nH c72001 dJ31_countRunAndMakeAscending_119 rfl).trans ?_
    refine (g_iload_nH c72001 dJ31_countRunAndMakeAscending_120 rfl).trans ?_
    refine (g_isubH c72001 dJ31_countRunAndMakeAscending_121).trans ?_
    exact g_ireturnH c72001 dJ31_countRunAndMakeAscending_122 rfl
  · skip
    refine (g_aload_nVH c72001 dJ31_countRunAndMakeAscending_94 rfl).trans (ckR_cg ?_)
    refine (g_iload_nH c72001 dJ31_countRunAndMakeAscending_95 rfl).trans ?_
    refine (g_aaloadH c72001 dJ31_countRunAndMakeAscending_96).trans (aG_cg fun w1 => rR_cg fun r2 => ?_)
    refine (g_castH c72001 dJ31_countRunAndMakeAscending_97 rfl).trans (cK_cg ?_)
    refine (g_aload_nVH c72001 dJ31_countRunAndMakeAscending_100 rfl).trans (ckR_cg ?_)
    refine (g_iload_nH c72001 dJ31_countRunAndMakeAscending_101 rfl).trans ?_
    refine (g_iconstH (x := 1) c72001 dJ31_countRunAndMakeAscending_102 rfl).trans ?_
    refine (g_isubH c72001 dJ31_countRunAndMakeAscending_103).trans ?_
    refine (g_aaloadH c72001 dJ31_countRunAndMakeAscending_104).trans (aG_cg fun w3 => rR_cg fun r4 => ?_)
    refine (g_faceH (as := [r2, r4]) (rest := []) c72001 dJ31_countRunAndMakeAscending_105 rfl rfl rfl rfl rfl).trans ((jback_IH (κx := cX) (fun e h => jthrow_outH rfl)).trans (cI_cg fun x5 h6 => ?_))
    refine (g_if_ltH (tgt := 119) c72001 dJ31_countRunAndMakeAscending_110 rfl).trans (if_cg ?_ ?_)
    · skip
      refine (g_iload_nH c72001 dJ31_countRunAndMakeAscending_119 rfl).trans ?_
      refine (g_iload_nH c72001 dJ31_countRunAndMakeAscending_120 rfl).trans ?_
      refine (g_isubH c72001 dJ31_countRunAndMakeAscending_121).trans ?_
      exact g_ireturnH c72001 dJ31_countRunAndMakeAscending_122 rfl
    · skip
      refine (g_iincH (c := 1) (L' := [v0, .int i1, .int i2, .int (i3 + 1)]) c72001 dJ31_countRunAndMakeAscending_113 rfl rfl rfl rfl).trans ?_
      refine (g_gotoH (tgt := 89) c72001 dJ31_countRunAndMakeAscending_116 rfl).trans ?_
      rfl
theorem Y72001 {d : Nat} {v0 : Value} {i1 : Int32} {i2 : Int32} (h : AH) (hv0 : isR v0 = true) : M2 (d + 1) 72001 [v0, .int i1, .int i2] h = G2 d 72001 0 [v0, .int i1, .int i2, jno] [] h := M2_eq rfl rfl rfl (by simp only [jent, jargL_R hv0, jargL]; rfl)
/-! java/util/ComparableTimSort.ensureCapacity(I)[Ljava/lang/Object; -/
abbrev cJ31_ensureCapacity : ByteArray := prog_74_method_15_code
def dkwJ31_ensureCapacity_2 : List UInt8 := [181, 0, 20, 42, 28, 181, 0, 26, 42, 3, 181, 0, 23, 42, 180, 0, 20, 176]
abbrev dktJ31_ensureCapacity_2 : List UInt8 := dkwJ31_ensureCapacity_2 ++ []
def dkwJ31_ensureCapacity_1 : List UInt8 := [167, 0, 15, 28, 42, 180, 0, 16, 190, 4, 124, 184, 0, 119, 61, 28, 189, 0, 2, 78, 42, 45]
abbrev dktJ31_ensureCapacity_1 : List UInt8 := dkwJ31_ensureCapacity_1 ++ dktJ31_ensureCapacity_2
def dkwJ31_ensureCapacity_0 : List UInt8 := [42, 180, 0, 26, 27, 162, 0, 54, 2, 27, 184, 0, 114, 124, 61, 132, 2, 1, 28, 156, 0, 8, 27, 61]
abbrev dktJ31_ensureCapacity_0 : List UInt8 := dkwJ31_ensureCapacity_0 ++ dktJ31_ensureCapacity_1
theorem dksJ31_ensureCapacity_0 : cJ31_ensureCapacity.data.toList.drop 0 = dktJ31_ensureCapacity_0 := by decide +kernel
theorem dksJ31_ensureCapacity_1 : cJ31_ensureCapacity.data.toList.drop 24 = dktJ31_ensureCapacity_1 := dk_seg dksJ31_ensureCapacity_0 24 rfl rfl
theorem dksJ31_ensureCapacity_2 : cJ31_ensureCapacity.data.toList.drop 46 = dktJ31_ensureCapacity_2 := dk_seg dksJ31_ensureCapacity_1 22 rfl rfl
theorem dJ31_ensureCapacity_0 : decode cJ31_ensureCapacity 0 = .ok (.aload_n 0, 1) := dk_42 (dk_at dksJ31_ensureCapacity_0 0 rfl rfl)
theorem dJ31_ensureCapacity_1 : decode cJ31_ensureCapacity 1 = .ok (.getfield 26, 3) := dk_180 0 26 (dk_at dksJ31_ensureCapacity_0 1 rfl rfl)
theorem dJ31_ensureCapacity_4 : decode cJ31_ensureCapacity 4 = .ok (.iload_n 1, 1) := dk_27 (dk_at dksJ31_ensureCapacity_0 4 rfl rfl)
theorem dJ31_ensureCapacity_5 : decode cJ31_ensureCapacity 5 = .ok (.if_icmp .ge 54, 3) := dk_162 0 54 (dk_at dksJ31_ensureCapacity_0 5 rfl rfl)
theorem dJ31_ensureCapacity_8 : decode cJ31_ensureCapacity 8 = .ok (.iconst (-1), 1) := dk_2 (dk_at dksJ31_ensureCapacity_0 8 rfl rfl)
theorem dJ31_ensureCapacity_9 : decode cJ31_ensureCapacity 9 = .ok (.iload_n 1, 1) := dk_27 (dk_at dksJ31_ensureCapacity_0 9 rfl rfl)
theorem dJ31_ensureCapacity_10 : decode cJ31_ensureCapacity 10 = .ok (.invokestatic 114, 3) := dk_184 0 114 (dk_at dksJ31_ensureCapacity_0 10 rfl rfl)
theorem dJ31_ensureCapacity_13 : decode cJ31_ensureCapacity 13 = .ok (.iushr, 1) := dk_124 (dk_at dksJ31_ensureCapacity_0 13 rfl rfl)
theorem dJ31_ensureCapacity_14 : decode cJ31_ensureCapacity 14 = .ok (.istore_n 2, 1) := dk_61 (dk_at dksJ31_ensureCapacity_0 14 rfl rfl)
theorem dJ31_ensureCapacity_15 : decode cJ31_ensureCapacity 15 = .ok (.iinc 2 1, 3) := dk_132 2 1 (dk_at dksJ31_ensureCapacity_0 15 rfl rfl)
theorem dJ31_ensureCapacity_18 : decode cJ31_ensureCapacity 18 = .ok (.iload_n 2, 1) := dk_28 (dk_at dksJ31_ensureCapacity_0 18 rfl rfl)
theorem dJ31_ensureCapacity_19 : decode cJ31_ensureCapacity 19 = .ok (.ifCond .ge 8, 3) := dk_156 0 8 (dk_at dksJ31_ensureCapacity_0 19 rfl rfl)
theorem dJ31_ensureCapacity_22 : decode cJ31_ensureCapacity 22 = .ok (.iload_n 1, 1) := dk_27 (dk_at dksJ31_ensureCapacity_0 22 rfl rfl)
theorem dJ31_ensureCapacity_23 : decode cJ31_ensureCapacity 23 = .ok (.istore_n 2, 1) := dk_61 (dk_at dksJ31_ensureCapacity_0 23 rfl rfl)
theorem dJ31_ensureCapacity_24 : decode cJ31_ensureCapacity 24 = .ok (.goto 15, 3) := dk_167 0 15 (dk_at dksJ31_ensureCapacity_1 0 rfl rfl)
theorem dJ31_ensureCapacity_27 : decode cJ31_ensureCapacity 27 = .ok (.iload_n 2, 1) := dk_28 (dk_at dksJ31_ensureCapacity_1 3 rfl rfl)
theorem dJ31_ensureCapacity_28 : decode cJ31_ensureCapacity 28 = .ok (.aload_n 0, 1) := dk_42 (dk_at dksJ31_ensureCapacity_1 4 rfl rfl)
theorem dJ31_ensureCapacity_29 : decode cJ31_ensureCapacity 29 = .ok (.getfield 16, 3) := dk_180 0 16 (dk_at dksJ31_ensureCapacity_1 5 rfl rfl)
theorem dJ31_ensureCapacity_32 : decode cJ31_ensureCapacity 32 = .ok (.arraylength, 1) := dk_190 (dk_at dksJ31_ensureCapacity_1 8 rfl rfl)
theorem dJ31_ensureCapacity_33 : decode cJ31_ensureCapacity 33 = .ok (.iconst 1, 1) := dk_4 (dk_at dksJ31_ensureCapacity_1 9 rfl rfl)
theorem dJ31_ensureCapacity_34 : decode cJ31_ensureCapacity 34 = .ok (.iushr, 1) := dk_124 (dk_at dksJ31_ensureCapacity_1 10 rfl rfl)
theorem dJ31_ensureCapacity_35 : decode cJ31_ensureCapacity 35 = .ok (.invokestatic 119, 3) := dk_184 0 119 (dk_at dksJ31_ensureCapacity_1 11 rfl rfl)
theorem dJ31_ensureCapacity_38 : decode cJ31_ensureCapacity 38 = .ok (.istore_n 2, 1) := dk_61 (dk_at dksJ31_ensureCapacity_1 14 rfl rfl)
theorem dJ31_ensureCapacity_39 : decode cJ31_ensureCapacity 39 = .ok (.iload_n 2, 1) := dk_28 (dk_at dksJ31_ensureCapacity_1 15 rfl rfl)
theorem dJ31_ensureCapacity_40 : decode cJ31_ensureCapacity 40 = .ok (.anewarray 2, 3) := dk_189 0 2 (dk_at dksJ31_ensureCapacity_1 16 rfl rfl)
theorem dJ31_ensureCapacity_43 : decode cJ31_ensureCapacity 43 = .ok (.astore_n 3, 1) := dk_78 (dk_at dksJ31_ensureCapacity_1 19 rfl rfl)
theorem dJ31_ensureCapacity_44 : decode cJ31_ensureCapacity 44 = .ok (.aload_n 0, 1) := dk_42 (dk_at dksJ31_ensureCapacity_1 20 rfl rfl)
theorem dJ31_ensureCapacity_45 : decode cJ31_ensureCapacity 45 = .ok (.aload_n 3, 1) := dk_45 (dk_at dksJ31_ensureCapacity_1 21 rfl rfl)
theorem dJ31_ensureCapacity_46 : decode cJ31_ensureCapacity 46 = .ok (.putfield 20, 3) := dk_181 0 20 (dk_at dksJ31_ensureCapacity_2 0 rfl rfl)
theorem dJ31_ensureCapacity_49 : decode cJ31_ensureCapacity 49 = .ok (.aload_n 0, 1) := dk_42 (dk_at dksJ31_ensureCapacity_2 3 rfl rfl)
theorem dJ31_ensureCapacity_50 : decode cJ31_ensureCapacity 50 = .ok (.iload_n 2, 1) := dk_28 (dk_at dksJ31_ensureCapacity_2 4 rfl rfl)
theorem dJ31_ensureCapacity_51 : decode cJ31_ensureCapacity 51 = .ok (.putfield 26, 3) := dk_181 0 26 (dk_at dksJ31_ensureCapacity_2 5 rfl rfl)
theorem dJ31_ensureCapacity_54 : decode cJ31_ensureCapacity 54 = .ok (.aload_n 0, 1) := dk_42 (dk_at dksJ31_ensureCapacity_2 8 rfl rfl)
theorem dJ31_ensureCapacity_55 : decode cJ31_ensureCapacity 55 = .ok (.iconst 0, 1) := dk_3 (dk_at dksJ31_ensureCapacity_2 9 rfl rfl)
theorem dJ31_ensureCapacity_56 : decode cJ31_ensureCapacity 56 = .ok (.putfield 23, 3) := dk_181 0 23 (dk_at dksJ31_ensureCapacity_2 10 rfl rfl)
theorem dJ31_ensureCapacity_59 : decode cJ31_ensureCapacity 59 = .ok (.aload_n 0, 1) := dk_42 (dk_at dksJ31_ensureCapacity_2 13 rfl rfl)
theorem dJ31_ensureCapacity_60 : decode cJ31_ensureCapacity 60 = .ok (.getfield 20, 3) := dk_180 0 20 (dk_at dksJ31_ensureCapacity_2 14 rfl rfl)
theorem dJ31_ensureCapacity_63 : decode cJ31_ensureCapacity 63 = .ok (.areturn, 1) := dk_176 (dk_at dksJ31_ensureCapacity_2 17 rfl rfl)
theorem c72002 : jtCode 72002 = cJ31_ensureCapacity := rfl
theorem F72002_0 (d : Nat) (a0 : Nat) (i1 : Int32) (h : AH) : G2 d 72002 0 [.ref a0, .int i1, jno, jno] [] h = zpI (jf (jc h (.ref a0)) [72] 4) (fun x1 => if i1 ≤ x1 then (zpR (jf (jc h (.ref a0)) [72] 2) (fun r2 => ckR r2 (some (.inl (some r2), h))) ()) else (zcI (M2 d 62006 [.int i1] h) (fun x3 h4 => if 0 ≤ ((((-1 : Int32).toUInt32 >>> (x3.toUInt32 &&& Int32.toUInt32 31)).toInt32) + 1) then (zpR (jf (jc h4 (.ref a0)) [72] 0) (fun r5 => zqL h4 r5 (fun x6 => zcI (M2 d 53001 [.int ((((-1 : Int32).toUInt32 >>> (x3.toUInt32 &&& Int32.toUInt32 31)).toInt32) + 1), .int ((x6.toUInt32 >>> ((1 : Int32).toUInt32 &&& Int32.toUInt32 31)).toInt32)] h4) (fun x7 h8 => G2 d 72002 39 [.ref a0, .int i1, .int x7, jno] [] h8) ()) ()) ()) else (G2 d 72002 39 [.ref a0, .int i1, .int i1, jno] [] h4)) ())) () := by
  refine (g_aload_nH c72002 dJ31_ensureCapacity_0 rfl).trans ?_
  refine (g_getIH c72002 dJ31_ensureCapacity_1 rfl rfl).trans (rI_cg fun x1 => ?_)
  refine (g_iload_nH c72002 dJ31_ensureCapacity_4 rfl).trans ?_
  refine (g_icmp_geH (tgt := 59) c72002 dJ31_ensureCapacity_5 rfl).trans (if_cg ?_ ?_)
  · skip
    refine (g_aload_nH c72002 dJ31_ensureCapacity_59 rfl).trans ?_
    refine (g_getRH c72002 dJ31_ensureCapacity_60 rfl).trans (rR_cg fun r2 => ?_)
    exact g_areturnAH c72002 dJ31_ensureCapacity_63 rfl
  · skip
    refine (g_iconstH (x := (-1)) c72002 dJ31_ensureCapacity_8 rfl).trans ?_
    refine (g_iload_nH c72002 dJ31_ensureCapacity_9 rfl).trans ?_
    refine (g_staticH (as := [.int i1]) (rest := [.int (-1)]) c72002 dJ31_ensureCapacity_10 rfl rfl rfl rfl rfl).trans ((jback_IH (κx := cX) (fun e h => jthrow_outH rfl)).trans (cI_cg fun x3 h4 => ?_))
    refine (g_iushrH c72002 dJ31_ensureCapacity_13).trans ?_
    refine (g_istore_nH (L' := [.ref a0, .int i1, .int (((-1 : Int32).toUInt32 >>> (x3.toUInt32 &&& Int32.toUInt32 31)).toInt32), jno]) c72002 dJ31_ensureCapacity_14 rfl rfl).trans ?_
    refine (g_iincH (c := 1) (L' := [.ref a0, .int i1, .int ((((-1 : Int32).toUInt32 >>> (x3.toUInt32 &&& Int32.toUInt32 31)).toInt32) + 1), jno]) c72002 dJ31_ensureCapacity_15 rfl rfl rfl rfl).trans ?_
    refine (g_iload_nH c72002 dJ31_ensureCapacity_18 rfl).trans ?_
    refine (g_if_geH (tgt := 27) c72002 dJ31_ensureCapacity_19 rfl).trans (if_cg ?_ ?_)
    · skip
      refine (g_iload_nH c72002 dJ31_ensureCapacity_27 rfl).trans ?_
      refine (g_aload_nH c72002 dJ31_ensureCapacity_28 rfl).trans ?_
      refine (g_getRH c72002 dJ31_ensureCapacity_29 rfl).trans (rR_cg fun r5 => ?_)
      refine (g_alenH c72002 dJ31_ensureCapacity_32).trans (aL_cg fun x6 => ?_)
      refine (g_iconstH (x := 1) c72002 dJ31_ensureCapacity_33 rfl).trans ?_
      refine (g_iushrH c72002 dJ31_ensureCapacity_34).trans ?_
      refine (g_staticH (as := [.int ((((-1 : Int32).toUInt32 >>> (x3.toUInt32 &&& Int32.toUInt32 31)).toInt32) + 1), .int ((x6.toUInt32 >>> ((1 : Int32).toUInt32 &&& Int32.toUInt32 31)).toInt32)]) (rest := []) c72002 dJ31_ensureCapacity_35 rfl rfl rfl rfl rfl).trans ((jback_IH (κx := cX) (fun e h => jthrow_outH rfl)).trans (cI_cg fun x7 h8 => ?_))
      refine (g_istore_nH (L' := [.ref a0, .int i1, .int x7, jno]) c72002 dJ31_ensureCapacity_38 rfl rfl).trans ?_
      rfl
    · skip
      refine (g_iload_nH c72002 dJ31_ensureCapacity_22 rfl).trans ?_
      refine (g_istore_nH (L' := [.ref a0, .int i1, .int i1, jno]) c72002 dJ31_ensureCapacity_23 rfl rfl).trans ?_
      refine (g_gotoH (tgt := 39) c72002 dJ31_ensureCapacity_24 rfl).trans ?_
      rfl
theorem F72002_39 (d : Nat) (a0 : Nat) (i1 : Int32) (i2 : Int32) (h : AH) : G2 d 72002 39 [.ref a0, .int i1, .int i2, jno] [] h = zqN i2 (zqH (jpush h (1040, i2.toNatClampNeg, fun _ => .null)) (fun h1 => zqF h1 (.ref a0) [72] 2 2 (.ref h.1) (fun h2 => zqF h2 (.ref a0) [72] 4 0 (.int i2) (fun h3 => zqF h3 (.ref a0) [72] 3 0 (.int 0) (fun h4 => zpR (jf (jc h4 (.ref a0)) [72] 2) (fun r5 => ckR r5 (some (.inl (some r5), h4))) ()) ()) ()) ()) ()) () := by
  refine (g_iload_nH c72002 dJ31_ensureCapacity_39 rfl).trans ?_
  refine (g_newRH (t := 1040) c72002 dJ31_ensureCapacity_40 rfl rfl).trans (nA_cg ?_)
  refine nmZ ?_
  generalize jpush h (1040, i2.toNatClampNeg, fun _ => .null) = h1
  refine (g_astore_nH (L' := [.ref a0, .int i1, .int i2, .ref h.1]) c72002 dJ31_ensureCapacity_43 rfl rfl).trans ?_
  refine (g_aload_nH c72002 dJ31_ensureCapacity_44 rfl).trans ?_
  refine (g_aload_nH c72002 dJ31_ensureCapacity_45 rfl).trans ?_
  refine (g_putH c72002 dJ31_ensureCapacity_46 rfl).trans (pF_cg fun h2 => ?_)
  refine (g_aload_nH c72002 dJ31_ensureCapacity_49 rfl).trans ?_
  refine (g_iload_nH c72002 dJ31_ensureCapacity_50 rfl).trans ?_
  refine (g_putH c72002 dJ31_ensureCapacity_51 rfl).trans (pF_cg fun h3 => ?_)
  refine (g_aload_nH c72002 dJ31_ensureCapacity_54 rfl).trans ?_
  refine (g_iconstH (x := 0) c72002 dJ31_ensureCapacity_55 rfl).trans ?_
  refine (g_putH c72002 dJ31_ensureCapacity_56 rfl).trans (pF_cg fun h4 => ?_)
  refine (g_aload_nH c72002 dJ31_ensureCapacity_59 rfl).trans ?_
  refine (g_getRH c72002 dJ31_ensureCapacity_60 rfl).trans (rR_cg fun r5 => ?_)
  exact g_areturnAH c72002 dJ31_ensureCapacity_63 rfl
theorem Y72002 {d : Nat} {a0 : Nat} {i1 : Int32} (h : AH) (hr : jrecv 72002 [.ref a0, .int i1] h = true) : M2 (d + 1) 72002 [.ref a0, .int i1] h = G2 d 72002 0 [.ref a0, .int i1, jno, jno] [] h := M2_eq rfl rfl hr rfl
/-! java/util/ComparableTimSort.gallopLeft(Ljava/lang/Comparable;[Ljava/lang/Object;III)I -/
abbrev cJ31_gallopLeft : ByteArray := prog_74_method_11_code
def dkwJ31_gallopLeft_13 : List UInt8 := [154, 0, 18, 21, 5, 21, 6, 159, 0, 11, 187, 0, 41, 89, 183, 0, 43, 191, 21, 6, 172]
abbrev dktJ31_gallopLeft_13 : List UInt8 := dkwJ31_gallopLeft_13 ++ []
def dkwJ31_gallopLeft_12 : List UInt8 := [158, 0, 12, 21, 7, 4, 96, 54, 5, 167, 0, 7, 21, 7, 54, 6, 167, 255, 209, 178, 0, 37]
abbrev dktJ31_gallopLeft_12 : List UInt8 := dkwJ31_gallopLeft_12 ++ dktJ31_gallopLeft_13
def dkwJ31_gallopLeft_11 : List UInt8 := [21, 5, 21, 6, 21, 5, 100, 4, 124, 96, 54, 7, 42, 43, 28, 21, 7, 96, 50, 185, 0, 71, 2, 0]
abbrev dktJ31_gallopLeft_11 : List UInt8 := dkwJ31_gallopLeft_11 ++ dktJ31_gallopLeft_12
def dkwJ31_gallopLeft_10 : List UInt8 := [21, 6, 29, 164, 0, 11, 187, 0, 41, 89, 183, 0, 43, 191, 132, 5, 1, 21, 5, 21, 6, 162, 0, 46]
abbrev dktJ31_gallopLeft_10 : List UInt8 := dkwJ31_gallopLeft_10 ++ dktJ31_gallopLeft_11
def dkwJ31_gallopLeft_9 : List UInt8 := [21, 8, 100, 54, 6, 178, 0, 37, 154, 0, 30, 2, 21, 5, 163, 0, 16, 21, 5, 21, 6, 162, 0, 9]
abbrev dktJ31_gallopLeft_9 : List UInt8 := dkwJ31_gallopLeft_9 ++ dktJ31_gallopLeft_10
def dkwJ31_gallopLeft_8 : List UInt8 := [21, 6, 21, 7, 164, 0, 7, 21, 7, 54, 6, 21, 5, 54, 8, 21, 4, 21, 6, 100, 54, 5, 21, 4]
abbrev dktJ31_gallopLeft_8 : List UInt8 := dkwJ31_gallopLeft_8 ++ dktJ31_gallopLeft_9
def dkwJ31_gallopLeft_7 : List UInt8 := [21, 6, 54, 5, 21, 6, 4, 120, 4, 96, 54, 6, 21, 6, 157, 255, 217, 21, 7, 54, 6, 167, 255, 210]
abbrev dktJ31_gallopLeft_7 : List UInt8 := dkwJ31_gallopLeft_7 ++ dktJ31_gallopLeft_8
def dkwJ31_gallopLeft_6 : List UInt8 := [21, 7, 162, 0, 45, 42, 43, 28, 21, 4, 96, 21, 6, 100, 50, 185, 0, 71, 2, 0, 157, 0, 27]
abbrev dktJ31_gallopLeft_6 : List UInt8 := dkwJ31_gallopLeft_6 ++ dktJ31_gallopLeft_7
def dkwJ31_gallopLeft_5 : List UInt8 := [21, 4, 96, 54, 5, 21, 6, 21, 4, 96, 54, 6, 167, 0, 87, 21, 4, 4, 96, 54, 7, 21, 6]
abbrev dktJ31_gallopLeft_5 : List UInt8 := dkwJ31_gallopLeft_5 ++ dktJ31_gallopLeft_6
def dkwJ31_gallopLeft_4 : List UInt8 := [157, 255, 217, 21, 7, 54, 6, 167, 255, 210, 21, 6, 21, 7, 164, 0, 7, 21, 7, 54, 6, 21, 5]
abbrev dktJ31_gallopLeft_4 : List UInt8 := dkwJ31_gallopLeft_4 ++ dktJ31_gallopLeft_5
def dkwJ31_gallopLeft_3 : List UInt8 := [96, 50, 185, 0, 71, 2, 0, 158, 0, 27, 21, 6, 54, 5, 21, 6, 4, 120, 4, 96, 54, 6, 21, 6]
abbrev dktJ31_gallopLeft_3 : List UInt8 := dkwJ31_gallopLeft_3 ++ dktJ31_gallopLeft_4
def dkwJ31_gallopLeft_2 : List UInt8 := [158, 0, 86, 29, 21, 4, 100, 54, 7, 21, 6, 21, 7, 162, 0, 45, 42, 43, 28, 21, 4, 96, 21, 6]
abbrev dktJ31_gallopLeft_2 : List UInt8 := dkwJ31_gallopLeft_2 ++ dktJ31_gallopLeft_3
def dkwJ31_gallopLeft_1 : List UInt8 := [89, 183, 0, 43, 191, 3, 54, 5, 4, 54, 6, 42, 43, 28, 21, 4, 96, 50, 185, 0, 71, 2, 0]
abbrev dktJ31_gallopLeft_1 : List UInt8 := dkwJ31_gallopLeft_1 ++ dktJ31_gallopLeft_2
def dkwJ31_gallopLeft_0 : List UInt8 := [178, 0, 37, 154, 0, 26, 29, 158, 0, 14, 21, 4, 155, 0, 9, 21, 4, 29, 161, 0, 11, 187, 0, 41]
abbrev dktJ31_gallopLeft_0 : List UInt8 := dkwJ31_gallopLeft_0 ++ dktJ31_gallopLeft_1
theorem dksJ31_gallopLeft_0 : cJ31_gallopLeft.data.toList.drop 0 = dktJ31_gallopLeft_0 := by decide +kernel
theorem dksJ31_gallopLeft_1 : cJ31_gallopLeft.data.toList.drop 24 = dktJ31_gallopLeft_1 := dk_seg dksJ31_gallopLeft_0 24 rfl rfl
theorem dksJ31_gallopLeft_2 : cJ31_gallopLeft.data.toList.drop 47 = dktJ31_gallopLeft_2 := dk_seg dksJ31_gallopLeft_1 23 rfl rfl
theorem dksJ31_gallopLeft_3 : cJ31_gallopLeft.data.toList.drop 71 = dktJ31_gallopLeft_3 := dk_seg dksJ31_gallopLeft_2 24 rfl rfl
theorem dksJ31_gallopLeft_4 : cJ31_gallopLeft.data.toList.drop 95 = dktJ31_gallopLeft_4 := dk_seg dksJ31_gallopLeft_3 24 rfl rfl
theorem dksJ31_gallopLeft_5 : cJ31_gallopLeft.data.toList.drop 118 = dktJ31_gallopLeft_5 := dk_seg dksJ31_gallopLeft_4 23 rfl rfl
theorem dksJ31_gallopLeft_6 : cJ31_gallopLeft.data.toList.drop 141 = dktJ31_gallopLeft_6 := dk_seg dksJ31_gallopLeft_5 23 rfl rfl
theorem dksJ31_gallopLeft_7 : cJ31_gallopLeft.data.toList.drop 164 = dktJ31_gallopLeft_7 := dk_seg dksJ31_gallopLeft_6 23 rfl rfl
theorem dksJ31_gallopLeft_8 : cJ31_gallopLeft.data.toList.drop 188 = dktJ31_gallopLeft_8 := dk_seg dksJ31_gallopLeft_7 24 rfl rfl
theorem dksJ31_gallopLeft_9 : cJ31_gallopLeft.data.toList.drop 212 = dktJ31_gallopLeft_9 := dk_seg dksJ31_gallopLeft_8 24 rfl rfl
theorem dksJ31_gallopLeft_10 : cJ31_gallopLeft.data.toList.drop 236 = dktJ31_gallopLeft_10 := dk_seg dksJ31_gallopLeft_9 24 rfl rfl
theorem dksJ31_gallopLeft_11 : cJ31_gallopLeft.data.toList.drop 260 = dktJ31_gallopLeft_11 := dk_seg dksJ31_gallopLeft_10 24 rfl rfl
theorem dksJ31_gallopLeft_12 : cJ31_gallopLeft.data.toList.drop 284 = dktJ31_gallopLeft_12 := dk_seg dksJ31_gallopLeft_11 24 rfl rfl
theorem dksJ31_gallopLeft_13 : cJ31_gallopLeft.data.toList.drop 306 = dktJ31_gallopLeft_13 := dk_seg dksJ31_gallopLeft_12 22 rfl rfl
theorem dJ31_gallopLeft_0 : decode cJ31_gallopLeft 0 = .ok (.getstatic 37, 3) := dk_178 0 37 (dk_at dksJ31_gallopLeft_0 0 rfl rfl)
theorem dJ31_gallopLeft_3 : decode cJ31_gallopLeft 3 = .ok (.ifCond .ne 26, 3) := dk_154 0 26 (dk_at dksJ31_gallopLeft_0 3 rfl rfl)
theorem dJ31_gallopLeft_6 : decode cJ31_gallopLeft 6 = .ok (.iload_n 3, 1) := dk_29 (dk_at dksJ31_gallopLeft_0 6 rfl rfl)
theorem dJ31_gallopLeft_7 : decode cJ31_gallopLeft 7 = .ok (.ifCond .le 14, 3) := dk_158 0 14 (dk_at dksJ31_gallopLeft_0 7 rfl rfl)
theorem dJ31_gallopLeft_10 : decode cJ31_gallopLeft 10 = .ok (.iload 4, 2) := dk_21 4 (dk_at dksJ31_gallopLeft_0 10 rfl rfl)
theorem dJ31_gallopLeft_12 : decode cJ31_gallopLeft 12 = .ok (.ifCond .lt 9, 3) := dk_155 0 9 (dk_at dksJ31_gallopLeft_0 12 rfl rfl)
theorem dJ31_gallopLeft_15 : decode cJ31_gallopLeft 15 = .ok (.iload 4, 2) := dk_21 4 (dk_at dksJ31_gallopLeft_0 15 rfl rfl)
theorem dJ31_gallopLeft_17 : decode cJ31_gallopLeft 17 = .ok (.iload_n 3, 1) := dk_29 (dk_at dksJ31_gallopLeft_0 17 rfl rfl)
theorem dJ31_gallopLeft_18 : decode cJ31_gallopLeft 18 = .ok (.if_icmp .lt 11, 3) := dk_161 0 11 (dk_at dksJ31_gallopLeft_0 18 rfl rfl)
theorem dJ31_gallopLeft_21 : decode cJ31_gallopLeft 21 = .ok (.new 41, 3) := dk_187 0 41 (dk_at dksJ31_gallopLeft_0 21 rfl rfl)
theorem dJ31_gallopLeft_24 : decode cJ31_gallopLeft 24 = .ok (.dup, 1) := dk_89 (dk_at dksJ31_gallopLeft_1 0 rfl rfl)
theorem dJ31_gallopLeft_25 : decode cJ31_gallopLeft 25 = .ok (.invokespecial 43, 3) := dk_183 0 43 (dk_at dksJ31_gallopLeft_1 1 rfl rfl)
theorem dJ31_gallopLeft_28 : decode cJ31_gallopLeft 28 = .ok (.athrow, 1) := dk_191 (dk_at dksJ31_gallopLeft_1 4 rfl rfl)
theorem dJ31_gallopLeft_29 : decode cJ31_gallopLeft 29 = .ok (.iconst 0, 1) := dk_3 (dk_at dksJ31_gallopLeft_1 5 rfl rfl)
theorem dJ31_gallopLeft_30 : decode cJ31_gallopLeft 30 = .ok (.istore 5, 2) := dk_54 5 (dk_at dksJ31_gallopLeft_1 6 rfl rfl)
theorem dJ31_gallopLeft_32 : decode cJ31_gallopLeft 32 = .ok (.iconst 1, 1) := dk_4 (dk_at dksJ31_gallopLeft_1 8 rfl rfl)
theorem dJ31_gallopLeft_33 : decode cJ31_gallopLeft 33 = .ok (.istore 6, 2) := dk_54 6 (dk_at dksJ31_gallopLeft_1 9 rfl rfl)
theorem dJ31_gallopLeft_35 : decode cJ31_gallopLeft 35 = .ok (.aload_n 0, 1) := dk_42 (dk_at dksJ31_gallopLeft_1 11 rfl rfl)
theorem dJ31_gallopLeft_36 : decode cJ31_gallopLeft 36 = .ok (.aload_n 1, 1) := dk_43 (dk_at dksJ31_gallopLeft_1 12 rfl rfl)
theorem dJ31_gallopLeft_37 : decode cJ31_gallopLeft 37 = .ok (.iload_n 2, 1) := dk_28 (dk_at dksJ31_gallopLeft_1 13 rfl rfl)
theorem dJ31_gallopLeft_38 : decode cJ31_gallopLeft 38 = .ok (.iload 4, 2) := dk_21 4 (dk_at dksJ31_gallopLeft_1 14 rfl rfl)
theorem dJ31_gallopLeft_40 : decode cJ31_gallopLeft 40 = .ok (.iadd, 1) := dk_96 (dk_at dksJ31_gallopLeft_1 16 rfl rfl)
theorem dJ31_gallopLeft_41 : decode cJ31_gallopLeft 41 = .ok (.aaload, 1) := dk_50 (dk_at dksJ31_gallopLeft_1 17 rfl rfl)
theorem dJ31_gallopLeft_42 : decode cJ31_gallopLeft 42 = .ok (.invokeinterface 71 2, 5) := by decide +kernel
theorem dJ31_gallopLeft_47 : decode cJ31_gallopLeft 47 = .ok (.ifCond .le 86, 3) := dk_158 0 86 (dk_at dksJ31_gallopLeft_2 0 rfl rfl)
theorem dJ31_gallopLeft_50 : decode cJ31_gallopLeft 50 = .ok (.iload_n 3, 1) := dk_29 (dk_at dksJ31_gallopLeft_2 3 rfl rfl)
theorem dJ31_gallopLeft_51 : decode cJ31_gallopLeft 51 = .ok (.iload 4, 2) := dk_21 4 (dk_at dksJ31_gallopLeft_2 4 rfl rfl)
theorem dJ31_gallopLeft_53 : decode cJ31_gallopLeft 53 = .ok (.isub, 1) := dk_100 (dk_at dksJ31_gallopLeft_2 6 rfl rfl)
theorem dJ31_gallopLeft_54 : decode cJ31_gallopLeft 54 = .ok (.istore 7, 2) := dk_54 7 (dk_at dksJ31_gallopLeft_2 7 rfl rfl)
theorem dJ31_gallopLeft_56 : decode cJ31_gallopLeft 56 = .ok (.iload 6, 2) := dk_21 6 (dk_at dksJ31_gallopLeft_2 9 rfl rfl)
theorem dJ31_gallopLeft_58 : decode cJ31_gallopLeft 58 = .ok (.iload 7, 2) := dk_21 7 (dk_at dksJ31_gallopLeft_2 11 rfl rfl)
theorem dJ31_gallopLeft_60 : decode cJ31_gallopLeft 60 = .ok (.if_icmp .ge 45, 3) := dk_162 0 45 (dk_at dksJ31_gallopLeft_2 13 rfl rfl)
theorem dJ31_gallopLeft_63 : decode cJ31_gallopLeft 63 = .ok (.aload_n 0, 1) := dk_42 (dk_at dksJ31_gallopLeft_2 16 rfl rfl)
theorem dJ31_gallopLeft_64 : decode cJ31_gallopLeft 64 = .ok (.aload_n 1, 1) := dk_43 (dk_at dksJ31_gallopLeft_2 17 rfl rfl)
theorem dJ31_gallopLeft_65 : decode cJ31_gallopLeft 65 = .ok (.iload_n 2, 1) := dk_28 (dk_at dksJ31_gallopLeft_2 18 rfl rfl)
theorem dJ31_gallopLeft_66 : decode cJ31_gallopLeft 66 = .ok (.iload 4, 2) := dk_21 4 (dk_at dksJ31_gallopLeft_2 19 rfl rfl)
theorem dJ31_gallopLeft_68 : decode cJ31_gallopLeft 68 = .ok (.iadd, 1) := dk_96 (dk_at dksJ31_gallopLeft_2 21 rfl rfl)
theorem dJ31_gallopLeft_69 : decode cJ31_gallopLeft 69 = .ok (.iload 6, 2) := dk_21 6 (dk_at dksJ31_gallopLeft_2 22 rfl rfl)
theorem dJ31_gallopLeft_71 : decode cJ31_gallopLeft 71 = .ok (.iadd, 1) := dk_96 (dk_at dksJ31_gallopLeft_3 0 rfl rfl)
theorem dJ31_gallopLeft_72 : decode cJ31_gallopLeft 72 = .ok (.aaload, 1) := dk_50 (dk_at dksJ31_gallopLeft_3 1 rfl rfl)
theorem dJ31_gallopLeft_73 : decode cJ31_gallopLeft 73 = .ok (.invokeinterface 71 2, 5) := by decide +kernel
theorem dJ31_gallopLeft_78 : decode cJ31_gallopLeft 78 = .ok (.ifCond .le 27, 3) := dk_158 0 27 (dk_at dksJ31_gallopLeft_3 7 rfl rfl)
theorem dJ31_gallopLeft_81 : decode cJ31_gallopLeft 81 = .ok (.iload 6, 2) := dk_21 6 (dk_at dksJ31_gallopLeft_3 10 rfl rfl)
theorem dJ31_gallopLeft_83 : decode cJ31_gallopLeft 83 = .ok (.istore 5, 2) := dk_54 5 (dk_at dksJ31_gallopLeft_3 12 rfl rfl)
theorem dJ31_gallopLeft_85 : decode cJ31_gallopLeft 85 = .ok (.iload 6, 2) := dk_21 6 (dk_at dksJ31_gallopLeft_3 14 rfl rfl)
theorem dJ31_gallopLeft_87 : decode cJ31_gallopLeft 87 = .ok (.iconst 1, 1) := dk_4 (dk_at dksJ31_gallopLeft_3 16 rfl rfl)
theorem dJ31_gallopLeft_88 : decode cJ31_gallopLeft 88 = .ok (.ishl, 1) := dk_120 (dk_at dksJ31_gallopLeft_3 17 rfl rfl)
theorem dJ31_gallopLeft_89 : decode cJ31_gallopLeft 89 = .ok (.iconst 1, 1) := dk_4 (dk_at dksJ31_gallopLeft_3 18 rfl rfl)
theorem dJ31_gallopLeft_90 : decode cJ31_gallopLeft 90 = .ok (.iadd, 1) := dk_96 (dk_at dksJ31_gallopLeft_3 19 rfl rfl)
theorem dJ31_gallopLeft_91 : decode cJ31_gallopLeft 91 = .ok (.istore 6, 2) := dk_54 6 (dk_at dksJ31_gallopLeft_3 20 rfl rfl)
theorem dJ31_gallopLeft_93 : decode cJ31_gallopLeft 93 = .ok (.iload 6, 2) := dk_21 6 (dk_at dksJ31_gallopLeft_3 22 rfl rfl)
theorem dJ31_gallopLeft_95 : decode cJ31_gallopLeft 95 = .ok (.ifCond .gt (-39), 3) := dk_157 255 217 (dk_at dksJ31_gallopLeft_4 0 rfl rfl)
theorem dJ31_gallopLeft_98 : decode cJ31_gallopLeft 98 = .ok (.iload 7, 2) := dk_21 7 (dk_at dksJ31_gallopLeft_4 3 rfl rfl)
theorem dJ31_gallopLeft_100 : decode cJ31_gallopLeft 100 = .ok (.istore 6, 2) := dk_54 6 (dk_at dksJ31_gallopLeft_4 5 rfl rfl)
theorem dJ31_gallopLeft_102 : decode cJ31_gallopLeft 102 = .ok (.goto (-46), 3) := dk_167 255 210 (dk_at dksJ31_gallopLeft_4 7 rfl rfl)
theorem dJ31_gallopLeft_105 : decode cJ31_gallopLeft 105 = .ok (.iload 6, 2) := dk_21 6 (dk_at dksJ31_gallopLeft_4 10 rfl rfl)
theorem dJ31_gallopLeft_107 : decode cJ31_gallopLeft 107 = .ok (.iload 7, 2) := dk_21 7 (dk_at dksJ31_gallopLeft_4 12 rfl rfl)
theorem dJ31_gallopLeft_109 : decode cJ31_gallopLeft 109 = .ok (.if_icmp .le 7, 3) := dk_164 0 7 (dk_at dksJ31_gallopLeft_4 14 rfl rfl)
theorem dJ31_gallopLeft_112 : decode cJ31_gallopLeft 112 = .ok (.iload 7, 2) := dk_21 7 (dk_at dksJ31_gallopLeft_4 17 rfl rfl)
theorem dJ31_gallopLeft_114 : decode cJ31_gallopLeft 114 = .ok (.istore 6, 2) := dk_54 6 (dk_at dksJ31_gallopLeft_4 19 rfl rfl)
theorem dJ31_gallopLeft_116 : decode cJ31_gallopLeft 116 = .ok (.iload 5, 2) := dk_21 5 (dk_at dksJ31_gallopLeft_4 21 rfl rfl)
theorem dJ31_gallopLeft_118 : decode cJ31_gallopLeft 118 = .ok (.iload 4, 2) := dk_21 4 (dk_at dksJ31_gallopLeft_5 0 rfl rfl)
theorem dJ31_gallopLeft_120 : decode cJ31_gallopLeft 120 = .ok (.iadd, 1) := dk_96 (dk_at dksJ31_gallopLeft_5 2 rfl rfl)
theorem dJ31_gallopLeft_121 : decode cJ31_gallopLeft 121 = .ok (.istore 5, 2) := dk_54 5 (dk_at dksJ31_gallopLeft_5 3 rfl rfl)
theorem dJ31_gallopLeft_123 : decode cJ31_gallopLeft 123 = .ok (.iload 6, 2) := dk_21 6 (dk_at dksJ31_gallopLeft_5 5 rfl rfl)
theorem dJ31_gallopLeft_125 : decode cJ31_gallopLeft 125 = .ok (.iload 4, 2) := dk_21 4 (dk_at dksJ31_gallopLeft_5 7 rfl rfl)
theorem dJ31_gallopLeft_127 : decode cJ31_gallopLeft 127 = .ok (.iadd, 1) := dk_96 (dk_at dksJ31_gallopLeft_5 9 rfl rfl)
theorem dJ31_gallopLeft_128 : decode cJ31_gallopLeft 128 = .ok (.istore 6, 2) := dk_54 6 (dk_at dksJ31_gallopLeft_5 10 rfl rfl)
theorem dJ31_gallopLeft_130 : decode cJ31_gallopLeft 130 = .ok (.goto 87, 3) := dk_167 0 87 (dk_at dksJ31_gallopLeft_5 12 rfl rfl)
theorem dJ31_gallopLeft_133 : decode cJ31_gallopLeft 133 = .ok (.iload 4, 2) := dk_21 4 (dk_at dksJ31_gallopLeft_5 15 rfl rfl)
theorem dJ31_gallopLeft_135 : decode cJ31_gallopLeft 135 = .ok (.iconst 1, 1) := dk_4 (dk_at dksJ31_gallopLeft_5 17 rfl rfl)
theorem dJ31_gallopLeft_136 : decode cJ31_gallopLeft 136 = .ok (.iadd, 1) := dk_96 (dk_at dksJ31_gallopLeft_5 18 rfl rfl)
theorem dJ31_gallopLeft_137 : decode cJ31_gallopLeft 137 = .ok (.istore 7, 2) := dk_54 7 (dk_at dksJ31_gallopLeft_5 19 rfl rfl)
theorem dJ31_gallopLeft_139 : decode cJ31_gallopLeft 139 = .ok (.iload 6, 2) := dk_21 6 (dk_at dksJ31_gallopLeft_5 21 rfl rfl)
theorem dJ31_gallopLeft_141 : decode cJ31_gallopLeft 141 = .ok (.iload 7, 2) := dk_21 7 (dk_at dksJ31_gallopLeft_6 0 rfl rfl)
theorem dJ31_gallopLeft_143 : decode cJ31_gallopLeft 143 = .ok (.if_icmp .ge 45, 3) := dk_162 0 45 (dk_at dksJ31_gallopLeft_6 2 rfl rfl)
theorem dJ31_gallopLeft_146 : decode cJ31_gallopLeft 146 = .ok (.aload_n 0, 1) := dk_42 (dk_at dksJ31_gallopLeft_6 5 rfl rfl)
theorem dJ31_gallopLeft_147 : decode cJ31_gallopLeft 147 = .ok (.aload_n 1, 1) := dk_43 (dk_at dksJ31_gallopLeft_6 6 rfl rfl)
theorem dJ31_gallopLeft_148 : decode cJ31_gallopLeft 148 = .ok (.iload_n 2, 1) := dk_28 (dk_at dksJ31_gallopLeft_6 7 rfl rfl)
theorem dJ31_gallopLeft_149 : decode cJ31_gallopLeft 149 = .ok (.iload 4, 2) := dk_21 4 (dk_at dksJ31_gallopLeft_6 8 rfl rfl)
theorem dJ31_gallopLeft_151 : decode cJ31_gallopLeft 151 = .ok (.iadd, 1) := dk_96 (dk_at dksJ31_gallopLeft_6 10 rfl rfl)
theorem dJ31_gallopLeft_152 : decode cJ31_gallopLeft 152 = .ok (.iload 6, 2) := dk_21 6 (dk_at dksJ31_gallopLeft_6 11 rfl rfl)
theorem dJ31_gallopLeft_154 : decode cJ31_gallopLeft 154 = .ok (.isub, 1) := dk_100 (dk_at dksJ31_gallopLeft_6 13 rfl rfl)
theorem dJ31_gallopLeft_155 : decode cJ31_gallopLeft 155 = .ok (.aaload, 1) := dk_50 (dk_at dksJ31_gallopLeft_6 14 rfl rfl)
theorem dJ31_gallopLeft_156 : decode cJ31_gallopLeft 156 = .ok (.invokeinterface 71 2, 5) := by decide +kernel
theorem dJ31_gallopLeft_161 : decode cJ31_gallopLeft 161 = .ok (.ifCond .gt 27, 3) := dk_157 0 27 (dk_at dksJ31_gallopLeft_6 20 rfl rfl)
theorem dJ31_gallopLeft_164 : decode cJ31_gallopLeft 164 = .ok (.iload 6, 2) := dk_21 6 (dk_at dksJ31_gallopLeft_7 0 rfl rfl)
theorem dJ31_gallopLeft_166 : decode cJ31_gallopLeft 166 = .ok (.istore 5, 2) := dk_54 5 (dk_at dksJ31_gallopLeft_7 2 rfl rfl)
theorem dJ31_gallopLeft_168 : decode cJ31_gallopLeft 168 = .ok (.iload 6, 2) := dk_21 6 (dk_at dksJ31_gallopLeft_7 4 rfl rfl)
theorem dJ31_gallopLeft_170 : decode cJ31_gallopLeft 170 = .ok (.iconst 1, 1) := dk_4 (dk_at dksJ31_gallopLeft_7 6 rfl rfl)
theorem dJ31_gallopLeft_171 : decode cJ31_gallopLeft 171 = .ok (.ishl, 1) := dk_120 (dk_at dksJ31_gallopLeft_7 7 rfl rfl)
theorem dJ31_gallopLeft_172 : decode cJ31_gallopLeft 172 = .ok (.iconst 1, 1) := dk_4 (dk_at dksJ31_gallopLeft_7 8 rfl rfl)
theorem dJ31_gallopLeft_173 : decode cJ31_gallopLeft 173 = .ok (.iadd, 1) := dk_96 (dk_at dksJ31_gallopLeft_7 9 rfl rfl)
theorem dJ31_gallopLeft_174 : decode cJ31_gallopLeft 174 = .ok (.istore 6, 2) := dk_54 6 (dk_at dksJ31_gallopLeft_7 10 rfl rfl)
theorem dJ31_gallopLeft_176 : decode cJ31_gallopLeft 176 = .ok (.iload 6, 2) := dk_21 6 (dk_at dksJ31_gallopLeft_7 12 rfl rfl)
theorem dJ31_gallopLeft_178 : decode cJ31_gallopLeft 178 = .ok (.ifCond .gt (-39), 3) := dk_157 255 217 (dk_at dksJ31_gallopLeft_7 14 rfl rfl)
theorem dJ31_gallopLeft_181 : decode cJ31_gallopLeft 181 = .ok (.iload 7, 2) := dk_21 7 (dk_at dksJ31_gallopLeft_7 17 rfl rfl)
theorem dJ31_gallopLeft_183 : decode cJ31_gallopLeft 183 = .ok (.istore 6, 2) := dk_54 6 (dk_at dksJ31_gallopLeft_7 19 rfl rfl)
theorem dJ31_gallopLeft_185 : decode cJ31_gallopLeft 185 = .ok (.goto (-46), 3) := dk_167 255 210 (dk_at dksJ31_gallopLeft_7 21 rfl rfl)
theorem dJ31_gallopLeft_188 : decode cJ31_gallopLeft 188 = .ok (.iload 6, 2) := dk_21 6 (dk_at dksJ31_gallopLeft_8 0 rfl rfl)
theorem dJ31_gallopLeft_190 : decode cJ31_gallopLeft 190 = .ok (.iload 7, 2) := dk_21 7 (dk_at dksJ31_gallopLeft_8 2 rfl rfl)
theorem dJ31_gallopLeft_192 : decode cJ31_gallopLeft 192 = .ok (.if_icmp .le 7, 3) := dk_164 0 7 (dk_at dksJ31_gallopLeft_8 4 rfl rfl)
theorem dJ31_gallopLeft_195 : decode cJ31_gallopLeft 195 = .ok (.iload 7, 2) := dk_21 7 (dk_at dksJ31_gallopLeft_8 7 rfl rfl)
theorem dJ31_gallopLeft_197 : decode cJ31_gallopLeft 197 = .ok (.istore 6, 2) := dk_54 6 (dk_at dksJ31_gallopLeft_8 9 rfl rfl)
theorem dJ31_gallopLeft_199 : decode cJ31_gallopLeft 199 = .ok (.iload 5, 2) := dk_21 5 (dk_at dksJ31_gallopLeft_8 11 rfl rfl)
theorem dJ31_gallopLeft_201 : decode cJ31_gallopLeft 201 = .ok (.istore 8, 2) := dk_54 8 (dk_at dksJ31_gallopLeft_8 13 rfl rfl)
theorem dJ31_gallopLeft_203 : decode cJ31_gallopLeft 203 = .ok (.iload 4, 2) := dk_21 4 (dk_at dksJ31_gallopLeft_8 15 rfl rfl)
theorem dJ31_gallopLeft_205 : decode cJ31_gallopLeft 205 = .ok (.iload 6, 2) := dk_21 6 (dk_at dksJ31_gallopLeft_8 17 rfl rfl)
theorem dJ31_gallopLeft_207 : decode cJ31_gallopLeft 207 = .ok (.isub, 1) := dk_100 (dk_at dksJ31_gallopLeft_8 19 rfl rfl)
theorem dJ31_gallopLeft_208 : decode cJ31_gallopLeft 208 = .ok (.istore 5, 2) := dk_54 5 (dk_at dksJ31_gallopLeft_8 20 rfl rfl)
theorem dJ31_gallopLeft_210 : decode cJ31_gallopLeft 210 = .ok (.iload 4, 2) := dk_21 4 (dk_at dksJ31_gallopLeft_8 22 rfl rfl)
theorem dJ31_gallopLeft_212 : decode cJ31_gallopLeft 212 = .ok (.iload 8, 2) := dk_21 8 (dk_at dksJ31_gallopLeft_9 0 rfl rfl)
theorem dJ31_gallopLeft_214 : decode cJ31_gallopLeft 214 = .ok (.isub, 1) := dk_100 (dk_at dksJ31_gallopLeft_9 2 rfl rfl)
theorem dJ31_gallopLeft_215 : decode cJ31_gallopLeft 215 = .ok (.istore 6, 2) := dk_54 6 (dk_at dksJ31_gallopLeft_9 3 rfl rfl)
theorem dJ31_gallopLeft_217 : decode cJ31_gallopLeft 217 = .ok (.getstatic 37, 3) := dk_178 0 37 (dk_at dksJ31_gallopLeft_9 5 rfl rfl)
theorem dJ31_gallopLeft_220 : decode cJ31_gallopLeft 220 = .ok (.ifCond .ne 30, 3) := dk_154 0 30 (dk_at dksJ31_gallopLeft_9 8 rfl rfl)
theorem dJ31_gallopLeft_223 : decode cJ31_gallopLeft 223 = .ok (.iconst (-1), 1) := dk_2 (dk_at dksJ31_gallopLeft_9 11 rfl rfl)
theorem dJ31_gallopLeft_224 : decode cJ31_gallopLeft 224 = .ok (.iload 5, 2) := dk_21 5 (dk_at dksJ31_gallopLeft_9 12 rfl rfl)
theorem dJ31_gallopLeft_226 : decode cJ31_gallopLeft 226 = .ok (.if_icmp .gt 16, 3) := dk_163 0 16 (dk_at dksJ31_gallopLeft_9 14 rfl rfl)
theorem dJ31_gallopLeft_229 : decode cJ31_gallopLeft 229 = .ok (.iload 5, 2) := dk_21 5 (dk_at dksJ31_gallopLeft_9 17 rfl rfl)
theorem dJ31_gallopLeft_231 : decode cJ31_gallopLeft 231 = .ok (.iload 6, 2) := dk_21 6 (dk_at dksJ31_gallopLeft_9 19 rfl rfl)
theorem dJ31_gallopLeft_233 : decode cJ31_gallopLeft 233 = .ok (.if_icmp .ge 9, 3) := dk_162 0 9 (dk_at dksJ31_gallopLeft_9 21 rfl rfl)
theorem dJ31_gallopLeft_236 : decode cJ31_gallopLeft 236 = .ok (.iload 6, 2) := dk_21 6 (dk_at dksJ31_gallopLeft_10 0 rfl rfl)
theorem dJ31_gallopLeft_238 : decode cJ31_gallopLeft 238 = .ok (.iload_n 3, 1) := dk_29 (dk_at dksJ31_gallopLeft_10 2 rfl rfl)
theorem dJ31_gallopLeft_239 : decode cJ31_gallopLeft 239 = .ok (.if_icmp .le 11, 3) := dk_164 0 11 (dk_at dksJ31_gallopLeft_10 3 rfl rfl)
theorem dJ31_gallopLeft_242 : decode cJ31_gallopLeft 242 = .ok (.new 41, 3) := dk_187 0 41 (dk_at dksJ31_gallopLeft_10 6 rfl rfl)
theorem dJ31_gallopLeft_245 : decode cJ31_gallopLeft 245 = .ok (.dup, 1) := dk_89 (dk_at dksJ31_gallopLeft_10 9 rfl rfl)
theorem dJ31_gallopLeft_246 : decode cJ31_gallopLeft 246 = .ok (.invokespecial 43, 3) := dk_183 0 43 (dk_at dksJ31_gallopLeft_10 10 rfl rfl)
theorem dJ31_gallopLeft_249 : decode cJ31_gallopLeft 249 = .ok (.athrow, 1) := dk_191 (dk_at dksJ31_gallopLeft_10 13 rfl rfl)
theorem dJ31_gallopLeft_250 : decode cJ31_gallopLeft 250 = .ok (.iinc 5 1, 3) := dk_132 5 1 (dk_at dksJ31_gallopLeft_10 14 rfl rfl)
theorem dJ31_gallopLeft_253 : decode cJ31_gallopLeft 253 = .ok (.iload 5, 2) := dk_21 5 (dk_at dksJ31_gallopLeft_10 17 rfl rfl)
theorem dJ31_gallopLeft_255 : decode cJ31_gallopLeft 255 = .ok (.iload 6, 2) := dk_21 6 (dk_at dksJ31_gallopLeft_10 19 rfl rfl)
theorem dJ31_gallopLeft_257 : decode cJ31_gallopLeft 257 = .ok (.if_icmp .ge 46, 3) := dk_162 0 46 (dk_at dksJ31_gallopLeft_10 21 rfl rfl)
theorem dJ31_gallopLeft_260 : decode cJ31_gallopLeft 260 = .ok (.iload 5, 2) := dk_21 5 (dk_at dksJ31_gallopLeft_11 0 rfl rfl)
theorem dJ31_gallopLeft_262 : decode cJ31_gallopLeft 262 = .ok (.iload 6, 2) := dk_21 6 (dk_at dksJ31_gallopLeft_11 2 rfl rfl)
theorem dJ31_gallopLeft_264 : decode cJ31_gallopLeft 264 = .ok (.iload 5, 2) := dk_21 5 (dk_at dksJ31_gallopLeft_11 4 rfl rfl)
theorem dJ31_gallopLeft_266 : decode cJ31_gallopLeft 266 = .ok (.isub, 1) := dk_100 (dk_at dksJ31_gallopLeft_11 6 rfl rfl)
theorem dJ31_gallopLeft_267 : decode cJ31_gallopLeft 267 = .ok (.iconst 1, 1) := dk_4 (dk_at dksJ31_gallopLeft_11 7 rfl rfl)
theorem dJ31_gallopLeft_268 : decode cJ31_gallopLeft 268 = .ok (.iushr, 1) := dk_124 (dk_at dksJ31_gallopLeft_11 8 rfl rfl)
theorem dJ31_gallopLeft_269 : decode cJ31_gallopLeft 269 = .ok (.iadd, 1) := dk_96 (dk_at dksJ31_gallopLeft_11 9 rfl rfl)
theorem dJ31_gallopLeft_270 : decode cJ31_gallopLeft 270 = .ok (.istore 7, 2) := dk_54 7 (dk_at dksJ31_gallopLeft_11 10 rfl rfl)
theorem dJ31_gallopLeft_272 : decode cJ31_gallopLeft 272 = .ok (.aload_n 0, 1) := dk_42 (dk_at dksJ31_gallopLeft_11 12 rfl rfl)
theorem dJ31_gallopLeft_273 : decode cJ31_gallopLeft 273 = .ok (.aload_n 1, 1) := dk_43 (dk_at dksJ31_gallopLeft_11 13 rfl rfl)
theorem dJ31_gallopLeft_274 : decode cJ31_gallopLeft 274 = .ok (.iload_n 2, 1) := dk_28 (dk_at dksJ31_gallopLeft_11 14 rfl rfl)
theorem dJ31_gallopLeft_275 : decode cJ31_gallopLeft 275 = .ok (.iload 7, 2) := dk_21 7 (dk_at dksJ31_gallopLeft_11 15 rfl rfl)
theorem dJ31_gallopLeft_277 : decode cJ31_gallopLeft 277 = .ok (.iadd, 1) := dk_96 (dk_at dksJ31_gallopLeft_11 17 rfl rfl)
theorem dJ31_gallopLeft_278 : decode cJ31_gallopLeft 278 = .ok (.aaload, 1) := dk_50 (dk_at dksJ31_gallopLeft_11 18 rfl rfl)
theorem dJ31_gallopLeft_279 : decode cJ31_gallopLeft 279 = .ok (.invokeinterface 71 2, 5) := by decide +kernel
theorem dJ31_gallopLeft_284 : decode cJ31_gallopLeft 284 = .ok (.ifCond .le 12, 3) := dk_158 0 12 (dk_at dksJ31_gallopLeft_12 0 rfl rfl)
theorem dJ31_gallopLeft_287 : decode cJ31_gallopLeft 287 = .ok (.iload 7, 2) := dk_21 7 (dk_at dksJ31_gallopLeft_12 3 rfl rfl)
theorem dJ31_gallopLeft_289 : decode cJ31_gallopLeft 289 = .ok (.iconst 1, 1) := dk_4 (dk_at dksJ31_gallopLeft_12 5 rfl rfl)
theorem dJ31_gallopLeft_290 : decode cJ31_gallopLeft 290 = .ok (.iadd, 1) := dk_96 (dk_at dksJ31_gallopLeft_12 6 rfl rfl)
theorem dJ31_gallopLeft_291 : decode cJ31_gallopLeft 291 = .ok (.istore 5, 2) := dk_54 5 (dk_at dksJ31_gallopLeft_12 7 rfl rfl)
theorem dJ31_gallopLeft_293 : decode cJ31_gallopLeft 293 = .ok (.goto 7, 3) := dk_167 0 7 (dk_at dksJ31_gallopLeft_12 9 rfl rfl)
theorem dJ31_gallopLeft_296 : decode cJ31_gallopLeft 296 = .ok (.iload 7, 2) := dk_21 7 (dk_at dksJ31_gallopLeft_12 12 rfl rfl)
theorem dJ31_gallopLeft_298 : decode cJ31_gallopLeft 298 = .ok (.istore 6, 2) := dk_54 6 (dk_at dksJ31_gallopLeft_12 14 rfl rfl)
theorem dJ31_gallopLeft_300 : decode cJ31_gallopLeft 300 = .ok (.goto (-47), 3) := dk_167 255 209 (dk_at dksJ31_gallopLeft_12 16 rfl rfl)
theorem dJ31_gallopLeft_303 : decode cJ31_gallopLeft 303 = .ok (.getstatic 37, 3) := dk_178 0 37 (dk_at dksJ31_gallopLeft_12 19 rfl rfl)
theorem dJ31_gallopLeft_306 : decode cJ31_gallopLeft 306 = .ok (.ifCond .ne 18, 3) := dk_154 0 18 (dk_at dksJ31_gallopLeft_13 0 rfl rfl)
theorem dJ31_gallopLeft_309 : decode cJ31_gallopLeft 309 = .ok (.iload 5, 2) := dk_21 5 (dk_at dksJ31_gallopLeft_13 3 rfl rfl)
theorem dJ31_gallopLeft_311 : decode cJ31_gallopLeft 311 = .ok (.iload 6, 2) := dk_21 6 (dk_at dksJ31_gallopLeft_13 5 rfl rfl)
theorem dJ31_gallopLeft_313 : decode cJ31_gallopLeft 313 = .ok (.if_icmp .eq 11, 3) := dk_159 0 11 (dk_at dksJ31_gallopLeft_13 7 rfl rfl)
theorem dJ31_gallopLeft_316 : decode cJ31_gallopLeft 316 = .ok (.new 41, 3) := dk_187 0 41 (dk_at dksJ31_gallopLeft_13 10 rfl rfl)
theorem dJ31_gallopLeft_319 : decode cJ31_gallopLeft 319 = .ok (.dup, 1) := dk_89 (dk_at dksJ31_gallopLeft_13 13 rfl rfl)
theorem dJ31_gallopLeft_320 : decode cJ31_gallopLeft 320 = .ok (.invokespecial 43, 3) := dk_183 0 43 (dk_at dksJ31_gallopLeft_13 14 rfl rfl)
theorem dJ31_gallopLeft_323 : decode cJ31_gallopLeft 323 = .ok (.athrow, 1) := dk_191 (dk_at dksJ31_gallopLeft_13 17 rfl rfl)
theorem dJ31_gallopLeft_324 : decode cJ31_gallopLeft 324 = .ok (.iload 6, 2) := dk_21 6 (dk_at dksJ31_gallopLeft_13 18 rfl rfl)
theorem dJ31_gallopLeft_326 : decode cJ31_gallopLeft 326 = .ok (.ireturn, 1) := dk_172 (dk_at dksJ31_gallopLeft_13 20 rfl rfl)
theorem c72003 : jtCode 72003 = cJ31_gallopLeft := rfl
theorem F72003_0 (d : Nat) (v0 : Value) (v1 : Value) (i2 : Int32) (i3 : Int32) (i4 : Int32) (h : AH) : G2 d 72003 0 [v0, v1, .int i2, .int i3, .int i4, jno, jno, jno, jno] [] h = if (1 : Int32) = 0 then (if i3 ≤ 0 then (G2 d 72003 21 [v0, v1, .int i2, .int i3, .int i4, jno, jno, jno, jno] [] h) else (if i4 < 0 then (G2 d 72003 21 [v0, v1, .int i2, .int i3, .int i4, jno, jno, jno, jno] [] h) else (if i4 < i3 then (G2 d 72003 29 [v0, v1, .int i2, .int i3, .int i4, jno, jno, jno, jno] [] h) else (G2 d 72003 21 [v0, v1, .int i2, .int i3, .int i4, jno, jno, jno, jno] [] h)))) else (G2 d 72003 29 [v0, v1, .int i2, .int i3, .int i4, jno, jno, jno, jno] [] h) := by
  refine (g_getsIH (x := 1) c72003 dJ31_gallopLeft_0 rfl rfl).trans ?_
  refine (g_if_neH (tgt := 29) c72003 dJ31_gallopLeft_3 rfl).trans (if_cg ?_ ?_)
  · skip
    refine (g_iload_nH c72003 dJ31_gallopLeft_6 rfl).trans ?_
    refine (g_if_leH (tgt := 21) c72003 dJ31_gallopLeft_7 rfl).trans (if_cg ?_ ?_)
    · skip
      rfl
    · skip
      refine (g_iloadH c72003 dJ31_gallopLeft_10 rfl).trans ?_
      refine (g_if_ltH (tgt := 21) c72003 dJ31_gallopLeft_12 rfl).trans (if_cg ?_ ?_)
      · skip
        rfl
      · skip
        refine (g_iloadH c72003 dJ31_gallopLeft_15 rfl).trans ?_
        refine (g_iload_nH c72003 dJ31_gallopLeft_17 rfl).trans ?_
        refine (g_icmp_ltH (tgt := 29) c72003 dJ31_gallopLeft_18 rfl).trans (if_cg ?_ ?_)
        · skip
          rfl
        · skip
          rfl
  · skip
    rfl
theorem F72003_29 (d : Nat) (v0 : Value) (v1 : Value) (i2 : Int32) (i3 : Int32) (i4 : Int32) (h : AH) : G2 d 72003 29 [v0, v1, .int i2, .int i3, .int i4, jno, jno, jno, jno] [] h = zkR v0 (zkR v1 (zqG h v1 [1040, 1041, 1050, 1060, 1071] (i2 + i4) (fun w1 => zpR w1 (fun r2 => zcI (MvH d 9147 [v0, r2] h) (fun x3 h4 => if x3 ≤ 0 then (G2 d 72003 139 [v0, v1, .int i2, .int i3, .int i4, .int 0, .int 1, .int (i4 + 1), jno] [] h4) else (G2 d 72003 56 [v0, v1, .int i2, .int i3, .int i4, .int 0, .int 1, .int (i3 - i4), jno] [] h4)) ()) ()) ()) ()) () := by
  refine (g_iconstH (x := 0) c72003 dJ31_gallopLeft_29 rfl).trans ?_
  refine (g_istoreH (L' := [v0, v1, .int i2, .int i3, .int i4, .int 0, jno, jno, jno]) c72003 dJ31_gallopLeft_30 rfl rfl).trans ?_
  refine (g_iconstH (x := 1) c72003 dJ31_gallopLeft_32 rfl).trans ?_
  refine (g_istoreH (L' := [v0, v1, .int i2, .int i3, .int i4, .int 0, .int 1, jno, jno]) c72003 dJ31_gallopLeft_33 rfl rfl).trans ?_
  refine (g_aload_nVH c72003 dJ31_gallopLeft_35 rfl).trans (ckR_cg ?_)
  refine (g_aload_nVH c72003 dJ31_gallopLeft_36 rfl).trans (ckR_cg ?_)
  refine (g_iload_nH c72003 dJ31_gallopLeft_37 rfl).trans ?_
  refine (g_iloadH c72003 dJ31_gallopLeft_38 rfl).trans ?_
  refine (g_iaddH c72003 dJ31_gallopLeft_40).trans ?_
  refine (g_aaloadH c72003 dJ31_gallopLeft_41).trans (aG_cg fun w1 => rR_cg fun r2 => ?_)
  refine (g_faceH (as := [v0, r2]) (rest := []) c72003 dJ31_gallopLeft_42 rfl rfl rfl rfl rfl).trans ((jback_IH (κx := cX) (fun e h => jthrow_outH rfl)).trans (cI_cg fun x3 h4 => ?_))
  refine (g_if_leH (tgt := 133) c72003 dJ31_gallopLeft_47 rfl).trans (if_cg ?_ ?_)
  · skip
    refine (g_iloadH c72003 dJ31_gallopLeft_133 rfl).trans ?_
    refine (g_iconstH (x := 1) c72003 dJ31_gallopLeft_135 rfl).trans ?_
    refine (g_iaddH c72003 dJ31_gallopLeft_136).trans ?_
    refine (g_istoreH (L' := [v0, v1, .int i2, .int i3, .int i4, .int 0, .int 1, .int (i4 + 1), jno]) c72003 dJ31_gallopLeft_137 rfl rfl).trans ?_
    rfl
  · skip
    refine (g_iload_nH c72003 dJ31_gallopLeft_50 rfl).trans ?_
    refine (g_iloadH c72003 dJ31_gallopLeft_51 rfl).trans ?_
    refine (g_isubH c72003 dJ31_gallopLeft_53).trans ?_
    refine (g_istoreH (L' := [v0, v1, .int i2, .int i3, .int i4, .int 0, .int 1, .int (i3 - i4), jno]) c72003 dJ31_gallopLeft_54 rfl rfl).trans ?_
    rfl
theorem F72003_56 (d : Nat) (v0 : Value) (v1 : Value) (i2 : Int32) (i3 : Int32) (i4 : Int32) (i5 : Int32) (i6 : Int32) (i7 : Int32) (h : AH) : G2 d 72003 56 [v0, v1, .int i2, .int i3, .int i4, .int i5, .int i6, .int i7, jno] [] h = if i7 ≤ i6 then (G2 d 72003 105 [v0, v1, .int i2, .int i3, .int i4, .int i5, .int i6, .int i7, jno] [] h) else (zkR v0 (zkR v1 (zqG h v1 [1040, 1041, 1050, 1060, 1071] ((i2 + i4) + i6) (fun w1 => zpR w1 (fun r2 => zcI (MvH d 9147 [v0, r2] h) (fun x3 h4 => if x3 ≤ 0 then (G2 d 72003 105 [v0, v1, .int i2, .int i3, .int i4, .int i5, .int i6, .int i7, jno] [] h4) else (if 0 < ((i6 <<< ((1 : Int32) &&& 31)) + 1) then (G2 d 72003 56 [v0, v1, .int i2, .int i3, .int i4, .int i6, .int ((i6 <<< ((1 : Int32) &&& 31)) + 1), .int i7, jno] [] h4) else (G2 d 72003 56 [v0, v1, .int i2, .int i3, .int i4, .int i6, .int i7, .int i7, jno] [] h4))) ()) ()) ()) ()) ()) := by
  refine (g_iloadH c72003 dJ31_gallopLeft_56 rfl).trans ?_
  refine (g_iloadH c72003 dJ31_gallopLeft_58 rfl).trans ?_
  refine (g_icmp_geH (tgt := 105) c72003 dJ31_gallopLeft_60 rfl).trans (if_cg ?_ ?_)
  · skip
    rfl
  · skip
    refine (g_aload_nVH c72003 dJ31_gallopLeft_63 rfl).trans (ckR_cg ?_)
    refine (g_aload_nVH c72003 dJ31_gallopLeft_64 rfl).trans (ckR_cg ?_)
    refine (g_iload_nH c72003 dJ31_gallopLeft_65 rfl).trans ?_
    refine (g_iloadH c72003 dJ31_gallopLeft_66 rfl).trans ?_
    refine (g_iaddH c72003 dJ31_gallopLeft_68).trans ?_
    refine (g_iloadH c72003 dJ31_gallopLeft_69 rfl).trans ?_
    refine (g_iaddH c72003 dJ31_gallopLeft_71).trans ?_
    refine (g_aaloadH c72003 dJ31_gallopLeft_72).trans (aG_cg fun w1 => rR_cg fun r2 => ?_)
    refine (g_faceH (as := [v0, r2]) (rest := []) c72003 dJ31_gallopLeft_73 rfl rfl rfl rfl rfl).trans ((jback_IH (κx := cX) (fun e h => jthrow_outH rfl)).trans (cI_cg fun x3 h4 => ?_))
    refine (g_if_leH (tgt := 105) c72003 dJ31_gallopLeft_78 rfl).trans (if_cg ?_ ?_)
    · skip
      rfl
    · skip
      refine (g_iloadH c72003 dJ31_gallopLeft_81 rfl).trans ?_
      refine (g_istoreH (L' := [v0, v1, .int i2, .int i3, .int i4, .int i6, .int i6, .int i7, jno]) c72003 dJ31_gallopLeft_83 rfl rfl).trans ?_
      refine (g_iloadH c72003 dJ31_gallopLeft_85 rfl).trans ?_
      refine (g_iconstH (x := 1) c72003 dJ31_gallopLeft_87 rfl).trans ?_
      refine (g_ishlH c72003 dJ31_gallopLeft_88).trans ?_
      refine (g_iconstH (x := 1) c72003 dJ31_gallopLeft_89 rfl).trans ?_
      refine (g_iaddH c72003 dJ31_gallopLeft_90).trans ?_
      refine (g_istoreH (L' := [v0, v1, .int i2, .int i3, .int i4, .int i6, .int ((i6 <<< ((1 : Int32) &&& 31)) + 1), .int i7, jno]) c72003 dJ31_gallopLeft_91 rfl rfl).trans ?_
      refine (g_iloadH c72003 dJ31_gallopLeft_93 rfl).trans ?_
      refine (g_if_gtH (tgt := 56) c72003 dJ31_gallopLeft_95 rfl).trans (if_cg ?_ ?_)
      · skip
        rfl
      · skip
        refine (g_iloadH c72003 dJ31_gallopLeft_98 rfl).trans ?_
        refine (g_istoreH (L' := [v0, v1, .int i2, .int i3, .int i4, .int i6, .int i7, .int i7, jno]) c72003 dJ31_gallopLeft_100 rfl rfl).trans ?_
        refine (g_gotoH (tgt := 56) c72003 dJ31_gallopLeft_102 rfl).trans ?_
        rfl
theorem F72003_105 (d : Nat) (v0 : Value) (v1 : Value) (i2 : Int32) (i3 : Int32) (i4 : Int32) (i5 : Int32) (i6 : Int32) (i7 : Int32) (h : AH) : G2 d 72003 105 [v0, v1, .int i2, .int i3, .int i4, .int i5, .int i6, .int i7, jno] [] h = if i6 ≤ i7 then (G2 d 72003 217 [v0, v1, .int i2, .int i3, .int i4, .int (i5 + i4), .int (i6 + i4), .int i7, jno] [] h) else (G2 d 72003 217 [v0, v1, .int i2, .int i3, .int i4, .int (i5 + i4), .int (i7 + i4), .int i7, jno] [] h) := by
  refine (g_iloadH c72003 dJ31_gallopLeft_105 rfl).trans ?_
  refine (g_iloadH c72003 dJ31_gallopLeft_107 rfl).trans ?_
  refine (g_icmp_leH (tgt := 116) c72003 dJ31_gallopLeft_109 rfl).trans (if_cg ?_ ?_)
  · skip
    refine (g_iloadH c72003 dJ31_gallopLeft_116 rfl).trans ?_
    refine (g_iloadH c72003 dJ31_gallopLeft_118 rfl).trans ?_
    refine (g_iaddH c72003 dJ31_gallopLeft_120).trans ?_
    refine (g_istoreH (L' := [v0, v1, .int i2, .int i3, .int i4, .int (i5 + i4), .int i6, .int i7, jno]) c72003 dJ31_gallopLeft_121 rfl rfl).trans ?_
    refine (g_iloadH c72003 dJ31_gallopLeft_123 rfl).trans ?_
    refine (g_iloadH c72003 dJ31_gallopLeft_125 rfl).trans ?_
    refine (g_iaddH c72003 dJ31_gallopLeft_127).trans ?_
    refine (g_istoreH (L' := [v0, v1, .int i2, .int i3, .int i4, .int (i5 + i4), .int (i6 + i4), .int i7, jno]) c72003 dJ31_gallopLeft_128 rfl rfl).trans ?_
    refine (g_gotoH (tgt := 217) c72003 dJ31_gallopLeft_130 rfl).trans ?_
    rfl
  · skip
    refine (g_iloadH c72003 dJ31_gallopLeft_112 rfl).trans ?_
    refine (g_istoreH (L' := [v0, v1, .int i2, .int i3, .int i4, .int i5, .int i7, .int i7, jno]) c72003 dJ31_gallopLeft_114 rfl rfl).trans ?_
    refine (g_iloadH c72003 dJ31_gallopLeft_116 rfl).trans ?_
    refine (g_iloadH c72003 dJ31_gallopLeft_118 rfl).trans ?_
    refine (g_iaddH c72003 dJ31_gallopLeft_120).trans ?_
    refine (g_istoreH (L' := [v0, v1, .int i2, .int i3, .int i4, .int (i5 + i4), .int i7, .int i7, jno]) c72003 dJ31_gallopLeft_121 rfl rfl).trans ?_
    refine (g_iloadH c72003 dJ31_gallopLeft_123 rfl).trans ?_
    refine (g_iloadH c72003 dJ31_gallopLeft_125 rfl).trans ?_
    refine (g_iaddH c72003 dJ31_gallopLeft_127).trans ?_
    refine (g_istoreH (L' := [v0, v1, .int i2, .int i3, .int i4, .int (i5 + i4), .int (i7 + i4), .int i7, jno]) c72003 dJ31_gallopLeft_128 rfl rfl).trans ?_
    refine (g_gotoH (tgt := 217) c72003 dJ31_gallopLeft_130 rfl).trans ?_
    rfl
theorem F72003_139 (d : Nat) (v0 : Value) (v1 : Value) (i2 : Int32) (i3 : Int32) (i4 : Int32) (i5 : Int32) (i6 : Int32) (i7 : Int32) (h : AH) : G2 d 72003 139 [v0, v1, .int i2, .int i3, .int i4, .int i5, .int i6, .int i7, jno] [] h = if i7 ≤ i6 then (G2 d 72003 188 [v0, v1, .int i2, .int i3, .int i4, .int i5, .int i6, .int i7, jno] [] h) else (zkR v0 (zkR v1 (zqG h v1 [1040, 1041, 1050, 1060, 1071] ((i2 + i4) - i6) (fun w1 => zpR w1 (fun r2 => zcI (MvH d 9147 [v0, r2] h) (fun x3 h4 => if 0 < x3 then (G2 d 72003 188 [v0, v1, .int i2, .int i3, .int i4, .int i5, .int i6, .int i7, jno] [] h4) else (if 0 < ((i6 <<< ((1 : Int32) &&& 31)) + 1) then (G2 d 72003 139 [v0, v1, .int i2, .int i3, .int i4, .int i6, .int ((i6 <<< ((1 : Int32) &&& 31)) + 1), .int i7, jno] [] h4) else (G2 d 72003 139 [v0, v1, .int i2, .int i3, .int i4, .int i6, .int i7, .int i7, jno] [] h4))) ()) ()) ()) ()) ()) := by
  refine (g_iloadH c72003 dJ31_gallopLeft_139 rfl).trans ?_
  refine (g_iloadH c72003 dJ31_gallopLeft_141 rfl).trans ?_
  refine (g_icmp_geH (tgt := 188) c72003 dJ31_gallopLeft_143 rfl).trans (if_cg ?_ ?_)
  · skip
    rfl
  · skip
    refine (g_aload_nVH c72003 dJ31_gallopLeft_146 rfl).trans (ckR_cg ?_)
    refine (g_aload_nVH c72003 dJ31_gallopLeft_147 rfl).trans (ckR_cg ?_)
    refine (g_iload_nH c72003 dJ31_gallopLeft_148 rfl).trans ?_
    refine (g_iloadH c72003 dJ31_gallopLeft_149 rfl).trans ?_
    refine (g_iaddH c72003 dJ31_gallopLeft_151).trans ?_
    refine (g_iloadH c72003 dJ31_gallopLeft_152 rfl).trans ?_
    refine (g_isubH c72003 dJ31_gallopLeft_154).trans ?_
    refine (g_aaloadH c72003 dJ31_gallopLeft_155).trans (aG_cg fun w1 => rR_cg fun r2 => ?_)
    refine (g_faceH (as := [v0, r2]) (rest := []) c72003 dJ31_gallopLeft_156 rfl rfl rfl rfl rfl).trans ((jback_IH (κx := cX) (fun e h => jthrow_outH rfl)).trans (cI_cg fun x3 h4 => ?_))
    refine (g_if_gtH (tgt := 188) c72003 dJ31_gallopLeft_161 rfl).trans (if_cg ?_ ?_)
    · skip
      rfl
    · skip
      refine (g_iloadH c72003 dJ31_gallopLeft_164 rfl).trans ?_
      refine (g_istoreH (L' := [v0, v1, .int i2, .int i3, .int i4, .int i6, .int i6, .int i7, jno]) c72003 dJ31_gallopLeft_166 rfl rfl).trans ?_
      refine (g_iloadH c72003 dJ31_gallopLeft_168 rfl).trans ?_
      refine (g_iconstH (x := 1) c72003 dJ31_gallopLeft_170 rfl).trans ?_
      refine (g_ishlH c72003 dJ31_gallopLeft_171).trans ?_
      refine (g_iconstH (x := 1) c72003 dJ31_gallopLeft_172 rfl).trans ?_
      refine (g_iaddH c72003 dJ31_gallopLeft_173).trans ?_
      refine (g_istoreH (L' := [v0, v1, .int i2, .int i3, .int i4, .int i6, .int ((i6 <<< ((1 : Int32) &&& 31)) + 1), .int i7, jno]) c72003 dJ31_gallopLeft_174 rfl rfl).trans ?_
      refine (g_iloadH c72003 dJ31_gallopLeft_176 rfl).trans ?_
      refine (g_if_gtH (tgt := 139) c72003 dJ31_gallopLeft_178 rfl).trans (if_cg ?_ ?_)
      · skip
        rfl
      · skip
        refine (g_iloadH c72003 dJ31_gallopLeft_181 rfl).trans ?_
        refine (g_istoreH (L' := [v0, v1, .int i2, .int i3, .int i4, .int i6, .int i7, .int i7, jno]) c72003 dJ31_gallopLeft_183 rfl rfl).trans ?_
        refine (g_gotoH (tgt := 139) c72003 dJ31_gallopLeft_185 rfl).trans ?_
        rfl
theorem F72003_188 (d : Nat) (v0 : Value) (v1 : Value) (i2 : Int32) (i3 : Int32) (i4 : Int32) (i5 : Int32) (i6 : Int32) (i7 : Int32) (h : AH) : G2 d 72003 188 [v0, v1, .int i2, .int i3, .int i4, .int i5, .int i6, .int i7, jno] [] h = if i6 ≤ i7 then (G2 d 72003 217 [v0, v1, .int i2, .int i3, .int i4, .int (i4 - i6), .int (i4 - i5), .int i7, .int i5] [] h) else (G2 d 72003 217 [v0, v1, .int i2, .int i3, .int i4, .int (i4 - i7), .int (i4 - i5), .int i7, .int i5] [] h) := by
  refine (g_iloadH c72003 dJ31_gallopLeft_188 rfl).trans ?_
  refine (g_iloadH c72003 dJ31_gallopLeft_190 rfl).trans ?_
  refine (g_icmp_leH (tgt := 199) c72003 dJ31_gallopLeft_192 rfl).trans (if_cg ?_ ?_)
  · skip
    refine (g_iloadH c72003 dJ31_gallopLeft_199 rfl).trans ?_
    refine (g_istoreH (L' := [v0, v1, .int i2, .int i3, .int i4, .int i5, .int i6, .int i7, .int i5]) c72003 dJ31_gallopLeft_201 rfl rfl).trans ?_
    refine (g_iloadH c72003 dJ31_gallopLeft_203 rfl).trans ?_
    refine (g_iloadH c72003 dJ31_gallopLeft_205 rfl).trans ?_
    refine (g_isubH c72003 dJ31_gallopLeft_207).trans ?_
    refine (g_istoreH (L' := [v0, v1, .int i2, .int i3, .int i4, .int (i4 - i6), .int i6, .int i7, .int i5]) c72003 dJ31_gallopLeft_208 rfl rfl).trans ?_
    refine (g_iloadH c72003 dJ31_gallopLeft_210 rfl).trans ?_
    refine (g_iloadH c72003 dJ31_gallopLeft_212 rfl).trans ?_
    refine (g_isubH c72003 dJ31_gallopLeft_214).trans ?_
    refine (g_istoreH (L' := [v0, v1, .int i2, .int i3, .int i4, .int (i4 - i6), .int (i4 - i5), .int i7, .int i5]) c72003 dJ31_gallopLeft_215 rfl rfl).trans ?_
    rfl
  · skip
    refine (g_iloadH c72003 dJ31_gallopLeft_195 rfl).trans ?_
    refine (g_istoreH (L' := [v0, v1, .int i2, .int i3, .int i4, .int i5, .int i7, .int i7, jno]) c72003 dJ31_gallopLeft_197 rfl rfl).trans ?_
    refine (g_iloadH c72003 dJ31_gallopLeft_199 rfl).trans ?_
    refine (g_istoreH (L' := [v0, v1, .int i2, .int i3, .int i4, .int i5, .int i7, .int i7, .int i5]) c72003 dJ31_gallopLeft_201 rfl rfl).trans ?_
    refine (g_iloadH c72003 dJ31_gallopLeft_203 rfl).trans ?_
    refine (g_iloadH c72003 dJ31_gallopLeft_205 rfl).trans ?_
    refine (g_isubH c72003 dJ31_gallopLeft_207).trans ?_
    refine (g_istoreH (L' := [v0, v1, .int i2, .int i3, .int i4, .int (i4 - i7), .int i7, .int i7, .int i5]) c72003 dJ31_gallopLeft_208 rfl rfl).trans ?_
    refine (g_iloadH c72003 dJ31_gallopLeft_210 rfl).trans ?_
    refine (g_iloadH c72003 dJ31_gallopLeft_212 rfl).trans ?_
    refine (g_isubH c72003 dJ31_gallopLeft_214).trans ?_
    refine (g_istoreH (L' := [v0, v1, .int i2, .int i3, .int i4, .int (i4 - i7), .int (i4 - i5), .int i7, .int i5]) c72003 dJ31_gallopLeft_215 rfl rfl).trans ?_
    rfl
theorem F72003_217 (d : Nat) (v0 : Value) (v1 : Value) (i2 : Int32) (i3 : Int32) (i4 : Int32) (i5 : Int32) (i6 : Int32) (i7 : Int32) (v8 : Value) (h : AH) : G2 d 72003 217 [v0, v1, .int i2, .int i3, .int i4, .int i5, .int i6, .int i7, v8] [] h = if (1 : Int32) = 0 then (if i5 < (-1) then (G2 d 72003 242 [v0, v1, .int i2, .int i3, .int i4, .int i5, .int i6, .int i7, v8] [] h) else (if i6 ≤ i5 then (G2 d 72003 242 [v0, v1, .int i2, .int i3, .int i4, .int i5, .int i6, .int i7, v8] [] h) else (if i6 ≤ i3 then (G2 d 72003 253 [v0, v1, .int i2, .int i3, .int i4, .int (i5 + 1), .int i6, .int i7, v8] [] h) else (G2 d 72003 242 [v0, v1, .int i2, .int i3, .int i4, .int i5, .int i6, .int i7, v8] [] h)))) else (G2 d 72003 253 [v0, v1, .int i2, .int i3, .int i4, .int (i5 + 1), .int i6, .int i7, v8] [] h) := by
  refine (g_getsIH (x := 1) c72003 dJ31_gallopLeft_217 rfl rfl).trans ?_
  refine (g_if_neH (tgt := 250) c72003 dJ31_gallopLeft_220 rfl).trans (if_cg ?_ ?_)
  · skip
    refine (g_iconstH (x := (-1)) c72003 dJ31_gallopLeft_223 rfl).trans ?_
    refine (g_iloadH c72003 dJ31_gallopLeft_224 rfl).trans ?_
    refine (g_icmp_gtH (tgt := 242) c72003 dJ31_gallopLeft_226 rfl).trans (if_cg ?_ ?_)
    · skip
      rfl
    · skip
      refine (g_iloadH c72003 dJ31_gallopLeft_229 rfl).trans ?_
      refine (g_iloadH c72003 dJ31_gallopLeft_231 rfl).trans ?_
      refine (g_icmp_geH (tgt := 242) c72003 dJ31_gallopLeft_233 rfl).trans (if_cg ?_ ?_)
      · skip
        rfl
      · skip
        refine (g_iloadH c72003 dJ31_gallopLeft_236 rfl).trans ?_
        refine (g_iload_nH c72003 dJ31_gallopLeft_238 rfl).trans ?_
        refine (g_icmp_leH (tgt := 250) c72003 dJ31_gallopLeft_239 rfl).trans (if_cg ?_ ?_)
        · skip
          refine (g_iincH (c := 1) (L' := [v0, v1, .int i2, .int i3, .int i4, .int (i5 + 1), .int i6, .int i7, v8]) c72003 dJ31_gallopLeft_250 rfl rfl rfl rfl).trans ?_
          rfl
        · skip
          rfl
  · skip
    refine (g_iincH (c := 1) (L' := [v0, v1, .int i2, .int i3, .int i4, .int (i5 + 1), .int i6, .int i7, v8]) c72003 dJ31_gallopLeft_250 rfl rfl rfl rfl).trans ?_
    rfl
theorem F72003_253 (d : Nat) (v0 : Value) (v1 : Value) (i2 : Int32) (i3 : Int32) (i4 : Int32) (i5 : Int32) (i6 : Int32) (i7 : Int32) (v8 : Value) (h : AH) : G2 d 72003 253 [v0, v1, .int i2, .int i3, .int i4, .int i5, .int i6, .int i7, v8] [] h = if i6 ≤ i5 then (if (1 : Int32) = 0 then (if i5 = i6 then (some (.inl (some (.int i6)), h)) else (G2 d 72003 316 [v0, v1, .int i2, .int i3, .int i4, .int i5, .int i6, .int i7, v8] [] h)) else (some (.inl (some (.int i6)), h))) else (zkR v0 (zkR v1 (zqG h v1 [1040, 1041, 1050, 1060, 1071] (i2 + (i5 + (((i6 - i5).toUInt32 >>> ((1 : Int32).toUInt32 &&& Int32.toUInt32 31)).toInt32))) (fun w1 => zpR w1 (fun r2 => zcI (MvH d 9147 [v0, r2] h) (fun x3 h4 => if x3 ≤ 0 then (G2 d 72003 253 [v0, v1, .int i2, .int i3, .int i4, .int i5, .int (i5 + (((i6 - i5).toUInt32 >>> ((1 : Int32).toUInt32 &&& Int32.toUInt32 31)).toInt32)), .int (i5 + (((i6 - i5).toUInt32 >>> ((1 : Int32).toUInt32 &&& Int32.toUInt32 31)).toInt32)), v8] [] h4) else (G2 d 72003 253 [v0, v1, .int i2, .int i3, .int i4, .int ((i5 + (((i6 - i5).toUInt32 >>> ((1 : Int32).toUInt32 &&& Int32.toUInt32 31)).toInt32)) + 1), .int i6, .int (i5 + (((i6 - i5).toUInt32 >>> ((1 : Int32).toUInt32 &&& Int32.toUInt32 31)).toInt32)), v8] [] h4)) ()) ()) ()) ()) ()) := by
  refine (g_iloadH c72003 dJ31_gallopLeft_253 rfl).trans ?_
  refine (g_iloadH c72003 dJ31_gallopLeft_255 rfl).trans ?_
  refine (g_icmp_geH (tgt := 303) c72003 dJ31_gallopLeft_257 rfl).trans (if_cg ?_ ?_)
  · skip
    refine (g_getsIH (x := 1) c72003 dJ31_gallopLeft_303 rfl rfl).trans ?_
    refine (g_if_neH (tgt := 324) c72003 dJ31_gallopLeft_306 rfl).trans (if_cg ?_ ?_)
    · skip
      refine (g_iloadH c72003 dJ31_gallopLeft_309 rfl).trans ?_
      refine (g_iloadH c72003 dJ31_gallopLeft_311 rfl).trans ?_
      refine (g_icmp_eqH (tgt := 324) c72003 dJ31_gallopLeft_313 rfl).trans (if_cg ?_ ?_)
      · skip
        refine (g_iloadH c72003 dJ31_gallopLeft_324 rfl).trans ?_
        exact g_ireturnH c72003 dJ31_gallopLeft_326 rfl
      · skip
        rfl
    · skip
      refine (g_iloadH c72003 dJ31_gallopLeft_324 rfl).trans ?_
      exact g_ireturnH c72003 dJ31_gallopLeft_326 rfl
  · skip
    refine (g_iloadH c72003 dJ31_gallopLeft_260 rfl).trans ?_
    refine (g_iloadH c72003 dJ31_gallopLeft_262 rfl).trans ?_
    refine (g_iloadH c72003 dJ31_gallopLeft_264 rfl).trans ?_
    refine (g_isubH c72003 dJ31_gallopLeft_266).trans ?_
    refine (g_iconstH (x := 1) c72003 dJ31_gallopLeft_267 rfl).trans ?_
    refine (g_iushrH c72003 dJ31_gallopLeft_268).trans ?_
    refine (g_iaddH c72003 dJ31_gallopLeft_269).trans ?_
    refine (g_istoreH (L' := [v0, v1, .int i2, .int i3, .int i4, .int i5, .int i6, .int (i5 + (((i6 - i5).toUInt32 >>> ((1 : Int32).toUInt32 &&& Int32.toUInt32 31)).toInt32)), v8]) c72003 dJ31_gallopLeft_270 rfl rfl).trans ?_
    refine (g_aload_nVH c72003 dJ31_gallopLeft_272 rfl).trans (ckR_cg ?_)
    refine (g_aload_nVH c72003 dJ31_gallopLeft_273 rfl).trans (ckR_cg ?_)
    refine (g_iload_nH c72003 dJ31_gallopLeft_274 rfl).trans ?_
    refine (g_iloadH c72003 dJ31_gallopLeft_275 rfl).trans ?_
    refine (g_iaddH c72003 dJ31_gallopLeft_277).trans ?_
    refine (g_aaloadH c72003 dJ31_gallopLeft_278).trans (aG_cg fun w1 => rR_cg fun r2 => ?_)
    refine (g_faceH (as := [v0, r2]) (rest := []) c72003 dJ31_gallopLeft_279 rfl rfl rfl rfl rfl).trans ((jback_IH (κx := cX) (fun e h => jthrow_outH rfl)).trans (cI_cg fun x3 h4 => ?_))
    refine (g_if_leH (tgt := 296) c72003 dJ31_gallopLeft_284 rfl).trans (if_cg ?_ ?_)
    · skip
      refine (g_iloadH c72003 dJ31_gallopLeft_296 rfl).trans ?_
      refine (g_istoreH (L' := [v0, v1, .int i2, .int i3, .int i4, .int i5, .int (i5 + (((i6 - i5).toUInt32 >>> ((1 : Int32).toUInt32 &&& Int32.toUInt32 31)).toInt32)), .int (i5 + (((i6 - i5).toUInt32 >>> ((1 : Int32).toUInt32 &&& Int32.toUInt32 31)).toInt32)), v8]) c72003 dJ31_gallopLeft_298 rfl rfl).trans ?_
      refine (g_gotoH (tgt := 253) c72003 dJ31_gallopLeft_300 rfl).trans ?_
      rfl
    · skip
      refine (g_iloadH c72003 dJ31_gallopLeft_287 rfl).trans ?_
      refine (g_iconstH (x := 1) c72003 dJ31_gallopLeft_289 rfl).trans ?_
      refine (g_iaddH c72003 dJ31_gallopLeft_290).trans ?_
      refine (g_istoreH (L' := [v0, v1, .int i2, .int i3, .int i4, .int ((i5 + (((i6 - i5).toUInt32 >>> ((1 : Int32).toUInt32 &&& Int32.toUInt32 31)).toInt32)) + 1), .int i6, .int (i5 + (((i6 - i5).toUInt32 >>> ((1 : Int32).toUInt32 &&& Int32.toUInt32 31)).toInt32)), v8]) c72003 dJ31_gallopLeft_291 rfl rfl).trans ?_
      refine (g_gotoH (tgt := 300) c72003 dJ31_gallopLeft_293 rfl).trans ?_
      refine (g_gotoH (tgt := 253) c72003 dJ31_gallopLeft_300 rfl).trans ?_
      rfl
theorem Y72003 {d : Nat} {v0 : Value} {v1 : Value} {i2 : Int32} {i3 : Int32} {i4 : Int32} (h : AH) (hv0 : isR v0 = true) (hv1 : isR v1 = true) : M2 (d + 1) 72003 [v0, v1, .int i2, .int i3, .int i4] h = G2 d 72003 0 [v0, v1, .int i2, .int i3, .int i4, jno, jno, jno, jno] [] h := M2_eq rfl rfl rfl (by simp only [jent, jargL_R hv0, jargL_R hv1, jargL]; rfl)
/-! java/util/ComparableTimSort.gallopRight(Ljava/lang/Comparable;[Ljava/lang/Object;III)I -/
abbrev cJ31_gallopRight : ByteArray := prog_74_method_12_code
def dkwJ31_gallopRight_13 : List UInt8 := [154, 0, 18, 21, 6, 21, 5, 159, 0, 11, 187, 0, 41, 89, 183, 0, 43, 191, 21, 5, 172]
abbrev dktJ31_gallopRight_13 : List UInt8 := dkwJ31_gallopRight_13 ++ []
def dkwJ31_gallopRight_12 : List UInt8 := [156, 0, 10, 21, 7, 54, 5, 167, 0, 9, 21, 7, 4, 96, 54, 6, 167, 255, 209, 178, 0, 37]
abbrev dktJ31_gallopRight_12 : List UInt8 := dkwJ31_gallopRight_12 ++ dktJ31_gallopRight_13
def dkwJ31_gallopRight_11 : List UInt8 := [21, 6, 21, 5, 21, 6, 100, 4, 124, 96, 54, 7, 42, 43, 28, 21, 7, 96, 50, 185, 0, 71, 2, 0]
abbrev dktJ31_gallopRight_11 : List UInt8 := dkwJ31_gallopRight_11 ++ dktJ31_gallopRight_12
def dkwJ31_gallopRight_10 : List UInt8 := [21, 5, 29, 164, 0, 11, 187, 0, 41, 89, 183, 0, 43, 191, 132, 6, 1, 21, 6, 21, 5, 162, 0, 46]
abbrev dktJ31_gallopRight_10 : List UInt8 := dkwJ31_gallopRight_10 ++ dktJ31_gallopRight_11
def dkwJ31_gallopRight_9 : List UInt8 := [21, 4, 96, 54, 5, 178, 0, 37, 154, 0, 30, 2, 21, 6, 163, 0, 16, 21, 6, 21, 5, 162, 0, 9]
abbrev dktJ31_gallopRight_9 : List UInt8 := dkwJ31_gallopRight_9 ++ dktJ31_gallopRight_10
def dkwJ31_gallopRight_8 : List UInt8 := [167, 255, 210, 21, 5, 21, 7, 164, 0, 7, 21, 7, 54, 5, 21, 6, 21, 4, 96, 54, 6, 21, 5]
abbrev dktJ31_gallopRight_8 : List UInt8 := dkwJ31_gallopRight_8 ++ dktJ31_gallopRight_9
def dkwJ31_gallopRight_7 : List UInt8 := [155, 0, 27, 21, 5, 54, 6, 21, 5, 4, 120, 4, 96, 54, 5, 21, 5, 157, 255, 217, 21, 7, 54, 5]
abbrev dktJ31_gallopRight_7 : List UInt8 := dkwJ31_gallopRight_7 ++ dktJ31_gallopRight_8
def dkwJ31_gallopRight_6 : List UInt8 := [54, 7, 21, 5, 21, 7, 162, 0, 45, 42, 43, 28, 21, 4, 96, 21, 5, 96, 50, 185, 0, 71, 2, 0]
abbrev dktJ31_gallopRight_6 : List UInt8 := dkwJ31_gallopRight_6 ++ dktJ31_gallopRight_7
def dkwJ31_gallopRight_5 : List UInt8 := [54, 8, 21, 4, 21, 5, 100, 54, 6, 21, 4, 21, 8, 100, 54, 5, 167, 0, 83, 29, 21, 4, 100]
abbrev dktJ31_gallopRight_5 : List UInt8 := dkwJ31_gallopRight_5 ++ dktJ31_gallopRight_6
def dkwJ31_gallopRight_4 : List UInt8 := [157, 255, 217, 21, 7, 54, 5, 167, 255, 210, 21, 5, 21, 7, 164, 0, 7, 21, 7, 54, 5, 21, 6]
abbrev dktJ31_gallopRight_4 : List UInt8 := dkwJ31_gallopRight_4 ++ dktJ31_gallopRight_5
def dkwJ31_gallopRight_3 : List UInt8 := [100, 50, 185, 0, 71, 2, 0, 156, 0, 27, 21, 5, 54, 6, 21, 5, 4, 120, 4, 96, 54, 5, 21, 5]
abbrev dktJ31_gallopRight_3 : List UInt8 := dkwJ31_gallopRight_3 ++ dktJ31_gallopRight_4
def dkwJ31_gallopRight_2 : List UInt8 := [156, 0, 90, 21, 4, 4, 96, 54, 7, 21, 5, 21, 7, 162, 0, 45, 42, 43, 28, 21, 4, 96, 21, 5]
abbrev dktJ31_gallopRight_2 : List UInt8 := dkwJ31_gallopRight_2 ++ dktJ31_gallopRight_3
def dkwJ31_gallopRight_1 : List UInt8 := [89, 183, 0, 43, 191, 4, 54, 5, 3, 54, 6, 42, 43, 28, 21, 4, 96, 50, 185, 0, 71, 2, 0]
abbrev dktJ31_gallopRight_1 : List UInt8 := dkwJ31_gallopRight_1 ++ dktJ31_gallopRight_2
def dkwJ31_gallopRight_0 : List UInt8 := [178, 0, 37, 154, 0, 26, 29, 158, 0, 14, 21, 4, 155, 0, 9, 21, 4, 29, 161, 0, 11, 187, 0, 41]
abbrev dktJ31_gallopRight_0 : List UInt8 := dkwJ31_gallopRight_0 ++ dktJ31_gallopRight_1
theorem dksJ31_gallopRight_0 : cJ31_gallopRight.data.toList.drop 0 = dktJ31_gallopRight_0 := by decide +kernel
theorem dksJ31_gallopRight_1 : cJ31_gallopRight.data.toList.drop 24 = dktJ31_gallopRight_1 := dk_seg dksJ31_gallopRight_0 24 rfl rfl
theorem dksJ31_gallopRight_2 : cJ31_gallopRight.data.toList.drop 47 = dktJ31_gallopRight_2 := dk_seg dksJ31_gallopRight_1 23 rfl rfl
theorem dksJ31_gallopRight_3 : cJ31_gallopRight.data.toList.drop 71 = dktJ31_gallopRight_3 := dk_seg dksJ31_gallopRight_2 24 rfl rfl
theorem dksJ31_gallopRight_4 : cJ31_gallopRight.data.toList.drop 95 = dktJ31_gallopRight_4 := dk_seg dksJ31_gallopRight_3 24 rfl rfl
theorem dksJ31_gallopRight_5 : cJ31_gallopRight.data.toList.drop 118 = dktJ31_gallopRight_5 := dk_seg dksJ31_gallopRight_4 23 rfl rfl
theorem dksJ31_gallopRight_6 : cJ31_gallopRight.data.toList.drop 141 = dktJ31_gallopRight_6 := dk_seg dksJ31_gallopRight_5 23 rfl rfl
theorem dksJ31_gallopRight_7 : cJ31_gallopRight.data.toList.drop 165 = dktJ31_gallopRight_7 := dk_seg dksJ31_gallopRight_6 24 rfl rfl
theorem dksJ31_gallopRight_8 : cJ31_gallopRight.data.toList.drop 189 = dktJ31_gallopRight_8 := dk_seg dksJ31_gallopRight_7 24 rfl rfl
theorem dksJ31_gallopRight_9 : cJ31_gallopRight.data.toList.drop 212 = dktJ31_gallopRight_9 := dk_seg dksJ31_gallopRight_8 23 rfl rfl
theorem dksJ31_gallopRight_10 : cJ31_gallopRight.data.toList.drop 236 = dktJ31_gallopRight_10 := dk_seg dksJ31_gallopRight_9 24 rfl rfl
theorem dksJ31_gallopRight_11 : cJ31_gallopRight.data.toList.drop 260 = dktJ31_gallopRight_11 := dk_seg dksJ31_gallopRight_10 24 rfl rfl
theorem dksJ31_gallopRight_12 : cJ31_gallopRight.data.toList.drop 284 = dktJ31_gallopRight_12 := dk_seg dksJ31_gallopRight_11 24 rfl rfl
theorem dksJ31_gallopRight_13 : cJ31_gallopRight.data.toList.drop 306 = dktJ31_gallopRight_13 := dk_seg dksJ31_gallopRight_12 22 rfl rfl
theorem dJ31_gallopRight_0 : decode cJ31_gallopRight 0 = .ok (.getstatic 37, 3) := dk_178 0 37 (dk_at dksJ31_gallopRight_0 0 rfl rfl)
theorem dJ31_gallopRight_3 : decode cJ31_gallopRight 3 = .ok (.ifCond .ne 26, 3) := dk_154 0 26 (dk_at dksJ31_gallopRight_0 3 rfl rfl)
theorem dJ31_gallopRight_6 : decode cJ31_gallopRight 6 = .ok (.iload_n 3, 1) := dk_29 (dk_at dksJ31_gallopRight_0 6 rfl rfl)
theorem dJ31_gallopRight_7 : decode cJ31_gallopRight 7 = .ok (.ifCond .le 14, 3) := dk_158 0 14 (dk_at dksJ31_gallopRight_0 7 rfl rfl)
theorem dJ31_gallopRight_10 : decode cJ31_gallopRight 10 = .ok (.iload 4, 2) := dk_21 4 (dk_at dksJ31_gallopRight_0 10 rfl rfl)
theorem dJ31_gallopRight_12 : decode cJ31_gallopRight 12 = .ok (.ifCond .lt 9, 3) := dk_155 0 9 (dk_at dksJ31_gallopRight_0 12 rfl rfl)
theorem dJ31_gallopRight_15 : decode cJ31_gallopRight 15 = .ok (.iload 4, 2) := dk_21 4 (dk_at dksJ31_gallopRight_0 15 rfl rfl)
theorem dJ31_gallopRight_17 : decode cJ31_gallopRight 17 = .ok (.iload_n 3, 1) := dk_29 (dk_at dksJ31_gallopRight_0 17 rfl rfl)
theorem dJ31_gallopRight_18 : decode cJ31_gallopRight 18 = .ok (.if_icmp .lt 11, 3) := dk_161 0 11 (dk_at dksJ31_gallopRight_0 18 rfl rfl)
theorem dJ31_gallopRight_21 : decode cJ31_gallopRight 21 = .ok (.new 41, 3) := dk_187 0 41 (dk_at dksJ31_gallopRight_0 21 rfl rfl)
theorem dJ31_gallopRight_24 : decode cJ31_gallopRight 24 = .ok (.dup, 1) := dk_89 (dk_at dksJ31_gallopRight_1 0 rfl rfl)
theorem dJ31_gallopRight_25 : decode cJ31_gallopRight 25 = .ok (.invokespecial 43, 3) := dk_183 0 43 (dk_at dksJ31_gallopRight_1 1 rfl rfl)
theorem dJ31_gallopRight_28 : decode cJ31_gallopRight 28 = .ok (.athrow, 1) := dk_191 (dk_at dksJ31_gallopRight_1 4 rfl rfl)
theorem dJ31_gallopRight_29 : decode cJ31_gallopRight 29 = .ok (.iconst 1, 1) := dk_4 (dk_at dksJ31_gallopRight_1 5 rfl rfl)
theorem dJ31_gallopRight_30 : decode cJ31_gallopRight 30 = .ok (.istore 5, 2) := dk_54 5 (dk_at dksJ31_gallopRight_1 6 rfl rfl)
theorem dJ31_gallopRight_32 : decode cJ31_gallopRight 32 = .ok (.iconst 0, 1) := dk_3 (dk_at dksJ31_gallopRight_1 8 rfl rfl)
theorem dJ31_gallopRight_33 : decode cJ31_gallopRight 33 = .ok (.istore 6, 2) := dk_54 6 (dk_at dksJ31_gallopRight_1 9 rfl rfl)
theorem dJ31_gallopRight_35 : decode cJ31_gallopRight 35 = .ok (.aload_n 0, 1) := dk_42 (dk_at dksJ31_gallopRight_1 11 rfl rfl)
theorem dJ31_gallopRight_36 : decode cJ31_gallopRight 36 = .ok (.aload_n 1, 1) := dk_43 (dk_at dksJ31_gallopRight_1 12 rfl rfl)
theorem dJ31_gallopRight_37 : decode cJ31_gallopRight 37 = .ok (.iload_n 2, 1) := dk_28 (dk_at dksJ31_gallopRight_1 13 rfl rfl)
theorem dJ31_gallopRight_38 : decode cJ31_gallopRight 38 = .ok (.iload 4, 2) := dk_21 4 (dk_at dksJ31_gallopRight_1 14 rfl rfl)
theorem dJ31_gallopRight_40 : decode cJ31_gallopRight 40 = .ok (.iadd, 1) := dk_96 (dk_at dksJ31_gallopRight_1 16 rfl rfl)
theorem dJ31_gallopRight_41 : decode cJ31_gallopRight 41 = .ok (.aaload, 1) := dk_50 (dk_at dksJ31_gallopRight_1 17 rfl rfl)
theorem dJ31_gallopRight_42 : decode cJ31_gallopRight 42 = .ok (.invokeinterface 71 2, 5) := by decide +kernel
theorem dJ31_gallopRight_47 : decode cJ31_gallopRight 47 = .ok (.ifCond .ge 90, 3) := dk_156 0 90 (dk_at dksJ31_gallopRight_2 0 rfl rfl)
theorem dJ31_gallopRight_50 : decode cJ31_gallopRight 50 = .ok (.iload 4, 2) := dk_21 4 (dk_at dksJ31_gallopRight_2 3 rfl rfl)
theorem dJ31_gallopRight_52 : decode cJ31_gallopRight 52 = .ok (.iconst 1, 1) := dk_4 (dk_at dksJ31_gallopRight_2 5 rfl rfl)
theorem dJ31_gallopRight_53 : decode cJ31_gallopRight 53 = .ok (.iadd, 1) := dk_96 (dk_at dksJ31_gallopRight_2 6 rfl rfl)
theorem dJ31_gallopRight_54 : decode cJ31_gallopRight 54 = .ok (.istore 7, 2) := dk_54 7 (dk_at dksJ31_gallopRight_2 7 rfl rfl)
theorem dJ31_gallopRight_56 : decode cJ31_gallopRight 56 = .ok (.iload 5, 2) := dk_21 5 (dk_at dksJ31_gallopRight_2 9 rfl rfl)
theorem dJ31_gallopRight_58 : decode cJ31_gallopRight 58 = .ok (.iload 7, 2) := dk_21 7 (dk_at dksJ31_gallopRight_2 11 rfl rfl)
theorem dJ31_gallopRight_60 : decode cJ31_gallopRight 60 = .ok (.if_icmp .ge 45, 3) := dk_162 0 45 (dk_at dksJ31_gallopRight_2 13 rfl rfl)
theorem dJ31_gallopRight_63 : decode cJ31_gallopRight 63 = .ok (.aload_n 0, 1) := dk_42 (dk_at dksJ31_gallopRight_2 16 rfl rfl)
theorem dJ31_gallopRight_64 : decode cJ31_gallopRight 64 = .ok (.aload_n 1, 1) := dk_43 (dk_at dksJ31_gallopRight_2 17 rfl rfl)
theorem dJ31_gallopRight_65 : decode cJ31_gallopRight 65 = .ok (.iload_n 2, 1) := dk_28 (dk_at dksJ31_gallopRight_2 18 rfl rfl)
theorem dJ31_gallopRight_66 : decode cJ31_gallopRight 66 = .ok (.iload 4, 2) := dk_21 4 (dk_at dksJ31_gallopRight_2 19 rfl rfl)
theorem dJ31_gallopRight_68 : decode cJ31_gallopRight 68 = .ok (.iadd, 1) := dk_96 (dk_at dksJ31_gallopRight_2 21 rfl rfl)
theorem dJ31_gallopRight_69 : decode cJ31_gallopRight 69 = .ok (.iload 5, 2) := dk_21 5 (dk_at dksJ31_gallopRight_2 22 rfl rfl)
theorem dJ31_gallopRight_71 : decode cJ31_gallopRight 71 = .ok (.isub, 1) := dk_100 (dk_at dksJ31_gallopRight_3 0 rfl rfl)
theorem dJ31_gallopRight_72 : decode cJ31_gallopRight 72 = .ok (.aaload, 1) := dk_50 (dk_at dksJ31_gallopRight_3 1 rfl rfl)
theorem dJ31_gallopRight_73 : decode cJ31_gallopRight 73 = .ok (.invokeinterface 71 2, 5) := by decide +kernel
theorem dJ31_gallopRight_78 : decode cJ31_gallopRight 78 = .ok (.ifCond .ge 27, 3) := dk_156 0 27 (dk_at dksJ31_gallopRight_3 7 rfl rfl)
theorem dJ31_gallopRight_81 : decode cJ31_gallopRight 81 = .ok (.iload 5, 2) := dk_21 5 (dk_at dksJ31_gallopRight_3 10 rfl rfl)
theorem dJ31_gallopRight_83 : decode cJ31_gallopRight 83 = .ok (.istore 6, 2) := dk_54 6 (dk_at dksJ31_gallopRight_3 12 rfl rfl)
theorem dJ31_gallopRight_85 : decode cJ31_gallopRight 85 = .ok (.iload 5, 2) := dk_21 5 (dk_at dksJ31_gallopRight_3 14 rfl rfl)
theorem dJ31_gallopRight_87 : decode cJ31_gallopRight 87 = .ok (.iconst 1, 1) := dk_4 (dk_at dksJ31_gallopRight_3 16 rfl rfl)
theorem dJ31_gallopRight_88 : decode cJ31_gallopRight 88 = .ok (.ishl, 1) := dk_120 (dk_at dksJ31_gallopRight_3 17 rfl rfl)
theorem dJ31_gallopRight_89 : decode cJ31_gallopRight 89 = .ok (.iconst 1, 1) := dk_4 (dk_at dksJ31_gallopRight_3 18 rfl rfl)
theorem dJ31_gallopRight_90 : decode cJ31_gallopRight 90 = .ok (.iadd, 1) := dk_96 (dk_at dksJ31_gallopRight_3 19 rfl rfl)
theorem dJ31_gallopRight_91 : decode cJ31_gallopRight 91 = .ok (.istore 5, 2) := dk_54 5 (dk_at dksJ31_gallopRight_3 20 rfl rfl)
theorem dJ31_gallopRight_93 : decode cJ31_gallopRight 93 = .ok (.iload 5, 2) := dk_21 5 (dk_at dksJ31_gallopRight_3 22 rfl rfl)
theorem dJ31_gallopRight_95 : decode cJ31_gallopRight 95 = .ok (.ifCond .gt (-39), 3) := dk_157 255 217 (dk_at dksJ31_gallopRight_4 0 rfl rfl)
theorem dJ31_gallopRight_98 : decode cJ31_gallopRight 98 = .ok (.iload 7, 2) := dk_21 7 (dk_at dksJ31_gallopRight_4 3 rfl rfl)
theorem dJ31_gallopRight_100 : decode cJ31_gallopRight 100 = .ok (.istore 5, 2) := dk_54 5 (dk_at dksJ31_gallopRight_4 5 rfl rfl)
theorem dJ31_gallopRight_102 : decode cJ31_gallopRight 102 = .ok (.goto (-46), 3) := dk_167 255 210 (dk_at dksJ31_gallopRight_4 7 rfl rfl)
theorem dJ31_gallopRight_105 : decode cJ31_gallopRight 105 = .ok (.iload 5, 2) := dk_21 5 (dk_at dksJ31_gallopRight_4 10 rfl rfl)
theorem dJ31_gallopRight_107 : decode cJ31_gallopRight 107 = .ok (.iload 7, 2) := dk_21 7 (dk_at dksJ31_gallopRight_4 12 rfl rfl)
theorem dJ31_gallopRight_109 : decode cJ31_gallopRight 109 = .ok (.if_icmp .le 7, 3) := dk_164 0 7 (dk_at dksJ31_gallopRight_4 14 rfl rfl)
theorem dJ31_gallopRight_112 : decode cJ31_gallopRight 112 = .ok (.iload 7, 2) := dk_21 7 (dk_at dksJ31_gallopRight_4 17 rfl rfl)
theorem dJ31_gallopRight_114 : decode cJ31_gallopRight 114 = .ok (.istore 5, 2) := dk_54 5 (dk_at dksJ31_gallopRight_4 19 rfl rfl)
theorem dJ31_gallopRight_116 : decode cJ31_gallopRight 116 = .ok (.iload 6, 2) := dk_21 6 (dk_at dksJ31_gallopRight_4 21 rfl rfl)
theorem dJ31_gallopRight_118 : decode cJ31_gallopRight 118 = .ok (.istore 8, 2) := dk_54 8 (dk_at dksJ31_gallopRight_5 0 rfl rfl)
theorem dJ31_gallopRight_120 : decode cJ31_gallopRight 120 = .ok (.iload 4, 2) := dk_21 4 (dk_at dksJ31_gallopRight_5 2 rfl rfl)
theorem dJ31_gallopRight_122 : decode cJ31_gallopRight 122 = .ok (.iload 5, 2) := dk_21 5 (dk_at dksJ31_gallopRight_5 4 rfl rfl)
theorem dJ31_gallopRight_124 : decode cJ31_gallopRight 124 = .ok (.isub, 1) := dk_100 (dk_at dksJ31_gallopRight_5 6 rfl rfl)
theorem dJ31_gallopRight_125 : decode cJ31_gallopRight 125 = .ok (.istore 6, 2) := dk_54 6 (dk_at dksJ31_gallopRight_5 7 rfl rfl)
theorem dJ31_gallopRight_127 : decode cJ31_gallopRight 127 = .ok (.iload 4, 2) := dk_21 4 (dk_at dksJ31_gallopRight_5 9 rfl rfl)
theorem dJ31_gallopRight_129 : decode cJ31_gallopRight 129 = .ok (.iload 8, 2) := dk_21 8 (dk_at dksJ31_gallopRight_5 11 rfl rfl)
theorem dJ31_gallopRight_131 : decode cJ31_gallopRight 131 = .ok (.isub, 1) := dk_100 (dk_at dksJ31_gallopRight_5 13 rfl rfl)
theorem dJ31_gallopRight_132 : decode cJ31_gallopRight 132 = .ok (.istore 5, 2) := dk_54 5 (dk_at dksJ31_gallopRight_5 14 rfl rfl)
theorem dJ31_gallopRight_134 : decode cJ31_gallopRight 134 = .ok (.goto 83, 3) := dk_167 0 83 (dk_at dksJ31_gallopRight_5 16 rfl rfl)
theorem dJ31_gallopRight_137 : decode cJ31_gallopRight 137 = .ok (.iload_n 3, 1) := dk_29 (dk_at dksJ31_gallopRight_5 19 rfl rfl)
theorem dJ31_gallopRight_138 : decode cJ31_gallopRight 138 = .ok (.iload 4, 2) := dk_21 4 (dk_at dksJ31_gallopRight_5 20 rfl rfl)
theorem dJ31_gallopRight_140 : decode cJ31_gallopRight 140 = .ok (.isub, 1) := dk_100 (dk_at dksJ31_gallopRight_5 22 rfl rfl)
theorem dJ31_gallopRight_141 : decode cJ31_gallopRight 141 = .ok (.istore 7, 2) := dk_54 7 (dk_at dksJ31_gallopRight_6 0 rfl rfl)
theorem dJ31_gallopRight_143 : decode cJ31_gallopRight 143 = .ok (.iload 5, 2) := dk_21 5 (dk_at dksJ31_gallopRight_6 2 rfl rfl)
theorem dJ31_gallopRight_145 : decode cJ31_gallopRight 145 = .ok (.iload 7, 2) := dk_21 7 (dk_at dksJ31_gallopRight_6 4 rfl rfl)
theorem dJ31_gallopRight_147 : decode cJ31_gallopRight 147 = .ok (.if_icmp .ge 45, 3) := dk_162 0 45 (dk_at dksJ31_gallopRight_6 6 rfl rfl)
theorem dJ31_gallopRight_150 : decode cJ31_gallopRight 150 = .ok (.aload_n 0, 1) := dk_42 (dk_at dksJ31_gallopRight_6 9 rfl rfl)
theorem dJ31_gallopRight_151 : decode cJ31_gallopRight 151 = .ok (.aload_n 1, 1) := dk_43 (dk_at dksJ31_gallopRight_6 10 rfl rfl)
theorem dJ31_gallopRight_152 : decode cJ31_gallopRight 152 = .ok (.iload_n 2, 1) := dk_28 (dk_at dksJ31_gallopRight_6 11 rfl rfl)
theorem dJ31_gallopRight_153 : decode cJ31_gallopRight 153 = .ok (.iload 4, 2) := dk_21 4 (dk_at dksJ31_gallopRight_6 12 rfl rfl)
theorem dJ31_gallopRight_155 : decode cJ31_gallopRight 155 = .ok (.iadd, 1) := dk_96 (dk_at dksJ31_gallopRight_6 14 rfl rfl)
theorem dJ31_gallopRight_156 : decode cJ31_gallopRight 156 = .ok (.iload 5, 2) := dk_21 5 (dk_at dksJ31_gallopRight_6 15 rfl rfl)
theorem dJ31_gallopRight_158 : decode cJ31_gallopRight 158 = .ok (.iadd, 1) := dk_96 (dk_at dksJ31_gallopRight_6 17 rfl rfl)
theorem dJ31_gallopRight_159 : decode cJ31_gallopRight 159 = .ok (.aaload, 1) := dk_50 (dk_at dksJ31_gallopRight_6 18 rfl rfl)
theorem dJ31_gallopRight_160 : decode cJ31_gallopRight 160 = .ok (.invokeinterface 71 2, 5) := by decide +kernel
theorem dJ31_gallopRight_165 : decode cJ31_gallopRight 165 = .ok (.ifCond .lt 27, 3) := dk_155 0 27 (dk_at dksJ31_gallopRight_7 0 rfl rfl)
theorem dJ31_gallopRight_168 : decode cJ31_gallopRight 168 = .ok (.iload 5, 2) := dk_21 5 (dk_at dksJ31_gallopRight_7 3 rfl rfl)
theorem dJ31_gallopRight_170 : decode cJ31_gallopRight 170 = .ok (.istore 6, 2) := dk_54 6 (dk_at dksJ31_gallopRight_7 5 rfl rfl)
theorem dJ31_gallopRight_172 : decode cJ31_gallopRight 172 = .ok (.iload 5, 2) := dk_21 5 (dk_at dksJ31_gallopRight_7 7 rfl rfl)
theorem dJ31_gallopRight_174 : decode cJ31_gallopRight 174 = .ok (.iconst 1, 1) := dk_4 (dk_at dksJ31_gallopRight_7 9 rfl rfl)
theorem dJ31_gallopRight_175 : decode cJ31_gallopRight 175 = .ok (.ishl, 1) := dk_120 (dk_at dksJ31_gallopRight_7 10 rfl rfl)
theorem dJ31_gallopRight_176 : decode cJ31_gallopRight 176 = .ok (.iconst 1, 1) := dk_4 (dk_at dksJ31_gallopRight_7 11 rfl rfl)
theorem dJ31_gallopRight_177 : decode cJ31_gallopRight 177 = .ok (.iadd, 1) := dk_96 (dk_at dksJ31_gallopRight_7 12 rfl rfl)
theorem dJ31_gallopRight_178 : decode cJ31_gallopRight 178 = .ok (.istore 5, 2) := dk_54 5 (dk_at dksJ31_gallopRight_7 13 rfl rfl)
theorem dJ31_gallopRight_180 : decode cJ31_gallopRight 180 = .ok (.iload 5, 2) := dk_21 5 (dk_at dksJ31_gallopRight_7 15 rfl rfl)
theorem dJ31_gallopRight_182 : decode cJ31_gallopRight 182 = .ok (.ifCond .gt (-39), 3) := dk_157 255 217 (dk_at dksJ31_gallopRight_7 17 rfl rfl)
theorem dJ31_gallopRight_185 : decode cJ31_gallopRight 185 = .ok (.iload 7, 2) := dk_21 7 (dk_at dksJ31_gallopRight_7 20 rfl rfl)
theorem dJ31_gallopRight_187 : decode cJ31_gallopRight 187 = .ok (.istore 5, 2) := dk_54 5 (dk_at dksJ31_gallopRight_7 22 rfl rfl)
theorem dJ31_gallopRight_189 : decode cJ31_gallopRight 189 = .ok (.goto (-46), 3) := dk_167 255 210 (dk_at dksJ31_gallopRight_8 0 rfl rfl)
theorem dJ31_gallopRight_192 : decode cJ31_gallopRight 192 = .ok (.iload 5, 2) := dk_21 5 (dk_at dksJ31_gallopRight_8 3 rfl rfl)
theorem dJ31_gallopRight_194 : decode cJ31_gallopRight 194 = .ok (.iload 7, 2) := dk_21 7 (dk_at dksJ31_gallopRight_8 5 rfl rfl)
theorem dJ31_gallopRight_196 : decode cJ31_gallopRight 196 = .ok (.if_icmp .le 7, 3) := dk_164 0 7 (dk_at dksJ31_gallopRight_8 7 rfl rfl)
theorem dJ31_gallopRight_199 : decode cJ31_gallopRight 199 = .ok (.iload 7, 2) := dk_21 7 (dk_at dksJ31_gallopRight_8 10 rfl rfl)
theorem dJ31_gallopRight_201 : decode cJ31_gallopRight 201 = .ok (.istore 5, 2) := dk_54 5 (dk_at dksJ31_gallopRight_8 12 rfl rfl)
theorem dJ31_gallopRight_203 : decode cJ31_gallopRight 203 = .ok (.iload 6, 2) := dk_21 6 (dk_at dksJ31_gallopRight_8 14 rfl rfl)
theorem dJ31_gallopRight_205 : decode cJ31_gallopRight 205 = .ok (.iload 4, 2) := dk_21 4 (dk_at dksJ31_gallopRight_8 16 rfl rfl)
theorem dJ31_gallopRight_207 : decode cJ31_gallopRight 207 = .ok (.iadd, 1) := dk_96 (dk_at dksJ31_gallopRight_8 18 rfl rfl)
theorem dJ31_gallopRight_208 : decode cJ31_gallopRight 208 = .ok (.istore 6, 2) := dk_54 6 (dk_at dksJ31_gallopRight_8 19 rfl rfl)
theorem dJ31_gallopRight_210 : decode cJ31_gallopRight 210 = .ok (.iload 5, 2) := dk_21 5 (dk_at dksJ31_gallopRight_8 21 rfl rfl)
theorem dJ31_gallopRight_212 : decode cJ31_gallopRight 212 = .ok (.iload 4, 2) := dk_21 4 (dk_at dksJ31_gallopRight_9 0 rfl rfl)
theorem dJ31_gallopRight_214 : decode cJ31_gallopRight 214 = .ok (.iadd, 1) := dk_96 (dk_at dksJ31_gallopRight_9 2 rfl rfl)
theorem dJ31_gallopRight_215 : decode cJ31_gallopRight 215 = .ok (.istore 5, 2) := dk_54 5 (dk_at dksJ31_gallopRight_9 3 rfl rfl)
theorem dJ31_gallopRight_217 : decode cJ31_gallopRight 217 = .ok (.getstatic 37, 3) := dk_178 0 37 (dk_at dksJ31_gallopRight_9 5 rfl rfl)
theorem dJ31_gallopRight_220 : decode cJ31_gallopRight 220 = .ok (.ifCond .ne 30, 3) := dk_154 0 30 (dk_at dksJ31_gallopRight_9 8 rfl rfl)
theorem dJ31_gallopRight_223 : decode cJ31_gallopRight 223 = .ok (.iconst (-1), 1) := dk_2 (dk_at dksJ31_gallopRight_9 11 rfl rfl)
theorem dJ31_gallopRight_224 : decode cJ31_gallopRight 224 = .ok (.iload 6, 2) := dk_21 6 (dk_at dksJ31_gallopRight_9 12 rfl rfl)
theorem dJ31_gallopRight_226 : decode cJ31_gallopRight 226 = .ok (.if_icmp .gt 16, 3) := dk_163 0 16 (dk_at dksJ31_gallopRight_9 14 rfl rfl)
theorem dJ31_gallopRight_229 : decode cJ31_gallopRight 229 = .ok (.iload 6, 2) := dk_21 6 (dk_at dksJ31_gallopRight_9 17 rfl rfl)
theorem dJ31_gallopRight_231 : decode cJ31_gallopRight 231 = .ok (.iload 5, 2) := dk_21 5 (dk_at dksJ31_gallopRight_9 19 rfl rfl)
theorem dJ31_gallopRight_233 : decode cJ31_gallopRight 233 = .ok (.if_icmp .ge 9, 3) := dk_162 0 9 (dk_at dksJ31_gallopRight_9 21 rfl rfl)
theorem dJ31_gallopRight_236 : decode cJ31_gallopRight 236 = .ok (.iload 5, 2) := dk_21 5 (dk_at dksJ31_gallopRight_10 0 rfl rfl)
theorem dJ31_gallopRight_238 : decode cJ31_gallopRight 238 = .ok (.iload_n 3, 1) := dk_29 (dk_at dksJ31_gallopRight_10 2 rfl rfl)
theorem dJ31_gallopRight_239 : decode cJ31_gallopRight 239 = .ok (.if_icmp .le 11, 3) := dk_164 0 11 (dk_at dksJ31_gallopRight_10 3 rfl rfl)
theorem dJ31_gallopRight_242 : decode cJ31_gallopRight 242 = .ok (.new 41, 3) := dk_187 0 41 (dk_at dksJ31_gallopRight_10 6 rfl rfl)
theorem dJ31_gallopRight_245 : decode cJ31_gallopRight 245 = .ok (.dup, 1) := dk_89 (dk_at dksJ31_gallopRight_10 9 rfl rfl)
theorem dJ31_gallopRight_246 : decode cJ31_gallopRight 246 = .ok (.invokespecial 43, 3) := dk_183 0 43 (dk_at dksJ31_gallopRight_10 10 rfl rfl)
theorem dJ31_gallopRight_249 : decode cJ31_gallopRight 249 = .ok (.athrow, 1) := dk_191 (dk_at dksJ31_gallopRight_10 13 rfl rfl)
theorem dJ31_gallopRight_250 : decode cJ31_gallopRight 250 = .ok (.iinc 6 1, 3) := dk_132 6 1 (dk_at dksJ31_gallopRight_10 14 rfl rfl)
theorem dJ31_gallopRight_253 : decode cJ31_gallopRight 253 = .ok (.iload 6, 2) := dk_21 6 (dk_at dksJ31_gallopRight_10 17 rfl rfl)
theorem dJ31_gallopRight_255 : decode cJ31_gallopRight 255 = .ok (.iload 5, 2) := dk_21 5 (dk_at dksJ31_gallopRight_10 19 rfl rfl)
theorem dJ31_gallopRight_257 : decode cJ31_gallopRight 257 = .ok (.if_icmp .ge 46, 3) := dk_162 0 46 (dk_at dksJ31_gallopRight_10 21 rfl rfl)
theorem dJ31_gallopRight_260 : decode cJ31_gallopRight 260 = .ok (.iload 6, 2) := dk_21 6 (dk_at dksJ31_gallopRight_11 0 rfl rfl)
theorem dJ31_gallopRight_262 : decode cJ31_gallopRight 262 = .ok (.iload 5, 2) := dk_21 5 (dk_at dksJ31_gallopRight_11 2 rfl rfl)
theorem dJ31_gallopRight_264 : decode cJ31_gallopRight 264 = .ok (.iload 6, 2) := dk_21 6 (dk_at dksJ31_gallopRight_11 4 rfl rfl)
theorem dJ31_gallopRight_266 : decode cJ31_gallopRight 266 = .ok (.isub, 1) := dk_100 (dk_at dksJ31_gallopRight_11 6 rfl rfl)
theorem dJ31_gallopRight_267 : decode cJ31_gallopRight 267 = .ok (.iconst 1, 1) := dk_4 (dk_at dksJ31_gallopRight_11 7 rfl rfl)
theorem dJ31_gallopRight_268 : decode cJ31_gallopRight 268 = .ok (.iushr, 1) := dk_124 (dk_at dksJ31_gallopRight_11 8 rfl rfl)
theorem dJ31_gallopRight_269 : decode cJ31_gallopRight 269 = .ok (.iadd, 1) := dk_96 (dk_at dksJ31_gallopRight_11 9 rfl rfl)
theorem dJ31_gallopRight_270 : decode cJ31_gallopRight 270 = .ok (.istore 7, 2) := dk_54 7 (dk_at dksJ31_gallopRight_11 10 rfl rfl)
theorem dJ31_gallopRight_272 : decode cJ31_gallopRight 272 = .ok (.aload_n 0, 1) := dk_42 (dk_at dksJ31_gallopRight_11 12 rfl rfl)
theorem dJ31_gallopRight_273 : decode cJ31_gallopRight 273 = .ok (.aload_n 1, 1) := dk_43 (dk_at dksJ31_gallopRight_11 13 rfl rfl)
theorem dJ31_gallopRight_274 : decode cJ31_gallopRight 274 = .ok (.iload_n 2, 1) := dk_28 (dk_at dksJ31_gallopRight_11 14 rfl rfl)
theorem dJ31_gallopRight_275 : decode cJ31_gallopRight 275 = .ok (.iload 7, 2) := dk_21 7 (dk_at dksJ31_gallopRight_11 15 rfl rfl)
theorem dJ31_gallopRight_277 : decode cJ31_gallopRight 277 = .ok (.iadd, 1) := dk_96 (dk_at dksJ31_gallopRight_11 17 rfl rfl)
theorem dJ31_gallopRight_278 : decode cJ31_gallopRight 278 = .ok (.aaload, 1) := dk_50 (dk_at dksJ31_gallopRight_11 18 rfl rfl)
theorem dJ31_gallopRight_279 : decode cJ31_gallopRight 279 = .ok (.invokeinterface 71 2, 5) := by decide +kernel
theorem dJ31_gallopRight_284 : decode cJ31_gallopRight 284 = .ok (.ifCond .ge 10, 3) := dk_156 0 10 (dk_at dksJ31_gallopRight_12 0 rfl rfl)
theorem dJ31_gallopRight_287 : decode cJ31_gallopRight 287 = .ok (.iload 7, 2) := dk_21 7 (dk_at dksJ31_gallopRight_12 3 rfl rfl)
theorem dJ31_gallopRight_289 : decode cJ31_gallopRight 289 = .ok (.istore 5, 2) := dk_54 5 (dk_at dksJ31_gallopRight_12 5 rfl rfl)
theorem dJ31_gallopRight_291 : decode cJ31_gallopRight 291 = .ok (.goto 9, 3) := dk_167 0 9 (dk_at dksJ31_gallopRight_12 7 rfl rfl)
theorem dJ31_gallopRight_294 : decode cJ31_gallopRight 294 = .ok (.iload 7, 2) := dk_21 7 (dk_at dksJ31_gallopRight_12 10 rfl rfl)
theorem dJ31_gallopRight_296 : decode cJ31_gallopRight 296 = .ok (.iconst 1, 1) := dk_4 (dk_at dksJ31_gallopRight_12 12 rfl rfl)
theorem dJ31_gallopRight_297 : decode cJ31_gallopRight 297 = .ok (.iadd, 1) := dk_96 (dk_at dksJ31_gallopRight_12 13 rfl rfl)
theorem dJ31_gallopRight_298 : decode cJ31_gallopRight 298 = .ok (.istore 6, 2) := dk_54 6 (dk_at dksJ31_gallopRight_12 14 rfl rfl)
theorem dJ31_gallopRight_300 : decode cJ31_gallopRight 300 = .ok (.goto (-47), 3) := dk_167 255 209 (dk_at dksJ31_gallopRight_12 16 rfl rfl)
theorem dJ31_gallopRight_303 : decode cJ31_gallopRight 303 = .ok (.getstatic 37, 3) := dk_178 0 37 (dk_at dksJ31_gallopRight_12 19 rfl rfl)
theorem dJ31_gallopRight_306 : decode cJ31_gallopRight 306 = .ok (.ifCond .ne 18, 3) := dk_154 0 18 (dk_at dksJ31_gallopRight_13 0 rfl rfl)
theorem dJ31_gallopRight_309 : decode cJ31_gallopRight 309 = .ok (.iload 6, 2) := dk_21 6 (dk_at dksJ31_gallopRight_13 3 rfl rfl)
theorem dJ31_gallopRight_311 : decode cJ31_gallopRight 311 = .ok (.iload 5, 2) := dk_21 5 (dk_at dksJ31_gallopRight_13 5 rfl rfl)
theorem dJ31_gallopRight_313 : decode cJ31_gallopRight 313 = .ok (.if_icmp .eq 11, 3) := dk_159 0 11 (dk_at dksJ31_gallopRight_13 7 rfl rfl)
theorem dJ31_gallopRight_316 : decode cJ31_gallopRight 316 = .ok (.new 41, 3) := dk_187 0 41 (dk_at dksJ31_gallopRight_13 10 rfl rfl)
theorem dJ31_gallopRight_319 : decode cJ31_gallopRight 319 = .ok (.dup, 1) := dk_89 (dk_at dksJ31_gallopRight_13 13 rfl rfl)
theorem dJ31_gallopRight_320 : decode cJ31_gallopRight 320 = .ok (.invokespecial 43, 3) := dk_183 0 43 (dk_at dksJ31_gallopRight_13 14 rfl rfl)
theorem dJ31_gallopRight_323 : decode cJ31_gallopRight 323 = .ok (.athrow, 1) := dk_191 (dk_at dksJ31_gallopRight_13 17 rfl rfl)
theorem dJ31_gallopRight_324 : decode cJ31_gallopRight 324 = .ok (.iload 5, 2) := dk_21 5 (dk_at dksJ31_gallopRight_13 18 rfl rfl)
theorem dJ31_gallopRight_326 : decode cJ31_gallopRight 326 = .ok (.ireturn, 1) := dk_172 (dk_at dksJ31_gallopRight_13 20 rfl rfl)
theorem c72004 : jtCode 72004 = cJ31_gallopRight := rfl
theorem F72004_0 (d : Nat) (v0 : Value) (v1 : Value) (i2 : Int32) (i3 : Int32) (i4 : Int32) (h : AH) : G2 d 72004 0 [v0, v1, .int i2, .int i3, .int i4, jno, jno, jno, jno] [] h = if (1 : Int32) = 0 then (if i3 ≤ 0 then (G2 d 72004 21 [v0, v1, .int i2, .int i3, .int i4, jno, jno, jno, jno] [] h) else (if i4 < 0 then (G2 d 72004 21 [v0, v1, .int i2, .int i3, .int i4, jno, jno, jno, jno] [] h) else (if i4 < i3 then (G2 d 72004 29 [v0, v1, .int i2, .int i3, .int i4, jno, jno, jno, jno] [] h) else (G2 d 72004 21 [v0, v1, .int i2, .int i3, .int i4, jno, jno, jno, jno] [] h)))) else (G2 d 72004 29 [v0, v1, .int i2, .int i3, .int i4, jno, jno, jno, jno] [] h) := by
  refine (g_getsIH (x := 1) c72004 dJ31_gallopRight_0 rfl rfl).trans ?_
  refine (g_if_neH (tgt := 29) c72004 dJ31_gallopRight_3 rfl).trans (if_cg ?_ ?_)
  · skip
    refine (g_iload_nH c72004 dJ31_gallopRight_6 rfl).trans ?_
    refine (g_if_leH (tgt := 21) c72004 dJ31_gallopRight_7 rfl).trans (if_cg ?_ ?_)
    · skip
      rfl
    · skip
      refine (g_iloadH c72004 dJ31_gallopRight_10 rfl).trans ?_
      refine (g_if_ltH (tgt := 21) c72004 dJ31_gallopRight_12 rfl).trans (if_cg ?_ ?_)
      · skip
        rfl
      · skip
        refine (g_iloadH c72004 dJ31_gallopRight_15 rfl).trans ?_
        refine (g_iload_nH c72004 dJ31_gallopRight_17 rfl).trans ?_
        refine (g_icmp_ltH (tgt := 29) c72004 dJ31_gallopRight_18 rfl).trans (if_cg ?_ ?_)
        · skip
          rfl
        · skip
          rfl
  · skip
    rfl
theorem F72004_29 (d : Nat) (v0 : Value) (v1 : Value) (i2 : Int32) (i3 : Int32) (i4 : Int32) (h : AH) : G2 d 72004 29 [v0, v1, .int i2, .int i3, .int i4, jno, jno, jno, jno] [] h = zkR v0 (zkR v1 (zqG h v1 [1040, 1041, 1050, 1060, 1071] (i2 + i4) (fun w1 => zpR w1 (fun r2 => zcI (MvH d 9147 [v0, r2] h) (fun x3 h4 => if 0 ≤ x3 then (G2 d 72004 143 [v0, v1, .int i2, .int i3, .int i4, .int 1, .int 0, .int (i3 - i4), jno] [] h4) else (G2 d 72004 56 [v0, v1, .int i2, .int i3, .int i4, .int 1, .int 0, .int (i4 + 1), jno] [] h4)) ()) ()) ()) ()) () := by
  refine (g_iconstH (x := 1) c72004 dJ31_gallopRight_29 rfl).trans ?_
  refine (g_istoreH (L' := [v0, v1, .int i2, .int i3, .int i4, .int 1, jno, jno, jno]) c72004 dJ31_gallopRight_30 rfl rfl).trans ?_
  refine (g_iconstH (x := 0) c72004 dJ31_gallopRight_32 rfl).trans ?_
  refine (g_istoreH (L' := [v0, v1, .int i2, .int i3, .int i4, .int 1, .int 0, jno, jno]) c72004 dJ31_gallopRight_33 rfl rfl).trans ?_
  refine (g_aload_nVH c72004 dJ31_gallopRight_35 rfl).trans (ckR_cg ?_)
  refine (g_aload_nVH c72004 dJ31_gallopRight_36 rfl).trans (ckR_cg ?_)
  refine (g_iload_nH c72004 dJ31_gallopRight_37 rfl).trans ?_
  refine (g_iloadH c72004 dJ31_gallopRight_38 rfl).trans ?_
  refine (g_iaddH c72004 dJ31_gallopRight_40).trans ?_
  refine (g_aaloadH c72004 dJ31_gallopRight_41).trans (aG_cg fun w1 => rR_cg fun r2 => ?_)
  refine (g_faceH (as := [v0, r2]) (rest := []) c72004 dJ31_gallopRight_42 rfl rfl rfl rfl rfl).trans ((jback_IH (κx := cX) (fun e h => jthrow_outH rfl)).trans (cI_cg fun x3 h4 => ?_))
  refine (g_if_geH (tgt := 137) c72004 dJ31_gallopRight_47 rfl).trans (if_cg ?_ ?_)
  · skip
    refine (g_iload_nH c72004 dJ31_gallopRight_137 rfl).trans ?_
    refine (g_iloadH c72004 dJ31_gallopRight_138 rfl).trans ?_
    refine (g_isubH c72004 dJ31_gallopRight_140).trans ?_
    refine (g_istoreH (L' := [v0, v1, .int i2, .int i3, .int i4, .int 1, .int 0, .int (i3 - i4), jno]) c72004 dJ31_gallopRight_141 rfl rfl).trans ?_
    rfl
  · skip
    refine (g_iloadH c72004 dJ31_gallopRight_50 rfl).trans ?_
    refine (g_iconstH (x := 1) c72004 dJ31_gallopRight_52 rfl).trans ?_
    refine (g_iaddH c72004 dJ31_gallopRight_53).trans ?_
    refine (g_istoreH (L' := [v0, v1, .int i2, .int i3, .int i4, .int 1, .int 0, .int (i4 + 1), jno]) c72004 dJ31_gallopRight_54 rfl rfl).trans ?_
    rfl
theorem F72004_56 (d : Nat) (v0 : Value) (v1 : Value) (i2 : Int32) (i3 : Int32) (i4 : Int32) (i5 : Int32) (i6 : Int32) (i7 : Int32) (h : AH) : G2 d 72004 56 [v0, v1, .int i2, .int i3, .int i4, .int i5, .int i6, .int i7, jno] [] h = if i7 ≤ i5 then (G2 d 72004 105 [v0, v1, .int i2, .int i3, .int i4, .int i5, .int i6, .int i7, jno] [] h) else (zkR v0 (zkR v1 (zqG h v1 [1040, 1041, 1050, 1060, 1071] ((i2 + i4) - i5) (fun w1 => zpR w1 (fun r2 => zcI (MvH d 9147 [v0, r2] h) (fun x3 h4 => if 0 ≤ x3 then (G2 d 72004 105 [v0, v1, .int i2, .int i3, .int i4, .int i5, .int i6, .int i7, jno] [] h4) else (if 0 < ((i5 <<< ((1 : Int32) &&& 31)) + 1) then (G2 d 72004 56 [v0, v1, .int i2, .int i3, .int i4, .int ((i5 <<< ((1 : Int32) &&& 31)) + 1), .int i5, .int i7, jno] [] h4) else (G2 d 72004 56 [v0, v1, .int i2, .int i3, .int i4, .int i7, .int i5, .int i7, jno] [] h4))) ()) ()) ()) ()) ()) := by
  refine (g_iloadH c72004 dJ31_gallopRight_56 rfl).trans ?_
  refine (g_iloadH c72004 dJ31_gallopRight_58 rfl).trans ?_
  refine (g_icmp_geH (tgt := 105) c72004 dJ31_gallopRight_60 rfl).trans (if_cg ?_ ?_)
  · skip
    rfl
  · skip
    refine (g_aload_nVH c72004 dJ31_gallopRight_63 rfl).trans (ckR_cg ?_)
    refine (g_aload_nVH c72004 dJ31_gallopRight_64 rfl).trans (ckR_cg ?_)
    refine (g_iload_nH c72004 dJ31_gallopRight_65 rfl).trans ?_
    refine (g_iloadH c72004 dJ31_gallopRight_66 rfl).trans ?_
    refine (g_iaddH c72004 dJ31_gallopRight_68).trans ?_
    refine (g_iloadH c72004 dJ31_gallopRight_69 rfl).trans ?_
    refine (g_isubH c72004 dJ31_gallopRight_71).trans ?_
    refine (g_aaloadH c72004 dJ31_gallopRight_72).trans (aG_cg fun w1 => rR_cg fun r2 => ?_)
    refine (g_faceH (as := [v0, r2]) (rest := []) c72004 dJ31_gallopRight_73 rfl rfl rfl rfl rfl).trans ((jback_IH (κx := cX) (fun e h => jthrow_outH rfl)).trans (cI_cg fun x3 h4 => ?_))
    refine (g_if_geH (tgt := 105) c72004 dJ31_gallopRight_78 rfl).trans (if_cg ?_ ?_)
    · skip
      rfl
    · skip
      refine (g_iloadH c72004 dJ31_gallopRight_81 rfl).trans ?_
      refine (g_istoreH (L' := [v0, v1, .int i2, .int i3, .int i4, .int i5, .int i5, .int i7, jno]) c72004 dJ31_gallopRight_83 rfl rfl).trans ?_
      refine (g_iloadH c72004 dJ31_gallopRight_85 rfl).trans ?_
      refine (g_iconstH (x := 1) c72004 dJ31_gallopRight_87 rfl).trans ?_
      refine (g_ishlH c72004 dJ31_gallopRight_88).trans ?_
      refine (g_iconstH (x := 1) c72004 dJ31_gallopRight_89 rfl).trans ?_
      refine (g_iaddH c72004 dJ31_gallopRight_90).trans ?_
      refine (g_istoreH (L' := [v0, v1, .int i2, .int i3, .int i4, .int ((i5 <<< ((1 : Int32) &&& 31)) + 1), .int i5, .int i7, jno]) c72004 dJ31_gallopRight_91 rfl rfl).trans ?_
      refine (g_iloadH c72004 dJ31_gallopRight_93 rfl).trans ?_
      refine (g_if_gtH (tgt := 56) c72004 dJ31_gallopRight_95 rfl).trans (if_cg ?_ ?_)
      · skip
        rfl
      · skip
        refine (g_iloadH c72004 dJ31_gallopRight_98 rfl).trans ?_
        refine (g_istoreH (L' := [v0, v1, .int i2, .int i3, .int i4, .int i7, .int i5, .int i7, jno]) c72004 dJ31_gallopRight_100 rfl rfl).trans ?_
        refine (g_gotoH (tgt := 56) c72004 dJ31_gallopRight_102 rfl).trans ?_
        rfl
theorem F72004_105 (d : Nat) (v0 : Value) (v1 : Value) (i2 : Int32) (i3 : Int32) (i4 : Int32) (i5 : Int32) (i6 : Int32) (i7 : Int32) (h : AH) : G2 d 72004 105 [v0, v1, .int i2, .int i3, .int i4, .int i5, .int i6, .int i7, jno] [] h = if i5 ≤ i7 then (G2 d 72004 217 [v0, v1, .int i2, .int i3, .int i4, .int (i4 - i6), .int (i4 - i5), .int i7, .int i6] [] h) else (G2 d 72004 217 [v0, v1, .int i2, .int i3, .int i4, .int (i4 - i6), .int (i4 - i7), .int i7, .int i6] [] h) := by
  refine (g_iloadH c72004 dJ31_gallopRight_105 rfl).trans ?_
  refine (g_iloadH c72004 dJ31_gallopRight_107 rfl).trans ?_
  refine (g_icmp_leH (tgt := 116) c72004 dJ31_gallopRight_109 rfl).trans (if_cg ?_ ?_)
  · skip
    refine (g_iloadH c72004 dJ31_gallopRight_116 rfl).trans ?_
    refine (g_istoreH (L' := [v0, v1, .int i2, .int i3, .int i4, .int i5, .int i6, .int i7, .int i6]) c72004 dJ31_gallopRight_118 rfl rfl).trans ?_
    refine (g_iloadH c72004 dJ31_gallopRight_120 rfl).trans ?_
    refine (g_iloadH c72004 dJ31_gallopRight_122 rfl).trans ?_
    refine (g_isubH c72004 dJ31_gallopRight_124).trans ?_
    refine (g_istoreH (L' := [v0, v1, .int i2, .int i3, .int i4, .int i5, .int (i4 - i5), .int i7, .int i6]) c72004 dJ31_gallopRight_125 rfl rfl).trans ?_
    refine (g_iloadH c72004 dJ31_gallopRight_127 rfl).trans ?_
    refine (g_iloadH c72004 dJ31_gallopRight_129 rfl).trans ?_
    refine (g_isubH c72004 dJ31_gallopRight_131).trans ?_
    refine (g_istoreH (L' := [v0, v1, .int i2, .int i3, .int i4, .int (i4 - i6), .int (i4 - i5), .int i7, .int i6]) c72004 dJ31_gallopRight_132 rfl rfl).trans ?_
    refine (g_gotoH (tgt := 217) c72004 dJ31_gallopRight_134 rfl).trans ?_
    rfl
  · skip
    refine (g_iloadH c72004 dJ31_gallopRight_112 rfl).trans ?_
    refine (g_istoreH (L' := [v0, v1, .int i2, .int i3, .int i4, .int i7, .int i6, .int i7, jno]) c72004 dJ31_gallopRight_114 rfl rfl).trans ?_
    refine (g_iloadH c72004 dJ31_gallopRight_116 rfl).trans ?_
    refine (g_istoreH (L' := [v0, v1, .int i2, .int i3, .int i4, .int i7, .int i6, .int i7, .int i6]) c72004 dJ31_gallopRight_118 rfl rfl).trans ?_
    refine (g_iloadH c72004 dJ31_gallopRight_120 rfl).trans ?_
    refine (g_iloadH c72004 dJ31_gallopRight_122 rfl).trans ?_
    refine (g_isubH c72004 dJ31_gallopRight_124).trans ?_
    refine (g_istoreH (L' := [v0, v1, .int i2, .int i3, .int i4, .int i7, .int (i4 - i7), .int i7, .int i6]) c72004 dJ31_gallopRight_125 rfl rfl).trans ?_
    refine (g_iloadH c72004 dJ31_gallopRight_127 rfl).trans ?_
    refine (g_iloadH c72004 dJ31_gallopRight_129 rfl).trans ?_
    refine (g_isubH c72004 dJ31_gallopRight_131).trans ?_
    refine (g_istoreH (L' := [v0, v1, .int i2, .int i3, .int i4, .int (i4 - i6), .int (i4 - i7), .int i7, .int i6]) c72004 dJ31_gallopRight_132 rfl rfl).trans ?_
    refine (g_gotoH (tgt := 217) c72004 dJ31_gallopRight_134 rfl).trans ?_
    rfl
theorem F72004_143 (d : Nat) (v0 : Value) (v1 : Value) (i2 : Int32) (i3 : Int32) (i4 : Int32) (i5 : Int32) (i6 : Int32) (i7 : Int32) (h : AH) : G2 d 72004 143 [v0, v1, .int i2, .int i3, .int i4, .int i5, .int i6, .int i7, jno] [] h = if i7 ≤ i5 then (G2 d 72004 192 [v0, v1, .int i2, .int i3, .int i4, .int i5, .int i6, .int i7, jno] [] h) else (zkR v0 (zkR v1 (zqG h v1 [1040, 1041, 1050, 1060, 1071] ((i2 + i4) + i5) (fun w1 => zpR w1 (fun r2 => zcI (MvH d 9147 [v0, r2] h) (fun x3 h4 => if x3 < 0 then (G2 d 72004 192 [v0, v1, .int i2, .int i3, .int i4, .int i5, .int i6, .int i7, jno] [] h4) else (if 0 < ((i5 <<< ((1 : Int32) &&& 31)) + 1) then (G2 d 72004 143 [v0, v1, .int i2, .int i3, .int i4, .int ((i5 <<< ((1 : Int32) &&& 31)) + 1), .int i5, .int i7, jno] [] h4) else (G2 d 72004 143 [v0, v1, .int i2, .int i3, .int i4, .int i7, .int i5, .int i7, jno] [] h4))) ()) ()) ()) ()) ()) := by
  refine (g_iloadH c72004 dJ31_gallopRight_143 rfl).trans ?_
  refine (g_iloadH c72004 dJ31_gallopRight_145 rfl).trans ?_
  refine (g_icmp_geH (tgt := 192) c72004 dJ31_gallopRight_147 rfl).trans (if_cg ?_ ?_)
  · skip
    rfl
  · skip
    refine (g_aload_nVH c72004 dJ31_gallopRight_150 rfl).trans (ckR_cg ?_)
    refine (g_aload_nVH c72004 dJ31_gallopRight_151 rfl).trans (ckR_cg ?_)
    refine (g_iload_nH c72004 dJ31_gallopRight_152 rfl).trans ?_
    refine (g_iloadH c72004 dJ31_gallopRight_153 rfl).trans ?_
    refine (g_iaddH c72004 dJ31_gallopRight_155).trans ?_
    refine (g_iloadH c72004 dJ31_gallopRight_156 rfl).trans ?_
    refine (g_iaddH c72004 dJ31_gallopRight_158).trans ?_
    refine (g_aaloadH c72004 dJ31_gallopRight_159).trans (aG_cg fun w1 => rR_cg fun r2 => ?_)
    refine (g_faceH (as := [v0, r2]) (rest := []) c72004 dJ31_gallopRight_160 rfl rfl rfl rfl rfl).trans ((jback_IH (κx := cX) (fun e h => jthrow_outH rfl)).trans (cI_cg fun x3 h4 => ?_))
    refine (g_if_ltH (tgt := 192) c72004 dJ31_gallopRight_165 rfl).trans (if_cg ?_ ?_)
    · skip
      rfl
    · skip
      refine (g_iloadH c72004 dJ31_gallopRight_168 rfl).trans ?_
      refine (g_istoreH (L' := [v0, v1, .int i2, .int i3, .int i4, .int i5, .int i5, .int i7, jno]) c72004 dJ31_gallopRight_170 rfl rfl).trans ?_
      refine (g_iloadH c72004 dJ31_gallopRight_172 rfl).trans ?_
      refine (g_iconstH (x := 1) c72004 dJ31_gallopRight_174 rfl).trans ?_
      refine (g_ishlH c72004 dJ31_gallopRight_175).trans ?_
      refine (g_iconstH (x := 1) c72004 dJ31_gallopRight_176 rfl).trans ?_
      refine (g_iaddH c72004 dJ31_gallopRight_177).trans ?_
      refine (g_istoreH (L' := [v0, v1, .int i2, .int i3, .int i4, .int ((i5 <<< ((1 : Int32) &&& 31)) + 1), .int i5, .int i7, jno]) c72004 dJ31_gallopRight_178 rfl rfl).trans ?_
      refine (g_iloadH c72004 dJ31_gallopRight_180 rfl).trans ?_
      refine (g_if_gtH (tgt := 143) c72004 dJ31_gallopRight_182 rfl).trans (if_cg ?_ ?_)
      · skip
        rfl
      · skip
        refine (g_iloadH c72004 dJ31_gallopRight_185 rfl).trans ?_
        refine (g_istoreH (L' := [v0, v1, .int i2, .int i3, .int i4, .int i7, .int i5, .int i7, jno]) c72004 dJ31_gallopRight_187 rfl rfl).trans ?_
        refine (g_gotoH (tgt := 143) c72004 dJ31_gallopRight_189 rfl).trans ?_
        rfl
theorem F72004_192 (d : Nat) (v0 : Value) (v1 : Value) (i2 : Int32) (i3 : Int32) (i4 : Int32) (i5 : Int32) (i6 : Int32) (i7 : Int32) (h : AH) : G2 d 72004 192 [v0, v1, .int i2, .int i3, .int i4, .int i5, .int i6, .int i7, jno] [] h = if i5 ≤ i7 then (G2 d 72004 217 [v0, v1, .int i2, .int i3, .int i4, .int (i5 + i4), .int (i6 + i4), .int i7, jno] [] h) else (G2 d 72004 217 [v0, v1, .int i2, .int i3, .int i4, .int (i7 + i4), .int (i6 + i4), .int i7, jno] [] h) := by
  refine (g_iloadH c72004 dJ31_gallopRight_192 rfl).trans ?_
  refine (g_iloadH c72004 dJ31_gallopRight_194 rfl).trans ?_
  refine (g_icmp_leH (tgt := 203) c72004 dJ31_gallopRight_196 rfl).trans (if_cg ?_ ?_)
  · skip
    refine (g_iloadH c72004 dJ31_gallopRight_203 rfl).trans ?_
    refine (g_iloadH c72004 dJ31_gallopRight_205 rfl).trans ?_
    refine (g_iaddH c72004 dJ31_gallopRight_207).trans ?_
    refine (g_istoreH (L' := [v0, v1, .int i2, .int i3, .int i4, .int i5, .int (i6 + i4), .int i7, jno]) c72004 dJ31_gallopRight_208 rfl rfl).trans ?_
    refine (g_iloadH c72004 dJ31_gallopRight_210 rfl).trans ?_
    refine (g_iloadH c72004 dJ31_gallopRight_212 rfl).trans ?_
    refine (g_iaddH c72004 dJ31_gallopRight_214).trans ?_
    refine (g_istoreH (L' := [v0, v1, .int i2, .int i3, .int i4, .int (i5 + i4), .int (i6 + i4), .int i7, jno]) c72004 dJ31_gallopRight_215 rfl rfl).trans ?_
    rfl
  · skip
    refine (g_iloadH c72004 dJ31_gallopRight_199 rfl).trans ?_
    refine (g_istoreH (L' := [v0, v1, .int i2, .int i3, .int i4, .int i7, .int i6, .int i7, jno]) c72004 dJ31_gallopRight_201 rfl rfl).trans ?_
    refine (g_iloadH c72004 dJ31_gallopRight_203 rfl).trans ?_
    refine (g_iloadH c72004 dJ31_gallopRight_205 rfl).trans ?_
    refine (g_iaddH c72004 dJ31_gallopRight_207).trans ?_
    refine (g_istoreH (L' := [v0, v1, .int i2, .int i3, .int i4, .int i7, .int (i6 + i4), .int i7, jno]) c72004 dJ31_gallopRight_208 rfl rfl).trans ?_
    refine (g_iloadH c72004 dJ31_gallopRight_210 rfl).trans ?_
    refine (g_iloadH c72004 dJ31_gallopRight_212 rfl).trans ?_
    refine (g_iaddH c72004 dJ31_gallopRight_214).trans ?_
    refine (g_istoreH (L' := [v0, v1, .int i2, .int i3, .int i4, .int (i7 + i4), .int (i6 + i4), .int i7, jno]) c72004 dJ31_gallopRight_215 rfl rfl).trans ?_
    rfl
theorem F72004_217 (d : Nat) (v0 : Value) (v1 : Value) (i2 : Int32) (i3 : Int32) (i4 : Int32) (i5 : Int32) (i6 : Int32) (i7 : Int32) (v8 : Value) (h : AH) : G2 d 72004 217 [v0, v1, .int i2, .int i3, .int i4, .int i5, .int i6, .int i7, v8] [] h = if (1 : Int32) = 0 then (if i6 < (-1) then (G2 d 72004 242 [v0, v1, .int i2, .int i3, .int i4, .int i5, .int i6, .int i7, v8] [] h) else (if i5 ≤ i6 then (G2 d 72004 242 [v0, v1, .int i2, .int i3, .int i4, .int i5, .int i6, .int i7, v8] [] h) else (if i5 ≤ i3 then (G2 d 72004 253 [v0, v1, .int i2, .int i3, .int i4, .int i5, .int (i6 + 1), .int i7, v8] [] h) else (G2 d 72004 242 [v0, v1, .int i2, .int i3, .int i4, .int i5, .int i6, .int i7, v8] [] h)))) else (G2 d 72004 253 [v0, v1, .int i2, .int i3, .int i4, .int i5, .int (i6 + 1), .int i7, v8] [] h) := by
  refine (g_getsIH (x := 1) c72004 dJ31_gallopRight_217 rfl rfl).trans ?_
  refine (g_if_neH (tgt := 250) c72004 dJ31_gallopRight_220 rfl).trans (if_cg ?_ ?_)
  · skip
    refine (g_iconstH (x := (-1)) c72004 dJ31_gallopRight_223 rfl).trans ?_
    refine (g_iloadH c72004 dJ31_gallopRight_224 rfl).trans ?_
    refine (g_icmp_gtH (tgt := 242) c72004 dJ31_gallopRight_226 rfl).trans (if_cg ?_ ?_)
    · skip
      rfl
    · skip
      refine (g_iloadH c72004 dJ31_gallopRight_229 rfl).trans ?_
      refine (g_iloadH c72004 dJ31_gallopRight_231 rfl).trans ?_
      refine (g_icmp_geH (tgt := 242) c72004 dJ31_gallopRight_233 rfl).trans (if_cg ?_ ?_)
      · skip
        rfl
      · skip
        refine (g_iloadH c72004 dJ31_gallopRight_236 rfl).trans ?_
        refine (g_iload_nH c72004 dJ31_gallopRight_238 rfl).trans ?_
        refine (g_icmp_leH (tgt := 250) c72004 dJ31_gallopRight_239 rfl).trans (if_cg ?_ ?_)
        · skip
          refine (g_iincH (c := 1) (L' := [v0, v1, .int i2, .int i3, .int i4, .int i5, .int (i6 + 1), .int i7, v8]) c72004 dJ31_gallopRight_250 rfl rfl rfl rfl).trans ?_
          rfl
        · skip
          rfl
  · skip
    refine (g_iincH (c := 1) (L' := [v0, v1, .int i2, .int i3, .int i4, .int i5, .int (i6 + 1), .int i7, v8]) c72004 dJ31_gallopRight_250 rfl rfl rfl rfl).trans ?_
    rfl
theorem F72004_253 (d : Nat) (v0 : Value) (v1 : Value) (i2 : Int32) (i3 : Int32) (i4 : Int32) (i5 : Int32) (i6 : Int32) (i7 : Int32) (v8 : Value) (h : AH) : G2 d 72004 253 [v0, v1, .int i2, .int i3, .int i4, .int i5, .int i6, .int i7, v8] [] h = if i5 ≤ i6 then (if (1 : Int32) = 0 then (if i6 = i5 then (some (.inl (some (.int i5)), h)) else (G2 d 72004 316 [v0, v1, .int i2, .int i3, .int i4, .int i5, .int i6, .int i7, v8] [] h)) else (some (.inl (some (.int i5)), h))) else (zkR v0 (zkR v1 (zqG h v1 [1040, 1041, 1050, 1060, 1071] (i2 + (i6 + (((i5 - i6).toUInt32 >>> ((1 : Int32).toUInt32 &&& Int32.toUInt32 31)).toInt32))) (fun w1 => zpR w1 (fun r2 => zcI (MvH d 9147 [v0, r2] h) (fun x3 h4 => if 0 ≤ x3 then (G2 d 72004 253 [v0, v1, .int i2, .int i3, .int i4, .int i5, .int ((i6 + (((i5 - i6).toUInt32 >>> ((1 : Int32).toUInt32 &&& Int32.toUInt32 31)).toInt32)) + 1), .int (i6 + (((i5 - i6).toUInt32 >>> ((1 : Int32).toUInt32 &&& Int32.toUInt32 31)).toInt32)), v8] [] h4) else (G2 d 72004 253 [v0, v1, .int i2, .int i3, .int i4, .int (i6 + (((i5 - i6).toUInt32 >>> ((1 : Int32).toUInt32 &&& Int32.toUInt32 31)).toInt32)), .int i6, .int (i6 + (((i5 - i6).toUInt32 >>> ((1 : Int32).toUInt32 &&& Int32.toUInt32 31)).toInt32)), v8] [] h4)) ()) ()) ()) ()) ()) := by
  refine (g_iloadH c72004 dJ31_gallopRight_253 rfl).trans ?_
  refine (g_iloadH c72004 dJ31_gallopRight_255 rfl).trans ?_
  refine (g_icmp_geH (tgt := 303) c72004 dJ31_gallopRight_257 rfl).trans (if_cg ?_ ?_)
  · skip
    refine (g_getsIH (x := 1) c72004 dJ31_gallopRight_303 rfl rfl).trans ?_
    refine (g_if_neH (tgt := 324) c72004 dJ31_gallopRight_306 rfl).trans (if_cg ?_ ?_)
    · skip
      refine (g_iloadH c72004 dJ31_gallopRight_309 rfl).trans ?_
      refine (g_iloadH c72004 dJ31_gallopRight_311 rfl).trans ?_
      refine (g_icmp_eqH (tgt := 324) c72004 dJ31_gallopRight_313 rfl).trans (if_cg ?_ ?_)
      · skip
        refine (g_iloadH c72004 dJ31_gallopRight_324 rfl).trans ?_
        exact g_ireturnH c72004 dJ31_gallopRight_326 rfl
      · skip
        rfl
    · skip
      refine (g_iloadH c72004 dJ31_gallopRight_324 rfl).trans ?_
      exact g_ireturnH c72004 dJ31_gallopRight_326 rfl
  · skip
    refine (g_iloadH c72004 dJ31_gallopRight_260 rfl).trans ?_
    refine (g_iloadH c72004 dJ31_gallopRight_262 rfl).trans ?_
    refine (g_iloadH c72004 dJ31_gallopRight_264 rfl).trans ?_
    refine (g_isubH c72004 dJ31_gallopRight_266).trans ?_
    refine (g_iconstH (x := 1) c72004 dJ31_gallopRight_267 rfl).trans ?_
    refine (g_iushrH c72004 dJ31_gallopRight_268).trans ?_
    refine (g_iaddH c72004 dJ31_gallopRight_269).trans ?_
    refine (g_istoreH (L' := [v0, v1, .int i2, .int i3, .int i4, .int i5, .int i6, .int (i6 + (((i5 - i6).toUInt32 >>> ((1 : Int32).toUInt32 &&& Int32.toUInt32 31)).toInt32)), v8]) c72004 dJ31_gallopRight_270 rfl rfl).trans ?_
    refine (g_aload_nVH c72004 dJ31_gallopRight_272 rfl).trans (ckR_cg ?_)
    refine (g_aload_nVH c72004 dJ31_gallopRight_273 rfl).trans (ckR_cg ?_)
    refine (g_iload_nH c72004 dJ31_gallopRight_274 rfl).trans ?_
    refine (g_iloadH c72004 dJ31_gallopRight_275 rfl).trans ?_
    refine (g_iaddH c72004 dJ31_gallopRight_277).trans ?_
    refine (g_aaloadH c72004 dJ31_gallopRight_278).trans (aG_cg fun w1 => rR_cg fun r2 => ?_)
    refine (g_faceH (as := [v0, r2]) (rest := []) c72004 dJ31_gallopRight_279 rfl rfl rfl rfl rfl).trans ((jback_IH (κx := cX) (fun e h => jthrow_outH rfl)).trans (cI_cg fun x3 h4 => ?_))
    refine (g_if_geH (tgt := 294) c72004 dJ31_gallopRight_284 rfl).trans (if_cg ?_ ?_)
    · skip
      refine (g_iloadH c72004 dJ31_gallopRight_294 rfl).trans ?_
      refine (g_iconstH (x := 1) c72004 dJ31_gallopRight_296 rfl).trans ?_
      refine (g_iaddH c72004 dJ31_gallopRight_297).trans ?_
      refine (g_istoreH (L' := [v0, v1, .int i2, .int i3, .int i4, .int i5, .int ((i6 + (((i5 - i6).toUInt32 >>> ((1 : Int32).toUInt32 &&& Int32.toUInt32 31)).toInt32)) + 1), .int (i6 + (((i5 - i6).toUInt32 >>> ((1 : Int32).toUInt32 &&& Int32.toUInt32 31)).toInt32)), v8]) c72004 dJ31_gallopRight_298 rfl rfl).trans ?_
      refine (g_gotoH (tgt := 253) c72004 dJ31_gallopRight_300 rfl).trans ?_
      rfl
    · skip
      refine (g_iloadH c72004 dJ31_gallopRight_287 rfl).trans ?_
      refine (g_istoreH (L' := [v0, v1, .int i2, .int i3, .int i4, .int (i6 + (((i5 - i6).toUInt32 >>> ((1 : Int32).toUInt32 &&& Int32.toUInt32 31)).toInt32)), .int i6, .int (i6 + (((i5 - i6).toUInt32 >>> ((1 : Int32).toUInt32 &&& Int32.toUInt32 31)).toInt32)), v8]) c72004 dJ31_gallopRight_289 rfl rfl).trans ?_
      refine (g_gotoH (tgt := 300) c72004 dJ31_gallopRight_291 rfl).trans ?_
      refine (g_gotoH (tgt := 253) c72004 dJ31_gallopRight_300 rfl).trans ?_
      rfl
theorem Y72004 {d : Nat} {v0 : Value} {v1 : Value} {i2 : Int32} {i3 : Int32} {i4 : Int32} (h : AH) (hv0 : isR v0 = true) (hv1 : isR v1 = true) : M2 (d + 1) 72004 [v0, v1, .int i2, .int i3, .int i4] h = G2 d 72004 0 [v0, v1, .int i2, .int i3, .int i4, jno, jno, jno, jno] [] h := M2_eq rfl rfl rfl (by simp only [jent, jargL_R hv0, jargL_R hv1, jargL]; rfl)
/-! java/util/ComparableTimSort.mergeAt(I)V -/
abbrev cJ31_mergeAt : ByteArray := prog_74_method_10_code
def dkwJ31_mergeAt_15 : List UInt8 := [21, 5, 182, 0, 100, 177]
abbrev dktJ31_mergeAt_15 : List UInt8 := dkwJ31_mergeAt_15 ++ []
def dkwJ31_mergeAt_14 : List UInt8 := [21, 5, 163, 0, 16, 42, 28, 29, 21, 4, 21, 5, 182, 0, 96, 167, 0, 13, 42, 28, 29, 21, 4]
abbrev dktJ31_mergeAt_14 : List UInt8 := dkwJ31_mergeAt_14 ++ dktJ31_mergeAt_15
def dkwJ31_mergeAt_13 : List UInt8 := [154, 0, 16, 21, 5, 156, 0, 11, 187, 0, 41, 89, 183, 0, 43, 191, 21, 5, 154, 0, 4, 177, 29]
abbrev dktJ31_mergeAt_13 : List UInt8 := dkwJ31_mergeAt_13 ++ dktJ31_mergeAt_14
def dkwJ31_mergeAt_12 : List UInt8 := [192, 0, 69, 42, 180, 0, 16, 21, 4, 21, 5, 21, 5, 4, 100, 184, 0, 93, 54, 5, 178, 0, 37]
abbrev dktJ31_mergeAt_12 : List UInt8 := dkwJ31_mergeAt_12 ++ dktJ31_mergeAt_13
def dkwJ31_mergeAt_11 : List UInt8 := [96, 61, 29, 21, 6, 100, 62, 29, 154, 0, 4, 177, 42, 180, 0, 16, 28, 29, 96, 4, 100, 50]
abbrev dktJ31_mergeAt_11 : List UInt8 := dkwJ31_mergeAt_11 ++ dktJ31_mergeAt_12
def dkwJ31_mergeAt_10 : List UInt8 := [54, 6, 178, 0, 37, 154, 0, 16, 21, 6, 156, 0, 11, 187, 0, 41, 89, 183, 0, 43, 191, 28, 21, 6]
abbrev dktJ31_mergeAt_10 : List UInt8 := dkwJ31_mergeAt_10 ++ dktJ31_mergeAt_11
def dkwJ31_mergeAt_9 : List UInt8 := [181, 0, 13, 42, 180, 0, 16, 21, 4, 50, 192, 0, 69, 42, 180, 0, 16, 28, 29, 3, 184, 0, 89]
abbrev dktJ31_mergeAt_9 : List UInt8 := dkwJ31_mergeAt_9 ++ dktJ31_mergeAt_10
def dkwJ31_mergeAt_8 : List UInt8 := [42, 180, 0, 34, 27, 4, 96, 42, 180, 0, 34, 27, 5, 96, 46, 79, 42, 89, 180, 0, 13, 4, 100]
abbrev dktJ31_mergeAt_8 : List UInt8 := dkwJ31_mergeAt_8 ++ dktJ31_mergeAt_9
def dkwJ31_mergeAt_7 : List UInt8 := [180, 0, 13, 6, 100, 160, 0, 35, 42, 180, 0, 30, 27, 4, 96, 42, 180, 0, 30, 27, 5, 96, 46, 79]
abbrev dktJ31_mergeAt_7 : List UInt8 := dkwJ31_mergeAt_7 ++ dktJ31_mergeAt_8
def dkwJ31_mergeAt_6 : List UInt8 := [159, 0, 11, 187, 0, 41, 89, 183, 0, 43, 191, 42, 180, 0, 34, 27, 29, 21, 5, 96, 79, 27, 42]
abbrev dktJ31_mergeAt_6 : List UInt8 := dkwJ31_mergeAt_6 ++ dktJ31_mergeAt_7
def dkwJ31_mergeAt_5 : List UInt8 := [21, 5, 157, 0, 11, 187, 0, 41, 89, 183, 0, 43, 191, 178, 0, 37, 154, 0, 19, 28, 29, 96, 21, 4]
abbrev dktJ31_mergeAt_5 : List UInt8 := dkwJ31_mergeAt_5 ++ dktJ31_mergeAt_6
def dkwJ31_mergeAt_4 : List UInt8 := [96, 46, 54, 4, 42, 180, 0, 34, 27, 4, 96, 46, 54, 5, 178, 0, 37, 154, 0, 20, 29, 158, 0, 8]
abbrev dktJ31_mergeAt_4 : List UInt8 := dkwJ31_mergeAt_4 ++ dktJ31_mergeAt_5
def dkwJ31_mergeAt_3 : List UInt8 := [183, 0, 43, 191, 42, 180, 0, 30, 27, 46, 61, 42, 180, 0, 34, 27, 46, 62, 42, 180, 0, 30, 27, 4]
abbrev dktJ31_mergeAt_3 : List UInt8 := dkwJ31_mergeAt_3 ++ dktJ31_mergeAt_4
def dkwJ31_mergeAt_2 : List UInt8 := [27, 42, 180, 0, 13, 5, 100, 159, 0, 21, 27, 42, 180, 0, 13, 6, 100, 159, 0, 11, 187, 0, 41, 89]
abbrev dktJ31_mergeAt_2 : List UInt8 := dkwJ31_mergeAt_2 ++ dktJ31_mergeAt_3
def dkwJ31_mergeAt_1 : List UInt8 := [178, 0, 37, 154, 0, 15, 27, 156, 0, 11, 187, 0, 41, 89, 183, 0, 43, 191, 178, 0, 37, 154, 0, 31]
abbrev dktJ31_mergeAt_1 : List UInt8 := dkwJ31_mergeAt_1 ++ dktJ31_mergeAt_2
def dkwJ31_mergeAt_0 : List UInt8 := [178, 0, 37, 154, 0, 19, 42, 180, 0, 13, 5, 162, 0, 11, 187, 0, 41, 89, 183, 0, 43, 191]
abbrev dktJ31_mergeAt_0 : List UInt8 := dkwJ31_mergeAt_0 ++ dktJ31_mergeAt_1
theorem dksJ31_mergeAt_0 : cJ31_mergeAt.data.toList.drop 0 = dktJ31_mergeAt_0 := by decide +kernel
theorem dksJ31_mergeAt_1 : cJ31_mergeAt.data.toList.drop 22 = dktJ31_mergeAt_1 := dk_seg dksJ31_mergeAt_0 22 rfl rfl
theorem dksJ31_mergeAt_2 : cJ31_mergeAt.data.toList.drop 46 = dktJ31_mergeAt_2 := dk_seg dksJ31_mergeAt_1 24 rfl rfl
theorem dksJ31_mergeAt_3 : cJ31_mergeAt.data.toList.drop 70 = dktJ31_mergeAt_3 := dk_seg dksJ31_mergeAt_2 24 rfl rfl
theorem dksJ31_mergeAt_4 : cJ31_mergeAt.data.toList.drop 94 = dktJ31_mergeAt_4 := dk_seg dksJ31_mergeAt_3 24 rfl rfl
theorem dksJ31_mergeAt_5 : cJ31_mergeAt.data.toList.drop 118 = dktJ31_mergeAt_5 := dk_seg dksJ31_mergeAt_4 24 rfl rfl
theorem dksJ31_mergeAt_6 : cJ31_mergeAt.data.toList.drop 142 = dktJ31_mergeAt_6 := dk_seg dksJ31_mergeAt_5 24 rfl rfl
theorem dksJ31_mergeAt_7 : cJ31_mergeAt.data.toList.drop 165 = dktJ31_mergeAt_7 := dk_seg dksJ31_mergeAt_6 23 rfl rfl
theorem dksJ31_mergeAt_8 : cJ31_mergeAt.data.toList.drop 189 = dktJ31_mergeAt_8 := dk_seg dksJ31_mergeAt_7 24 rfl rfl
theorem dksJ31_mergeAt_9 : cJ31_mergeAt.data.toList.drop 212 = dktJ31_mergeAt_9 := dk_seg dksJ31_mergeAt_8 23 rfl rfl
theorem dksJ31_mergeAt_10 : cJ31_mergeAt.data.toList.drop 235 = dktJ31_mergeAt_10 := dk_seg dksJ31_mergeAt_9 23 rfl rfl
theorem dksJ31_mergeAt_11 : cJ31_mergeAt.data.toList.drop 259 = dktJ31_mergeAt_11 := dk_seg dksJ31_mergeAt_10 24 rfl rfl
theorem dksJ31_mergeAt_12 : cJ31_mergeAt.data.toList.drop 281 = dktJ31_mergeAt_12 := dk_seg dksJ31_mergeAt_11 22 rfl rfl
theorem dksJ31_mergeAt_13 : cJ31_mergeAt.data.toList.drop 304 = dktJ31_mergeAt_13 := dk_seg dksJ31_mergeAt_12 23 rfl rfl
theorem dksJ31_mergeAt_14 : cJ31_mergeAt.data.toList.drop 327 = dktJ31_mergeAt_14 := dk_seg dksJ31_mergeAt_13 23 rfl rfl
theorem dksJ31_mergeAt_15 : cJ31_mergeAt.data.toList.drop 350 = dktJ31_mergeAt_15 := dk_seg dksJ31_mergeAt_14 23 rfl rfl
theorem dJ31_mergeAt_0 : decode cJ31_mergeAt 0 = .ok (.getstatic 37, 3) := dk_178 0 37 (dk_at dksJ31_mergeAt_0 0 rfl rfl)
theorem dJ31_mergeAt_3 : decode cJ31_mergeAt 3 = .ok (.ifCond .ne 19, 3) := dk_154 0 19 (dk_at dksJ31_mergeAt_0 3 rfl rfl)
theorem dJ31_mergeAt_6 : decode cJ31_mergeAt 6 = .ok (.aload_n 0, 1) := dk_42 (dk_at dksJ31_mergeAt_0 6 rfl rfl)
theorem dJ31_mergeAt_7 : decode cJ31_mergeAt 7 = .ok (.getfield 13, 3) := dk_180 0 13 (dk_at dksJ31_mergeAt_0 7 rfl rfl)
theorem dJ31_mergeAt_10 : decode cJ31_mergeAt 10 = .ok (.iconst 2, 1) := dk_5 (dk_at dksJ31_mergeAt_0 10 rfl rfl)
theorem dJ31_mergeAt_11 : decode cJ31_mergeAt 11 = .ok (.if_icmp .ge 11, 3) := dk_162 0 11 (dk_at dksJ31_mergeAt_0 11 rfl rfl)
theorem dJ31_mergeAt_14 : decode cJ31_mergeAt 14 = .ok (.new 41, 3) := dk_187 0 41 (dk_at dksJ31_mergeAt_0 14 rfl rfl)
theorem dJ31_mergeAt_17 : decode cJ31_mergeAt 17 = .ok (.dup, 1) := dk_89 (dk_at dksJ31_mergeAt_0 17 rfl rfl)
theorem dJ31_mergeAt_18 : decode cJ31_mergeAt 18 = .ok (.invokespecial 43, 3) := dk_183 0 43 (dk_at dksJ31_mergeAt_0 18 rfl rfl)
theorem dJ31_mergeAt_21 : decode cJ31_mergeAt 21 = .ok (.athrow, 1) := dk_191 (dk_at dksJ31_mergeAt_0 21 rfl rfl)
theorem dJ31_mergeAt_22 : decode cJ31_mergeAt 22 = .ok (.getstatic 37, 3) := dk_178 0 37 (dk_at dksJ31_mergeAt_1 0 rfl rfl)
theorem dJ31_mergeAt_25 : decode cJ31_mergeAt 25 = .ok (.ifCond .ne 15, 3) := dk_154 0 15 (dk_at dksJ31_mergeAt_1 3 rfl rfl)
theorem dJ31_mergeAt_28 : decode cJ31_mergeAt 28 = .ok (.iload_n 1, 1) := dk_27 (dk_at dksJ31_mergeAt_1 6 rfl rfl)
theorem dJ31_mergeAt_29 : decode cJ31_mergeAt 29 = .ok (.ifCond .ge 11, 3) := dk_156 0 11 (dk_at dksJ31_mergeAt_1 7 rfl rfl)
theorem dJ31_mergeAt_32 : decode cJ31_mergeAt 32 = .ok (.new 41, 3) := dk_187 0 41 (dk_at dksJ31_mergeAt_1 10 rfl rfl)
theorem dJ31_mergeAt_35 : decode cJ31_mergeAt 35 = .ok (.dup, 1) := dk_89 (dk_at dksJ31_mergeAt_1 13 rfl rfl)
theorem dJ31_mergeAt_36 : decode cJ31_mergeAt 36 = .ok (.invokespecial 43, 3) := dk_183 0 43 (dk_at dksJ31_mergeAt_1 14 rfl rfl)
theorem dJ31_mergeAt_39 : decode cJ31_mergeAt 39 = .ok (.athrow, 1) := dk_191 (dk_at dksJ31_mergeAt_1 17 rfl rfl)
theorem dJ31_mergeAt_40 : decode cJ31_mergeAt 40 = .ok (.getstatic 37, 3) := dk_178 0 37 (dk_at dksJ31_mergeAt_1 18 rfl rfl)
theorem dJ31_mergeAt_43 : decode cJ31_mergeAt 43 = .ok (.ifCond .ne 31, 3) := dk_154 0 31 (dk_at dksJ31_mergeAt_1 21 rfl rfl)
theorem dJ31_mergeAt_46 : decode cJ31_mergeAt 46 = .ok (.iload_n 1, 1) := dk_27 (dk_at dksJ31_mergeAt_2 0 rfl rfl)
theorem dJ31_mergeAt_47 : decode cJ31_mergeAt 47 = .ok (.aload_n 0, 1) := dk_42 (dk_at dksJ31_mergeAt_2 1 rfl rfl)
theorem dJ31_mergeAt_48 : decode cJ31_mergeAt 48 = .ok (.getfield 13, 3) := dk_180 0 13 (dk_at dksJ31_mergeAt_2 2 rfl rfl)
theorem dJ31_mergeAt_51 : decode cJ31_mergeAt 51 = .ok (.iconst 2, 1) := dk_5 (dk_at dksJ31_mergeAt_2 5 rfl rfl)
theorem dJ31_mergeAt_52 : decode cJ31_mergeAt 52 = .ok (.isub, 1) := dk_100 (dk_at dksJ31_mergeAt_2 6 rfl rfl)
theorem dJ31_mergeAt_53 : decode cJ31_mergeAt 53 = .ok (.if_icmp .eq 21, 3) := dk_159 0 21 (dk_at dksJ31_mergeAt_2 7 rfl rfl)
theorem dJ31_mergeAt_56 : decode cJ31_mergeAt 56 = .ok (.iload_n 1, 1) := dk_27 (dk_at dksJ31_mergeAt_2 10 rfl rfl)
theorem dJ31_mergeAt_57 : decode cJ31_mergeAt 57 = .ok (.aload_n 0, 1) := dk_42 (dk_at dksJ31_mergeAt_2 11 rfl rfl)
theorem dJ31_mergeAt_58 : decode cJ31_mergeAt 58 = .ok (.getfield 13, 3) := dk_180 0 13 (dk_at dksJ31_mergeAt_2 12 rfl rfl)
theorem dJ31_mergeAt_61 : decode cJ31_mergeAt 61 = .ok (.iconst 3, 1) := dk_6 (dk_at dksJ31_mergeAt_2 15 rfl rfl)
theorem dJ31_mergeAt_62 : decode cJ31_mergeAt 62 = .ok (.isub, 1) := dk_100 (dk_at dksJ31_mergeAt_2 16 rfl rfl)
theorem dJ31_mergeAt_63 : decode cJ31_mergeAt 63 = .ok (.if_icmp .eq 11, 3) := dk_159 0 11 (dk_at dksJ31_mergeAt_2 17 rfl rfl)
theorem dJ31_mergeAt_66 : decode cJ31_mergeAt 66 = .ok (.new 41, 3) := dk_187 0 41 (dk_at dksJ31_mergeAt_2 20 rfl rfl)
theorem dJ31_mergeAt_69 : decode cJ31_mergeAt 69 = .ok (.dup, 1) := dk_89 (dk_at dksJ31_mergeAt_2 23 rfl rfl)
theorem dJ31_mergeAt_70 : decode cJ31_mergeAt 70 = .ok (.invokespecial 43, 3) := dk_183 0 43 (dk_at dksJ31_mergeAt_3 0 rfl rfl)
theorem dJ31_mergeAt_73 : decode cJ31_mergeAt 73 = .ok (.athrow, 1) := dk_191 (dk_at dksJ31_mergeAt_3 3 rfl rfl)
theorem dJ31_mergeAt_74 : decode cJ31_mergeAt 74 = .ok (.aload_n 0, 1) := dk_42 (dk_at dksJ31_mergeAt_3 4 rfl rfl)
theorem dJ31_mergeAt_75 : decode cJ31_mergeAt 75 = .ok (.getfield 30, 3) := dk_180 0 30 (dk_at dksJ31_mergeAt_3 5 rfl rfl)
theorem dJ31_mergeAt_78 : decode cJ31_mergeAt 78 = .ok (.iload_n 1, 1) := dk_27 (dk_at dksJ31_mergeAt_3 8 rfl rfl)
theorem dJ31_mergeAt_79 : decode cJ31_mergeAt 79 = .ok (.iaload, 1) := dk_46 (dk_at dksJ31_mergeAt_3 9 rfl rfl)
theorem dJ31_mergeAt_80 : decode cJ31_mergeAt 80 = .ok (.istore_n 2, 1) := dk_61 (dk_at dksJ31_mergeAt_3 10 rfl rfl)
theorem dJ31_mergeAt_81 : decode cJ31_mergeAt 81 = .ok (.aload_n 0, 1) := dk_42 (dk_at dksJ31_mergeAt_3 11 rfl rfl)
theorem dJ31_mergeAt_82 : decode cJ31_mergeAt 82 = .ok (.getfield 34, 3) := dk_180 0 34 (dk_at dksJ31_mergeAt_3 12 rfl rfl)
theorem dJ31_mergeAt_85 : decode cJ31_mergeAt 85 = .ok (.iload_n 1, 1) := dk_27 (dk_at dksJ31_mergeAt_3 15 rfl rfl)
theorem dJ31_mergeAt_86 : decode cJ31_mergeAt 86 = .ok (.iaload, 1) := dk_46 (dk_at dksJ31_mergeAt_3 16 rfl rfl)
theorem dJ31_mergeAt_87 : decode cJ31_mergeAt 87 = .ok (.istore_n 3, 1) := dk_62 (dk_at dksJ31_mergeAt_3 17 rfl rfl)
theorem dJ31_mergeAt_88 : decode cJ31_mergeAt 88 = .ok (.aload_n 0, 1) := dk_42 (dk_at dksJ31_mergeAt_3 18 rfl rfl)
theorem dJ31_mergeAt_89 : decode cJ31_mergeAt 89 = .ok (.getfield 30, 3) := dk_180 0 30 (dk_at dksJ31_mergeAt_3 19 rfl rfl)
theorem dJ31_mergeAt_92 : decode cJ31_mergeAt 92 = .ok (.iload_n 1, 1) := dk_27 (dk_at dksJ31_mergeAt_3 22 rfl rfl)
theorem dJ31_mergeAt_93 : decode cJ31_mergeAt 93 = .ok (.iconst 1, 1) := dk_4 (dk_at dksJ31_mergeAt_3 23 rfl rfl)
theorem dJ31_mergeAt_94 : decode cJ31_mergeAt 94 = .ok (.iadd, 1) := dk_96 (dk_at dksJ31_mergeAt_4 0 rfl rfl)
theorem dJ31_mergeAt_95 : decode cJ31_mergeAt 95 = .ok (.iaload, 1) := dk_46 (dk_at dksJ31_mergeAt_4 1 rfl rfl)
theorem dJ31_mergeAt_96 : decode cJ31_mergeAt 96 = .ok (.istore 4, 2) := dk_54 4 (dk_at dksJ31_mergeAt_4 2 rfl rfl)
theorem dJ31_mergeAt_98 : decode cJ31_mergeAt 98 = .ok (.aload_n 0, 1) := dk_42 (dk_at dksJ31_mergeAt_4 4 rfl rfl)
theorem dJ31_mergeAt_99 : decode cJ31_mergeAt 99 = .ok (.getfield 34, 3) := dk_180 0 34 (dk_at dksJ31_mergeAt_4 5 rfl rfl)
theorem dJ31_mergeAt_102 : decode cJ31_mergeAt 102 = .ok (.iload_n 1, 1) := dk_27 (dk_at dksJ31_mergeAt_4 8 rfl rfl)
theorem dJ31_mergeAt_103 : decode cJ31_mergeAt 103 = .ok (.iconst 1, 1) := dk_4 (dk_at dksJ31_mergeAt_4 9 rfl rfl)
theorem dJ31_mergeAt_104 : decode cJ31_mergeAt 104 = .ok (.iadd, 1) := dk_96 (dk_at dksJ31_mergeAt_4 10 rfl rfl)
theorem dJ31_mergeAt_105 : decode cJ31_mergeAt 105 = .ok (.iaload, 1) := dk_46 (dk_at dksJ31_mergeAt_4 11 rfl rfl)
theorem dJ31_mergeAt_106 : decode cJ31_mergeAt 106 = .ok (.istore 5, 2) := dk_54 5 (dk_at dksJ31_mergeAt_4 12 rfl rfl)
theorem dJ31_mergeAt_108 : decode cJ31_mergeAt 108 = .ok (.getstatic 37, 3) := dk_178 0 37 (dk_at dksJ31_mergeAt_4 14 rfl rfl)
theorem dJ31_mergeAt_111 : decode cJ31_mergeAt 111 = .ok (.ifCond .ne 20, 3) := dk_154 0 20 (dk_at dksJ31_mergeAt_4 17 rfl rfl)
theorem dJ31_mergeAt_114 : decode cJ31_mergeAt 114 = .ok (.iload_n 3, 1) := dk_29 (dk_at dksJ31_mergeAt_4 20 rfl rfl)
theorem dJ31_mergeAt_115 : decode cJ31_mergeAt 115 = .ok (.ifCond .le 8, 3) := dk_158 0 8 (dk_at dksJ31_mergeAt_4 21 rfl rfl)
theorem dJ31_mergeAt_118 : decode cJ31_mergeAt 118 = .ok (.iload 5, 2) := dk_21 5 (dk_at dksJ31_mergeAt_5 0 rfl rfl)
theorem dJ31_mergeAt_120 : decode cJ31_mergeAt 120 = .ok (.ifCond .gt 11, 3) := dk_157 0 11 (dk_at dksJ31_mergeAt_5 2 rfl rfl)
theorem dJ31_mergeAt_123 : decode cJ31_mergeAt 123 = .ok (.new 41, 3) := dk_187 0 41 (dk_at dksJ31_mergeAt_5 5 rfl rfl)
theorem dJ31_mergeAt_126 : decode cJ31_mergeAt 126 = .ok (.dup, 1) := dk_89 (dk_at dksJ31_mergeAt_5 8 rfl rfl)
theorem dJ31_mergeAt_127 : decode cJ31_mergeAt 127 = .ok (.invokespecial 43, 3) := dk_183 0 43 (dk_at dksJ31_mergeAt_5 9 rfl rfl)
theorem dJ31_mergeAt_130 : decode cJ31_mergeAt 130 = .ok (.athrow, 1) := dk_191 (dk_at dksJ31_mergeAt_5 12 rfl rfl)
theorem dJ31_mergeAt_131 : decode cJ31_mergeAt 131 = .ok (.getstatic 37, 3) := dk_178 0 37 (dk_at dksJ31_mergeAt_5 13 rfl rfl)
theorem dJ31_mergeAt_134 : decode cJ31_mergeAt 134 = .ok (.ifCond .ne 19, 3) := dk_154 0 19 (dk_at dksJ31_mergeAt_5 16 rfl rfl)
theorem dJ31_mergeAt_137 : decode cJ31_mergeAt 137 = .ok (.iload_n 2, 1) := dk_28 (dk_at dksJ31_mergeAt_5 19 rfl rfl)
theorem dJ31_mergeAt_138 : decode cJ31_mergeAt 138 = .ok (.iload_n 3, 1) := dk_29 (dk_at dksJ31_mergeAt_5 20 rfl rfl)
theorem dJ31_mergeAt_139 : decode cJ31_mergeAt 139 = .ok (.iadd, 1) := dk_96 (dk_at dksJ31_mergeAt_5 21 rfl rfl)
theorem dJ31_mergeAt_140 : decode cJ31_mergeAt 140 = .ok (.iload 4, 2) := dk_21 4 (dk_at dksJ31_mergeAt_5 22 rfl rfl)
theorem dJ31_mergeAt_142 : decode cJ31_mergeAt 142 = .ok (.if_icmp .eq 11, 3) := dk_159 0 11 (dk_at dksJ31_mergeAt_6 0 rfl rfl)
theorem dJ31_mergeAt_145 : decode cJ31_mergeAt 145 = .ok (.new 41, 3) := dk_187 0 41 (dk_at dksJ31_mergeAt_6 3 rfl rfl)
theorem dJ31_mergeAt_148 : decode cJ31_mergeAt 148 = .ok (.dup, 1) := dk_89 (dk_at dksJ31_mergeAt_6 6 rfl rfl)
theorem dJ31_mergeAt_149 : decode cJ31_mergeAt 149 = .ok (.invokespecial 43, 3) := dk_183 0 43 (dk_at dksJ31_mergeAt_6 7 rfl rfl)
theorem dJ31_mergeAt_152 : decode cJ31_mergeAt 152 = .ok (.athrow, 1) := dk_191 (dk_at dksJ31_mergeAt_6 10 rfl rfl)
theorem dJ31_mergeAt_153 : decode cJ31_mergeAt 153 = .ok (.aload_n 0, 1) := dk_42 (dk_at dksJ31_mergeAt_6 11 rfl rfl)
theorem dJ31_mergeAt_154 : decode cJ31_mergeAt 154 = .ok (.getfield 34, 3) := dk_180 0 34 (dk_at dksJ31_mergeAt_6 12 rfl rfl)
theorem dJ31_mergeAt_157 : decode cJ31_mergeAt 157 = .ok (.iload_n 1, 1) := dk_27 (dk_at dksJ31_mergeAt_6 15 rfl rfl)
theorem dJ31_mergeAt_158 : decode cJ31_mergeAt 158 = .ok (.iload_n 3, 1) := dk_29 (dk_at dksJ31_mergeAt_6 16 rfl rfl)
theorem dJ31_mergeAt_159 : decode cJ31_mergeAt 159 = .ok (.iload 5, 2) := dk_21 5 (dk_at dksJ31_mergeAt_6 17 rfl rfl)
theorem dJ31_mergeAt_161 : decode cJ31_mergeAt 161 = .ok (.iadd, 1) := dk_96 (dk_at dksJ31_mergeAt_6 19 rfl rfl)
theorem dJ31_mergeAt_162 : decode cJ31_mergeAt 162 = .ok (.iastore, 1) := dk_79 (dk_at dksJ31_mergeAt_6 20 rfl rfl)
theorem dJ31_mergeAt_163 : decode cJ31_mergeAt 163 = .ok (.iload_n 1, 1) := dk_27 (dk_at dksJ31_mergeAt_6 21 rfl rfl)
theorem dJ31_mergeAt_164 : decode cJ31_mergeAt 164 = .ok (.aload_n 0, 1) := dk_42 (dk_at dksJ31_mergeAt_6 22 rfl rfl)
theorem dJ31_mergeAt_165 : decode cJ31_mergeAt 165 = .ok (.getfield 13, 3) := dk_180 0 13 (dk_at dksJ31_mergeAt_7 0 rfl rfl)
theorem dJ31_mergeAt_168 : decode cJ31_mergeAt 168 = .ok (.iconst 3, 1) := dk_6 (dk_at dksJ31_mergeAt_7 3 rfl rfl)
theorem dJ31_mergeAt_169 : decode cJ31_mergeAt 169 = .ok (.isub, 1) := dk_100 (dk_at dksJ31_mergeAt_7 4 rfl rfl)
theorem dJ31_mergeAt_170 : decode cJ31_mergeAt 170 = .ok (.if_icmp .ne 35, 3) := dk_160 0 35 (dk_at dksJ31_mergeAt_7 5 rfl rfl)
theorem dJ31_mergeAt_173 : decode cJ31_mergeAt 173 = .ok (.aload_n 0, 1) := dk_42 (dk_at dksJ31_mergeAt_7 8 rfl rfl)
theorem dJ31_mergeAt_174 : decode cJ31_mergeAt 174 = .ok (.getfield 30, 3) := dk_180 0 30 (dk_at dksJ31_mergeAt_7 9 rfl rfl)
theorem dJ31_mergeAt_177 : decode cJ31_mergeAt 177 = .ok (.iload_n 1, 1) := dk_27 (dk_at dksJ31_mergeAt_7 12 rfl rfl)
theorem dJ31_mergeAt_178 : decode cJ31_mergeAt 178 = .ok (.iconst 1, 1) := dk_4 (dk_at dksJ31_mergeAt_7 13 rfl rfl)
theorem dJ31_mergeAt_179 : decode cJ31_mergeAt 179 = .ok (.iadd, 1) := dk_96 (dk_at dksJ31_mergeAt_7 14 rfl rfl)
theorem dJ31_mergeAt_180 : decode cJ31_mergeAt 180 = .ok (.aload_n 0, 1) := dk_42 (dk_at dksJ31_mergeAt_7 15 rfl rfl)
theorem dJ31_mergeAt_181 : decode cJ31_mergeAt 181 = .ok (.getfield 30, 3) := dk_180 0 30 (dk_at dksJ31_mergeAt_7 16 rfl rfl)
theorem dJ31_mergeAt_184 : decode cJ31_mergeAt 184 = .ok (.iload_n 1, 1) := dk_27 (dk_at dksJ31_mergeAt_7 19 rfl rfl)
theorem dJ31_mergeAt_185 : decode cJ31_mergeAt 185 = .ok (.iconst 2, 1) := dk_5 (dk_at dksJ31_mergeAt_7 20 rfl rfl)
theorem dJ31_mergeAt_186 : decode cJ31_mergeAt 186 = .ok (.iadd, 1) := dk_96 (dk_at dksJ31_mergeAt_7 21 rfl rfl)
theorem dJ31_mergeAt_187 : decode cJ31_mergeAt 187 = .ok (.iaload, 1) := dk_46 (dk_at dksJ31_mergeAt_7 22 rfl rfl)
theorem dJ31_mergeAt_188 : decode cJ31_mergeAt 188 = .ok (.iastore, 1) := dk_79 (dk_at dksJ31_mergeAt_7 23 rfl rfl)
theorem dJ31_mergeAt_189 : decode cJ31_mergeAt 189 = .ok (.aload_n 0, 1) := dk_42 (dk_at dksJ31_mergeAt_8 0 rfl rfl)
theorem dJ31_mergeAt_190 : decode cJ31_mergeAt 190 = .ok (.getfield 34, 3) := dk_180 0 34 (dk_at dksJ31_mergeAt_8 1 rfl rfl)
theorem dJ31_mergeAt_193 : decode cJ31_mergeAt 193 = .ok (.iload_n 1, 1) := dk_27 (dk_at dksJ31_mergeAt_8 4 rfl rfl)
theorem dJ31_mergeAt_194 : decode cJ31_mergeAt 194 = .ok (.iconst 1, 1) := dk_4 (dk_at dksJ31_mergeAt_8 5 rfl rfl)
theorem dJ31_mergeAt_195 : decode cJ31_mergeAt 195 = .ok (.iadd, 1) := dk_96 (dk_at dksJ31_mergeAt_8 6 rfl rfl)
theorem dJ31_mergeAt_196 : decode cJ31_mergeAt 196 = .ok (.aload_n 0, 1) := dk_42 (dk_at dksJ31_mergeAt_8 7 rfl rfl)
theorem dJ31_mergeAt_197 : decode cJ31_mergeAt 197 = .ok (.getfield 34, 3) := dk_180 0 34 (dk_at dksJ31_mergeAt_8 8 rfl rfl)
theorem dJ31_mergeAt_200 : decode cJ31_mergeAt 200 = .ok (.iload_n 1, 1) := dk_27 (dk_at dksJ31_mergeAt_8 11 rfl rfl)
theorem dJ31_mergeAt_201 : decode cJ31_mergeAt 201 = .ok (.iconst 2, 1) := dk_5 (dk_at dksJ31_mergeAt_8 12 rfl rfl)
theorem dJ31_mergeAt_202 : decode cJ31_mergeAt 202 = .ok (.iadd, 1) := dk_96 (dk_at dksJ31_mergeAt_8 13 rfl rfl)
theorem dJ31_mergeAt_203 : decode cJ31_mergeAt 203 = .ok (.iaload, 1) := dk_46 (dk_at dksJ31_mergeAt_8 14 rfl rfl)
theorem dJ31_mergeAt_204 : decode cJ31_mergeAt 204 = .ok (.iastore, 1) := dk_79 (dk_at dksJ31_mergeAt_8 15 rfl rfl)
theorem dJ31_mergeAt_205 : decode cJ31_mergeAt 205 = .ok (.aload_n 0, 1) := dk_42 (dk_at dksJ31_mergeAt_8 16 rfl rfl)
theorem dJ31_mergeAt_206 : decode cJ31_mergeAt 206 = .ok (.dup, 1) := dk_89 (dk_at dksJ31_mergeAt_8 17 rfl rfl)
theorem dJ31_mergeAt_207 : decode cJ31_mergeAt 207 = .ok (.getfield 13, 3) := dk_180 0 13 (dk_at dksJ31_mergeAt_8 18 rfl rfl)
theorem dJ31_mergeAt_210 : decode cJ31_mergeAt 210 = .ok (.iconst 1, 1) := dk_4 (dk_at dksJ31_mergeAt_8 21 rfl rfl)
theorem dJ31_mergeAt_211 : decode cJ31_mergeAt 211 = .ok (.isub, 1) := dk_100 (dk_at dksJ31_mergeAt_8 22 rfl rfl)
theorem dJ31_mergeAt_212 : decode cJ31_mergeAt 212 = .ok (.putfield 13, 3) := dk_181 0 13 (dk_at dksJ31_mergeAt_9 0 rfl rfl)
theorem dJ31_mergeAt_215 : decode cJ31_mergeAt 215 = .ok (.aload_n 0, 1) := dk_42 (dk_at dksJ31_mergeAt_9 3 rfl rfl)
theorem dJ31_mergeAt_216 : decode cJ31_mergeAt 216 = .ok (.getfield 16, 3) := dk_180 0 16 (dk_at dksJ31_mergeAt_9 4 rfl rfl)
theorem dJ31_mergeAt_219 : decode cJ31_mergeAt 219 = .ok (.iload 4, 2) := dk_21 4 (dk_at dksJ31_mergeAt_9 7 rfl rfl)
theorem dJ31_mergeAt_221 : decode cJ31_mergeAt 221 = .ok (.aaload, 1) := dk_50 (dk_at dksJ31_mergeAt_9 9 rfl rfl)
theorem dJ31_mergeAt_222 : decode cJ31_mergeAt 222 = .ok (.checkcast 69, 3) := dk_192 0 69 (dk_at dksJ31_mergeAt_9 10 rfl rfl)
theorem dJ31_mergeAt_225 : decode cJ31_mergeAt 225 = .ok (.aload_n 0, 1) := dk_42 (dk_at dksJ31_mergeAt_9 13 rfl rfl)
theorem dJ31_mergeAt_226 : decode cJ31_mergeAt 226 = .ok (.getfield 16, 3) := dk_180 0 16 (dk_at dksJ31_mergeAt_9 14 rfl rfl)
theorem dJ31_mergeAt_229 : decode cJ31_mergeAt 229 = .ok (.iload_n 2, 1) := dk_28 (dk_at dksJ31_mergeAt_9 17 rfl rfl)
theorem dJ31_mergeAt_230 : decode cJ31_mergeAt 230 = .ok (.iload_n 3, 1) := dk_29 (dk_at dksJ31_mergeAt_9 18 rfl rfl)
theorem dJ31_mergeAt_231 : decode cJ31_mergeAt 231 = .ok (.iconst 0, 1) := dk_3 (dk_at dksJ31_mergeAt_9 19 rfl rfl)
theorem dJ31_mergeAt_232 : decode cJ31_mergeAt 232 = .ok (.invokestatic 89, 3) := dk_184 0 89 (dk_at dksJ31_mergeAt_9 20 rfl rfl)
theorem dJ31_mergeAt_235 : decode cJ31_mergeAt 235 = .ok (.istore 6, 2) := dk_54 6 (dk_at dksJ31_mergeAt_10 0 rfl rfl)
theorem dJ31_mergeAt_237 : decode cJ31_mergeAt 237 = .ok (.getstatic 37, 3) := dk_178 0 37 (dk_at dksJ31_mergeAt_10 2 rfl rfl)
theorem dJ31_mergeAt_240 : decode cJ31_mergeAt 240 = .ok (.ifCond .ne 16, 3) := dk_154 0 16 (dk_at dksJ31_mergeAt_10 5 rfl rfl)
theorem dJ31_mergeAt_243 : decode cJ31_mergeAt 243 = .ok (.iload 6, 2) := dk_21 6 (dk_at dksJ31_mergeAt_10 8 rfl rfl)
theorem dJ31_mergeAt_245 : decode cJ31_mergeAt 245 = .ok (.ifCond .ge 11, 3) := dk_156 0 11 (dk_at dksJ31_mergeAt_10 10 rfl rfl)
theorem dJ31_mergeAt_248 : decode cJ31_mergeAt 248 = .ok (.new 41, 3) := dk_187 0 41 (dk_at dksJ31_mergeAt_10 13 rfl rfl)
theorem dJ31_mergeAt_251 : decode cJ31_mergeAt 251 = .ok (.dup, 1) := dk_89 (dk_at dksJ31_mergeAt_10 16 rfl rfl)
theorem dJ31_mergeAt_252 : decode cJ31_mergeAt 252 = .ok (.invokespecial 43, 3) := dk_183 0 43 (dk_at dksJ31_mergeAt_10 17 rfl rfl)
theorem dJ31_mergeAt_255 : decode cJ31_mergeAt 255 = .ok (.athrow, 1) := dk_191 (dk_at dksJ31_mergeAt_10 20 rfl rfl)
theorem dJ31_mergeAt_256 : decode cJ31_mergeAt 256 = .ok (.iload_n 2, 1) := dk_28 (dk_at dksJ31_mergeAt_10 21 rfl rfl)
theorem dJ31_mergeAt_257 : decode cJ31_mergeAt 257 = .ok (.iload 6, 2) := dk_21 6 (dk_at dksJ31_mergeAt_10 22 rfl rfl)
theorem dJ31_mergeAt_259 : decode cJ31_mergeAt 259 = .ok (.iadd, 1) := dk_96 (dk_at dksJ31_mergeAt_11 0 rfl rfl)
theorem dJ31_mergeAt_260 : decode cJ31_mergeAt 260 = .ok (.istore_n 2, 1) := dk_61 (dk_at dksJ31_mergeAt_11 1 rfl rfl)
theorem dJ31_mergeAt_261 : decode cJ31_mergeAt 261 = .ok (.iload_n 3, 1) := dk_29 (dk_at dksJ31_mergeAt_11 2 rfl rfl)
theorem dJ31_mergeAt_262 : decode cJ31_mergeAt 262 = .ok (.iload 6, 2) := dk_21 6 (dk_at dksJ31_mergeAt_11 3 rfl rfl)
theorem dJ31_mergeAt_264 : decode cJ31_mergeAt 264 = .ok (.isub, 1) := dk_100 (dk_at dksJ31_mergeAt_11 5 rfl rfl)
theorem dJ31_mergeAt_265 : decode cJ31_mergeAt 265 = .ok (.istore_n 3, 1) := dk_62 (dk_at dksJ31_mergeAt_11 6 rfl rfl)
theorem dJ31_mergeAt_266 : decode cJ31_mergeAt 266 = .ok (.iload_n 3, 1) := dk_29 (dk_at dksJ31_mergeAt_11 7 rfl rfl)
theorem dJ31_mergeAt_267 : decode cJ31_mergeAt 267 = .ok (.ifCond .ne 4, 3) := dk_154 0 4 (dk_at dksJ31_mergeAt_11 8 rfl rfl)
theorem dJ31_mergeAt_270 : decode cJ31_mergeAt 270 = .ok (.return_, 1) := dk_177 (dk_at dksJ31_mergeAt_11 11 rfl rfl)
theorem dJ31_mergeAt_271 : decode cJ31_mergeAt 271 = .ok (.aload_n 0, 1) := dk_42 (dk_at dksJ31_mergeAt_11 12 rfl rfl)
theorem dJ31_mergeAt_272 : decode cJ31_mergeAt 272 = .ok (.getfield 16, 3) := dk_180 0 16 (dk_at dksJ31_mergeAt_11 13 rfl rfl)
theorem dJ31_mergeAt_275 : decode cJ31_mergeAt 275 = .ok (.iload_n 2, 1) := dk_28 (dk_at dksJ31_mergeAt_11 16 rfl rfl)
theorem dJ31_mergeAt_276 : decode cJ31_mergeAt 276 = .ok (.iload_n 3, 1) := dk_29 (dk_at dksJ31_mergeAt_11 17 rfl rfl)
theorem dJ31_mergeAt_277 : decode cJ31_mergeAt 277 = .ok (.iadd, 1) := dk_96 (dk_at dksJ31_mergeAt_11 18 rfl rfl)
theorem dJ31_mergeAt_278 : decode cJ31_mergeAt 278 = .ok (.iconst 1, 1) := dk_4 (dk_at dksJ31_mergeAt_11 19 rfl rfl)
theorem dJ31_mergeAt_279 : decode cJ31_mergeAt 279 = .ok (.isub, 1) := dk_100 (dk_at dksJ31_mergeAt_11 20 rfl rfl)
theorem dJ31_mergeAt_280 : decode cJ31_mergeAt 280 = .ok (.aaload, 1) := dk_50 (dk_at dksJ31_mergeAt_11 21 rfl rfl)
theorem dJ31_mergeAt_281 : decode cJ31_mergeAt 281 = .ok (.checkcast 69, 3) := dk_192 0 69 (dk_at dksJ31_mergeAt_12 0 rfl rfl)
theorem dJ31_mergeAt_284 : decode cJ31_mergeAt 284 = .ok (.aload_n 0, 1) := dk_42 (dk_at dksJ31_mergeAt_12 3 rfl rfl)
theorem dJ31_mergeAt_285 : decode cJ31_mergeAt 285 = .ok (.getfield 16, 3) := dk_180 0 16 (dk_at dksJ31_mergeAt_12 4 rfl rfl)
theorem dJ31_mergeAt_288 : decode cJ31_mergeAt 288 = .ok (.iload 4, 2) := dk_21 4 (dk_at dksJ31_mergeAt_12 7 rfl rfl)
theorem dJ31_mergeAt_290 : decode cJ31_mergeAt 290 = .ok (.iload 5, 2) := dk_21 5 (dk_at dksJ31_mergeAt_12 9 rfl rfl)
theorem dJ31_mergeAt_292 : decode cJ31_mergeAt 292 = .ok (.iload 5, 2) := dk_21 5 (dk_at dksJ31_mergeAt_12 11 rfl rfl)
theorem dJ31_mergeAt_294 : decode cJ31_mergeAt 294 = .ok (.iconst 1, 1) := dk_4 (dk_at dksJ31_mergeAt_12 13 rfl rfl)
theorem dJ31_mergeAt_295 : decode cJ31_mergeAt 295 = .ok (.isub, 1) := dk_100 (dk_at dksJ31_mergeAt_12 14 rfl rfl)
theorem dJ31_mergeAt_296 : decode cJ31_mergeAt 296 = .ok (.invokestatic 93, 3) := dk_184 0 93 (dk_at dksJ31_mergeAt_12 15 rfl rfl)
theorem dJ31_mergeAt_299 : decode cJ31_mergeAt 299 = .ok (.istore 5, 2) := dk_54 5 (dk_at dksJ31_mergeAt_12 18 rfl rfl)
theorem dJ31_mergeAt_301 : decode cJ31_mergeAt 301 = .ok (.getstatic 37, 3) := dk_178 0 37 (dk_at dksJ31_mergeAt_12 20 rfl rfl)
theorem dJ31_mergeAt_304 : decode cJ31_mergeAt 304 = .ok (.ifCond .ne 16, 3) := dk_154 0 16 (dk_at dksJ31_mergeAt_13 0 rfl rfl)
theorem dJ31_mergeAt_307 : decode cJ31_mergeAt 307 = .ok (.iload 5, 2) := dk_21 5 (dk_at dksJ31_mergeAt_13 3 rfl rfl)
theorem dJ31_mergeAt_309 : decode cJ31_mergeAt 309 = .ok (.ifCond .ge 11, 3) := dk_156 0 11 (dk_at dksJ31_mergeAt_13 5 rfl rfl)
theorem dJ31_mergeAt_312 : decode cJ31_mergeAt 312 = .ok (.new 41, 3) := dk_187 0 41 (dk_at dksJ31_mergeAt_13 8 rfl rfl)
theorem dJ31_mergeAt_315 : decode cJ31_mergeAt 315 = .ok (.dup, 1) := dk_89 (dk_at dksJ31_mergeAt_13 11 rfl rfl)
theorem dJ31_mergeAt_316 : decode cJ31_mergeAt 316 = .ok (.invokespecial 43, 3) := dk_183 0 43 (dk_at dksJ31_mergeAt_13 12 rfl rfl)
theorem dJ31_mergeAt_319 : decode cJ31_mergeAt 319 = .ok (.athrow, 1) := dk_191 (dk_at dksJ31_mergeAt_13 15 rfl rfl)
theorem dJ31_mergeAt_320 : decode cJ31_mergeAt 320 = .ok (.iload 5, 2) := dk_21 5 (dk_at dksJ31_mergeAt_13 16 rfl rfl)
theorem dJ31_mergeAt_322 : decode cJ31_mergeAt 322 = .ok (.ifCond .ne 4, 3) := dk_154 0 4 (dk_at dksJ31_mergeAt_13 18 rfl rfl)
theorem dJ31_mergeAt_325 : decode cJ31_mergeAt 325 = .ok (.return_, 1) := dk_177 (dk_at dksJ31_mergeAt_13 21 rfl rfl)
theorem dJ31_mergeAt_326 : decode cJ31_mergeAt 326 = .ok (.iload_n 3, 1) := dk_29 (dk_at dksJ31_mergeAt_13 22 rfl rfl)
theorem dJ31_mergeAt_327 : decode cJ31_mergeAt 327 = .ok (.iload 5, 2) := dk_21 5 (dk_at dksJ31_mergeAt_14 0 rfl rfl)
theorem dJ31_mergeAt_329 : decode cJ31_mergeAt 329 = .ok (.if_icmp .gt 16, 3) := dk_163 0 16 (dk_at dksJ31_mergeAt_14 2 rfl rfl)
theorem dJ31_mergeAt_332 : decode cJ31_mergeAt 332 = .ok (.aload_n 0, 1) := dk_42 (dk_at dksJ31_mergeAt_14 5 rfl rfl)
theorem dJ31_mergeAt_333 : decode cJ31_mergeAt 333 = .ok (.iload_n 2, 1) := dk_28 (dk_at dksJ31_mergeAt_14 6 rfl rfl)
theorem dJ31_mergeAt_334 : decode cJ31_mergeAt 334 = .ok (.iload_n 3, 1) := dk_29 (dk_at dksJ31_mergeAt_14 7 rfl rfl)
theorem dJ31_mergeAt_335 : decode cJ31_mergeAt 335 = .ok (.iload 4, 2) := dk_21 4 (dk_at dksJ31_mergeAt_14 8 rfl rfl)
theorem dJ31_mergeAt_337 : decode cJ31_mergeAt 337 = .ok (.iload 5, 2) := dk_21 5 (dk_at dksJ31_mergeAt_14 10 rfl rfl)
theorem dJ31_mergeAt_339 : decode cJ31_mergeAt 339 = .ok (.invokevirtual 96, 3) := dk_182 0 96 (dk_at dksJ31_mergeAt_14 12 rfl rfl)
theorem dJ31_mergeAt_342 : decode cJ31_mergeAt 342 = .ok (.goto 13, 3) := dk_167 0 13 (dk_at dksJ31_mergeAt_14 15 rfl rfl)
theorem dJ31_mergeAt_345 : decode cJ31_mergeAt 345 = .ok (.aload_n 0, 1) := dk_42 (dk_at dksJ31_mergeAt_14 18 rfl rfl)
theorem dJ31_mergeAt_346 : decode cJ31_mergeAt 346 = .ok (.iload_n 2, 1) := dk_28 (dk_at dksJ31_mergeAt_14 19 rfl rfl)
theorem dJ31_mergeAt_347 : decode cJ31_mergeAt 347 = .ok (.iload_n 3, 1) := dk_29 (dk_at dksJ31_mergeAt_14 20 rfl rfl)
theorem dJ31_mergeAt_348 : decode cJ31_mergeAt 348 = .ok (.iload 4, 2) := dk_21 4 (dk_at dksJ31_mergeAt_14 21 rfl rfl)
theorem dJ31_mergeAt_350 : decode cJ31_mergeAt 350 = .ok (.iload 5, 2) := dk_21 5 (dk_at dksJ31_mergeAt_15 0 rfl rfl)
theorem dJ31_mergeAt_352 : decode cJ31_mergeAt 352 = .ok (.invokevirtual 100, 3) := dk_182 0 100 (dk_at dksJ31_mergeAt_15 2 rfl rfl)
theorem dJ31_mergeAt_355 : decode cJ31_mergeAt 355 = .ok (.return_, 1) := dk_177 (dk_at dksJ31_mergeAt_15 5 rfl rfl)
theorem c72005 : jtCode 72005 = cJ31_mergeAt := rfl
theorem F72005_0 (d : Nat) (a0 : Nat) (i1 : Int32) (h : AH) : G2 d 72005 0 [.ref a0, .int i1, jno, jno, jno, jno, jno] [] h = if (1 : Int32) = 0 then (zpI (jf (jc h (.ref a0)) [72] 5) (fun x1 => if 2 ≤ x1 then (if (1 : Int32) = 0 then (if 0 ≤ i1 then (G2 d 72005 40 [.ref a0, .int i1, jno, jno, jno, jno, jno] [] h) else (G2 d 72005 32 [.ref a0, .int i1, jno, jno, jno, jno, jno] [] h)) else (G2 d 72005 40 [.ref a0, .int i1, jno, jno, jno, jno, jno] [] h)) else (G2 d 72005 14 [.ref a0, .int i1, jno, jno, jno, jno, jno] [] h)) ()) else (if (1 : Int32) = 0 then (if 0 ≤ i1 then (G2 d 72005 40 [.ref a0, .int i1, jno, jno, jno, jno, jno] [] h) else (G2 d 72005 32 [.ref a0, .int i1, jno, jno, jno, jno, jno] [] h)) else (G2 d 72005 40 [.ref a0, .int i1, jno, jno, jno, jno, jno] [] h)) := by
  refine (g_getsIH (x := 1) c72005 dJ31_mergeAt_0 rfl rfl).trans ?_
  refine (g_if_neH (tgt := 22) c72005 dJ31_mergeAt_3 rfl).trans (if_cg ?_ ?_)
  · skip
    refine (g_aload_nH c72005 dJ31_mergeAt_6 rfl).trans ?_
    refine (g_getIH c72005 dJ31_mergeAt_7 rfl rfl).trans (rI_cg fun x1 => ?_)
    refine (g_iconstH (x := 2) c72005 dJ31_mergeAt_10 rfl).trans ?_
    refine (g_icmp_geH (tgt := 22) c72005 dJ31_mergeAt_11 rfl).trans (if_cg ?_ ?_)
    · skip
      refine (g_getsIH (x := 1) c72005 dJ31_mergeAt_22 rfl rfl).trans ?_
      refine (g_if_neH (tgt := 40) c72005 dJ31_mergeAt_25 rfl).trans (if_cg ?_ ?_)
      · skip
        refine (g_iload_nH c72005 dJ31_mergeAt_28 rfl).trans ?_
        refine (g_if_geH (tgt := 40) c72005 dJ31_mergeAt_29 rfl).trans (if_cg ?_ ?_)
        · skip
          rfl
        · skip
          rfl
      · skip
        rfl
    · skip
      rfl
  · skip
    refine (g_getsIH (x := 1) c72005 dJ31_mergeAt_22 rfl rfl).trans ?_
    refine (g_if_neH (tgt := 40) c72005 dJ31_mergeAt_25 rfl).trans (if_cg ?_ ?_)
    · skip
      refine (g_iload_nH c72005 dJ31_mergeAt_28 rfl).trans ?_
      refine (g_if_geH (tgt := 40) c72005 dJ31_mergeAt_29 rfl).trans (if_cg ?_ ?_)
      · skip
        rfl
      · skip
        rfl
    · skip
      rfl
theorem F72005_40 (d : Nat) (a0 : Nat) (i1 : Int32) (h : AH) : G2 d 72005 40 [.ref a0, .int i1, jno, jno, jno, jno, jno] [] h = if (1 : Int32) = 0 then (zpI (jf (jc h (.ref a0)) [72] 5) (fun x1 => if i1 = (x1 - 2) then (G2 d 72005 74 [.ref a0, .int i1, jno, jno, jno, jno, jno] [] h) else (zpI (jf (jc h (.ref a0)) [72] 5) (fun x2 => if i1 = (x2 - 3) then (G2 d 72005 74 [.ref a0, .int i1, jno, jno, jno, jno, jno] [] h) else (G2 d 72005 66 [.ref a0, .int i1, jno, jno, jno, jno, jno] [] h)) ())) ()) else (G2 d 72005 74 [.ref a0, .int i1, jno, jno, jno, jno, jno] [] h) := by
  refine (g_getsIH (x := 1) c72005 dJ31_mergeAt_40 rfl rfl).trans ?_
  refine (g_if_neH (tgt := 74) c72005 dJ31_mergeAt_43 rfl).trans (if_cg ?_ ?_)
  · skip
    refine (g_iload_nH c72005 dJ31_mergeAt_46 rfl).trans ?_
    refine (g_aload_nH c72005 dJ31_mergeAt_47 rfl).trans ?_
    refine (g_getIH c72005 dJ31_mergeAt_48 rfl rfl).trans (rI_cg fun x1 => ?_)
    refine (g_iconstH (x := 2) c72005 dJ31_mergeAt_51 rfl).trans ?_
    refine (g_isubH c72005 dJ31_mergeAt_52).trans ?_
    refine (g_icmp_eqH (tgt := 74) c72005 dJ31_mergeAt_53 rfl).trans (if_cg ?_ ?_)
    · skip
      rfl
    · skip
      refine (g_iload_nH c72005 dJ31_mergeAt_56 rfl).trans ?_
      refine (g_aload_nH c72005 dJ31_mergeAt_57 rfl).trans ?_
      refine (g_getIH c72005 dJ31_mergeAt_58 rfl rfl).trans (rI_cg fun x2 => ?_)
      refine (g_iconstH (x := 3) c72005 dJ31_mergeAt_61 rfl).trans ?_
      refine (g_isubH c72005 dJ31_mergeAt_62).trans ?_
      refine (g_icmp_eqH (tgt := 74) c72005 dJ31_mergeAt_63 rfl).trans (if_cg ?_ ?_)
      · skip
        rfl
      · skip
        rfl
  · skip
    rfl
theorem F72005_74 (d : Nat) (a0 : Nat) (i1 : Int32) (h : AH) : G2 d 72005 74 [.ref a0, .int i1, jno, jno, jno, jno, jno] [] h = zpR (jf (jc h (.ref a0)) [72] 6) (fun r1 => zqG h r1 [1000, 1001] i1 (fun w2 => zpI w2 (fun x3 => zpR (jf (jc h (.ref a0)) [72] 7) (fun r4 => zqG h r4 [1000, 1001] i1 (fun w5 => zpI w5 (fun x6 => zpR (jf (jc h (.ref a0)) [72] 6) (fun r7 => zqG h r7 [1000, 1001] (i1 + 1) (fun w8 => zpI w8 (fun x9 => zpR (jf (jc h (.ref a0)) [72] 7) (fun r10 => zqG h r10 [1000, 1001] (i1 + 1) (fun w11 => zpI w11 (fun x12 => if (1 : Int32) = 0 then (if x6 ≤ 0 then (G2 d 72005 123 [.ref a0, .int i1, .int x3, .int x6, .int x9, .int x12, jno] [] h) else (if 0 < x12 then (if (1 : Int32) = 0 then (if (x3 + x6) = x9 then (G2 d 72005 153 [.ref a0, .int i1, .int x3, .int x6, .int x9, .int x12, jno] [] h) else (G2 d 72005 145 [.ref a0, .int i1, .int x3, .int x6, .int x9, .int x12, jno] [] h)) else (G2 d 72005 153 [.ref a0, .int i1, .int x3, .int x6, .int x9, .int x12, jno] [] h)) else (G2 d 72005 123 [.ref a0, .int i1, .int x3, .int x6, .int x9, .int x12, jno] [] h))) else (if (1 : Int32) = 0 then (if (x3 + x6) = x9 then (G2 d 72005 153 [.ref a0, .int i1, .int x3, .int x6, .int x9, .int x12, jno] [] h) else (G2 d 72005 145 [.ref a0, .int i1, .int x3, .int x6, .int x9, .int x12, jno] [] h)) else (G2 d 72005 153 [.ref a0, .int i1, .int x3, .int x6, .int x9, .int x12, jno] [] h))) ()) ()) ()) ()) ()) ()) ()) ()) ()) ()) ()) () := by
  refine (g_aload_nH c72005 dJ31_mergeAt_74 rfl).trans ?_
  refine (g_getRH c72005 dJ31_mergeAt_75 rfl).trans (rR_cg fun r1 => ?_)
  refine (g_iload_nH c72005 dJ31_mergeAt_78 rfl).trans ?_
  refine (g_ialoadH c72005 dJ31_mergeAt_79).trans (aG_cg fun w2 => rI_cg fun x3 => ?_)
  refine (g_istore_nH (L' := [.ref a0, .int i1, .int x3, jno, jno, jno, jno]) c72005 dJ31_mergeAt_80 rfl rfl).trans ?_
  refine (g_aload_nH c72005 dJ31_mergeAt_81 rfl).trans ?_
  refine (g_getRH c72005 dJ31_mergeAt_82 rfl).trans (rR_cg fun r4 => ?_)
  refine (g_iload_nH c72005 dJ31_mergeAt_85 rfl).trans ?_
  refine (g_ialoadH c72005 dJ31_mergeAt_86).trans (aG_cg fun w5 => rI_cg fun x6 => ?_)
  refine (g_istore_nH (L' := [.ref a0, .int i1, .int x3, .int x6, jno, jno, jno]) c72005 dJ31_mergeAt_87 rfl rfl).trans ?_
  refine (g_aload_nH c72005 dJ31_mergeAt_88 rfl).trans ?_
  refine (g_getRH c72005 dJ31_mergeAt_89 rfl).trans (rR_cg fun r7 => ?_)
  refine (g_iload_nH c72005 dJ31_mergeAt_92 rfl).trans ?_
  refine (g_iconstH (x := 1) c72005 dJ31_mergeAt_93 rfl).trans ?_
  refine (g_iaddH c72005 dJ31_mergeAt_94).trans ?_
  refine (g_ialoadH c72005 dJ31_mergeAt_95).trans (aG_cg fun w8 => rI_cg fun x9 => ?_)
  refine (g_istoreH (L' := [.ref a0, .int i1, .int x3, .int x6, .int x9, jno, jno]) c72005 dJ31_mergeAt_96 rfl rfl).trans ?_
  refine (g_aload_nH c72005 dJ31_mergeAt_98 rfl).trans ?_
  refine (g_getRH c72005 dJ31_mergeAt_99 rfl).trans (rR_cg fun r10 => ?_)
  refine (g_iload_nH c72005 dJ31_mergeAt_102 rfl).trans ?_
  refine (g_iconstH (x := 1) c72005 dJ31_mergeAt_103 rfl).trans ?_
  refine (g_iaddH c72005 dJ31_mergeAt_104).trans ?_
  refine (g_ialoadH c72005 dJ31_mergeAt_105).trans (aG_cg fun w11 => rI_cg fun x12 => ?_)
  refine (g_istoreH (L' := [.ref a0, .int i1, .int x3, .int x6, .int x9, .int x12, jno]) c72005 dJ31_mergeAt_106 rfl rfl).trans ?_
  refine (g_getsIH (x := 1) c72005 dJ31_mergeAt_108 rfl rfl).trans ?_
  refine (g_if_neH (tgt := 131) c72005 dJ31_mergeAt_111 rfl).trans (if_cg ?_ ?_)
  · skip
    refine (g_iload_nH c72005 dJ31_mergeAt_114 rfl).trans ?_
    refine (g_if_leH (tgt := 123) c72005 dJ31_mergeAt_115 rfl).trans (if_cg ?_ ?_)
    · skip
      rfl
    · skip
      refine (g_iloadH c72005 dJ31_mergeAt_118 rfl).trans ?_
      refine (g_if_gtH (tgt := 131) c72005 dJ31_mergeAt_120 rfl).trans (if_cg ?_ ?_)
      · skip
        refine (g_getsIH (x := 1) c72005 dJ31_mergeAt_131 rfl rfl).trans ?_
        refine (g_if_neH (tgt := 153) c72005 dJ31_mergeAt_134 rfl).trans (if_cg ?_ ?_)
        · skip
          refine (g_iload_nH c72005 dJ31_mergeAt_137 rfl).trans ?_
          refine (g_iload_nH c72005 dJ31_mergeAt_138 rfl).trans ?_
          refine (g_iaddH c72005 dJ31_mergeAt_139).trans ?_
          refine (g_iloadH c72005 dJ31_mergeAt_140 rfl).trans ?_
          refine (g_icmp_eqH (tgt := 153) c72005 dJ31_mergeAt_142 rfl).trans (if_cg ?_ ?_)
          · skip
            rfl
          · skip
            rfl
        · skip
          rfl
      · skip
        rfl
  · skip
    refine (g_getsIH (x := 1) c72005 dJ31_mergeAt_131 rfl rfl).trans ?_
    refine (g_if_neH (tgt := 153) c72005 dJ31_mergeAt_134 rfl).trans (if_cg ?_ ?_)
    · skip
      refine (g_iload_nH c72005 dJ31_mergeAt_137 rfl).trans ?_
      refine (g_iload_nH c72005 dJ31_mergeAt_138 rfl).trans ?_
      refine (g_iaddH c72005 dJ31_mergeAt_139).trans ?_
      refine (g_iloadH c72005 dJ31_mergeAt_140 rfl).trans ?_
      refine (g_icmp_eqH (tgt := 153) c72005 dJ31_mergeAt_142 rfl).trans (if_cg ?_ ?_)
      · skip
        rfl
      · skip
        rfl
    · skip
      rfl
theorem F72005_153 (d : Nat) (a0 : Nat) (i1 : Int32) (i2 : Int32) (i3 : Int32) (i4 : Int32) (i5 : Int32) (h : AH) : G2 d 72005 153 [.ref a0, .int i1, .int i2, .int i3, .int i4, .int i5, jno] [] h = zpR (jf (jc h (.ref a0)) [72] 7) (fun r1 => zqS h r1 [1000] i1 (.int (i3 + i5)) (fun h2 => zpI (jf (jc h2 (.ref a0)) [72] 5) (fun x3 => if i1 = (x3 - 3) then (zpR (jf (jc h2 (.ref a0)) [72] 6) (fun r4 => zpR (jf (jc h2 (.ref a0)) [72] 6) (fun r5 => zqG h2 r5 [1000, 1001] (i1 + 2) (fun w6 => zpI w6 (fun x7 => zqS h2 r4 [1000] (i1 + 1) (.int x7) (fun h8 => zpR (jf (jc h8 (.ref a0)) [72] 7) (fun r9 => zpR (jf (jc h8 (.ref a0)) [72] 7) (fun r10 => zqG h8 r10 [1000, 1001] (i1 + 2) (fun w11 => zpI w11 (fun x12 => zqS h8 r9 [1000] (i1 + 1) (.int x12) (fun h13 => G2 d 72005 205 [.ref a0, .int i1, .int i2, .int i3, .int i4, .int i5, jno] [] h13) ()) ()) ()) ()) ()) ()) ()) ()) ()) ()) else (G2 d 72005 205 [.ref a0, .int i1, .int i2, .int i3, .int i4, .int i5, jno] [] h2)) ()) ()) () := by
  refine (g_aload_nH c72005 dJ31_mergeAt_153 rfl).trans ?_
  refine (g_getRH c72005 dJ31_mergeAt_154 rfl).trans (rR_cg fun r1 => ?_)
  refine (g_iload_nH c72005 dJ31_mergeAt_157 rfl).trans ?_
  refine (g_iload_nH c72005 dJ31_mergeAt_158 rfl).trans ?_
  refine (g_iloadH c72005 dJ31_mergeAt_159 rfl).trans ?_
  refine (g_iaddH c72005 dJ31_mergeAt_161).trans ?_
  refine (g_iastoreH c72005 dJ31_mergeAt_162).trans (aS_cg fun h2 => ?_)
  refine (g_iload_nH c72005 dJ31_mergeAt_163 rfl).trans ?_
  refine (g_aload_nH c72005 dJ31_mergeAt_164 rfl).trans ?_
  refine (g_getIH c72005 dJ31_mergeAt_165 rfl rfl).trans (rI_cg fun x3 => ?_)
  refine (g_iconstH (x := 3) c72005 dJ31_mergeAt_168 rfl).trans ?_
  refine (g_isubH c72005 dJ31_mergeAt_169).trans ?_
  refine (g_icmp_neH (tgt := 205) c72005 dJ31_mergeAt_170 rfl).trans (if_cg ?_ ?_)
  · skip
    refine (g_aload_nH c72005 dJ31_mergeAt_173 rfl).trans ?_
    refine (g_getRH c72005 dJ31_mergeAt_174 rfl).trans (rR_cg fun r4 => ?_)
    refine (g_iload_nH c72005 dJ31_mergeAt_177 rfl).trans ?_
    refine (g_iconstH (x := 1) c72005 dJ31_mergeAt_178 rfl).trans ?_
    refine (g_iaddH c72005 dJ31_mergeAt_179).trans ?_
    refine (g_aload_nH c72005 dJ31_mergeAt_180 rfl).trans ?_
    refine (g_getRH c72005 dJ31_mergeAt_181 rfl).trans (rR_cg fun r5 => ?_)
    refine (g_iload_nH c72005 dJ31_mergeAt_184 rfl).trans ?_
    refine (g_iconstH (x := 2) c72005 dJ31_mergeAt_185 rfl).trans ?_
    refine (g_iaddH c72005 dJ31_mergeAt_186).trans ?_
    refine (g_ialoadH c72005 dJ31_mergeAt_187).trans (aG_cg fun w6 => rI_cg fun x7 => ?_)
    refine (g_iastoreH c72005 dJ31_mergeAt_188).trans (aS_cg fun h8 => ?_)
    refine (g_aload_nH c72005 dJ31_mergeAt_189 rfl).trans ?_
    refine (g_getRH c72005 dJ31_mergeAt_190 rfl).trans (rR_cg fun r9 => ?_)
    refine (g_iload_nH c72005 dJ31_mergeAt_193 rfl).trans ?_
    refine (g_iconstH (x := 1) c72005 dJ31_mergeAt_194 rfl).trans ?_
    refine (g_iaddH c72005 dJ31_mergeAt_195).trans ?_
    refine (g_aload_nH c72005 dJ31_mergeAt_196 rfl).trans ?_
    refine (g_getRH c72005 dJ31_mergeAt_197 rfl).trans (rR_cg fun r10 => ?_)
    refine (g_iload_nH c72005 dJ31_mergeAt_200 rfl).trans ?_
    refine (g_iconstH (x := 2) c72005 dJ31_mergeAt_201 rfl).trans ?_
    refine (g_iaddH c72005 dJ31_mergeAt_202).trans ?_
    refine (g_ialoadH c72005 dJ31_mergeAt_203).trans (aG_cg fun w11 => rI_cg fun x12 => ?_)
    refine (g_iastoreH c72005 dJ31_mergeAt_204).trans (aS_cg fun h13 => ?_)
    rfl
  · skip
    rfl
theorem F72005_205 (d : Nat) (a0 : Nat) (i1 : Int32) (i2 : Int32) (i3 : Int32) (i4 : Int32) (i5 : Int32) (h : AH) : G2 d 72005 205 [.ref a0, .int i1, .int i2, .int i3, .int i4, .int i5, jno] [] h = zpI (jf (jc h (.ref a0)) [72] 5) (fun x1 => zqF h (.ref a0) [72] 5 0 (.int (x1 - 1)) (fun h2 => zpR (jf (jc h2 (.ref a0)) [72] 0) (fun r3 => zqG h2 r3 [1040, 1041, 1050, 1060, 1071] i4 (fun w4 => zpR w4 (fun r5 => zqK h2 r5 [24, 49, 50, 62, 150, 162] (zpR (jf (jc h2 (.ref a0)) [72] 0) (fun r6 => zcI (M2 d 72004 [r5, r6, .int i2, .int i3, .int 0] h2) (fun x7 h8 => if (1 : Int32) = 0 then (if 0 ≤ x7 then (G2 d 72005 256 [.ref a0, .int i1, .int i2, .int i3, .int i4, .int i5, .int x7] [] h8) else (G2 d 72005 248 [.ref a0, .int i1, .int i2, .int i3, .int i4, .int i5, .int x7] [] h8)) else (G2 d 72005 256 [.ref a0, .int i1, .int i2, .int i3, .int i4, .int i5, .int x7] [] h8)) ()) ()) ()) ()) ()) ()) ()) () := by
  refine (g_aload_nH c72005 dJ31_mergeAt_205 rfl).trans ?_
  refine (g_dup_rH c72005 dJ31_mergeAt_206).trans ?_
  refine (g_getIH c72005 dJ31_mergeAt_207 rfl rfl).trans (rI_cg fun x1 => ?_)
  refine (g_iconstH (x := 1) c72005 dJ31_mergeAt_210 rfl).trans ?_
  refine (g_isubH c72005 dJ31_mergeAt_211).trans ?_
  refine (g_putH c72005 dJ31_mergeAt_212 rfl).trans (pF_cg fun h2 => ?_)
  refine (g_aload_nH c72005 dJ31_mergeAt_215 rfl).trans ?_
  refine (g_getRH c72005 dJ31_mergeAt_216 rfl).trans (rR_cg fun r3 => ?_)
  refine (g_iloadH c72005 dJ31_mergeAt_219 rfl).trans ?_
  refine (g_aaloadH c72005 dJ31_mergeAt_221).trans (aG_cg fun w4 => rR_cg fun r5 => ?_)
  refine (g_castH c72005 dJ31_mergeAt_222 rfl).trans (cK_cg ?_)
  refine (g_aload_nH c72005 dJ31_mergeAt_225 rfl).trans ?_
  refine (g_getRH c72005 dJ31_mergeAt_226 rfl).trans (rR_cg fun r6 => ?_)
  refine (g_iload_nH c72005 dJ31_mergeAt_229 rfl).trans ?_
  refine (g_iload_nH c72005 dJ31_mergeAt_230 rfl).trans ?_
  refine (g_iconstH (x := 0) c72005 dJ31_mergeAt_231 rfl).trans ?_
  refine (g_staticH (as := [r5, r6, .int i2, .int i3, .int 0]) (rest := []) c72005 dJ31_mergeAt_232 rfl rfl rfl rfl rfl).trans ((jback_IH (κx := cX) (fun e h => jthrow_outH rfl)).trans (cI_cg fun x7 h8 => ?_))
  refine (g_istoreH (L' := [.ref a0, .int i1, .int i2, .int i3, .int i4, .int i5, .int x7]) c72005 dJ31_mergeAt_235 rfl rfl).trans ?_
  refine (g_getsIH (x := 1) c72005 dJ31_mergeAt_237 rfl rfl).trans ?_
  refine (g_if_neH (tgt := 256) c72005 dJ31_mergeAt_240 rfl).trans (if_cg ?_ ?_)
  · skip
    refine (g_iloadH c72005 dJ31_mergeAt_243 rfl).trans ?_
    refine (g_if_geH (tgt := 256) c72005 dJ31_mergeAt_245 rfl).trans (if_cg ?_ ?_)
    · skip
      rfl
    · skip
      rfl
  · skip
    rfl
theorem F72005_256 (d : Nat) (a0 : Nat) (i1 : Int32) (i2 : Int32) (i3 : Int32) (i4 : Int32) (i5 : Int32) (i6 : Int32) (h : AH) : G2 d 72005 256 [.ref a0, .int i1, .int i2, .int i3, .int i4, .int i5, .int i6] [] h = if (i3 - i6) = 0 then (some (.inl none, h)) else (zpR (jf (jc h (.ref a0)) [72] 0) (fun r1 => zqG h r1 [1040, 1041, 1050, 1060, 1071] (((i2 + i6) + (i3 - i6)) - 1) (fun w2 => zpR w2 (fun r3 => zqK h r3 [24, 49, 50, 62, 150, 162] (zpR (jf (jc h (.ref a0)) [72] 0) (fun r4 => zcI (M2 d 72003 [r3, r4, .int i4, .int i5, .int (i5 - 1)] h) (fun x5 h6 => if (1 : Int32) = 0 then (if 0 ≤ x5 then (G2 d 72005 320 [.ref a0, .int i1, .int (i2 + i6), .int (i3 - i6), .int i4, .int x5, .int i6] [] h6) else (G2 d 72005 312 [.ref a0, .int i1, .int (i2 + i6), .int (i3 - i6), .int i4, .int x5, .int i6] [] h6)) else (G2 d 72005 320 [.ref a0, .int i1, .int (i2 + i6), .int (i3 - i6), .int i4, .int x5, .int i6] [] h6)) ()) ()) ()) ()) ()) ()) := by
  refine (g_iload_nH c72005 dJ31_mergeAt_256 rfl).trans ?_
  refine (g_iloadH c72005 dJ31_mergeAt_257 rfl).trans ?_
  refine (g_iaddH c72005 dJ31_mergeAt_259).trans ?_
  refine (g_istore_nH (L' := [.ref a0, .int i1, .int (i2 + i6), .int i3, .int i4, .int i5, .int i6]) c72005 dJ31_mergeAt_260 rfl rfl).trans ?_
  refine (g_iload_nH c72005 dJ31_mergeAt_261 rfl).trans ?_
  refine (g_iloadH c72005 dJ31_mergeAt_262 rfl).trans ?_
  refine (g_isubH c72005 dJ31_mergeAt_264).trans ?_
  refine (g_istore_nH (L' := [.ref a0, .int i1, .int (i2 + i6), .int (i3 - i6), .int i4, .int i5, .int i6]) c72005 dJ31_mergeAt_265 rfl rfl).trans ?_
  refine (g_iload_nH c72005 dJ31_mergeAt_266 rfl).trans ?_
  refine (g_if_neH (tgt := 271) c72005 dJ31_mergeAt_267 rfl).trans (if_cg ?_ ?_)
  · skip
    exact g_returnH c72005 dJ31_mergeAt_270 rfl
  · skip
    refine (g_aload_nH c72005 dJ31_mergeAt_271 rfl).trans ?_
    refine (g_getRH c72005 dJ31_mergeAt_272 rfl).trans (rR_cg fun r1 => ?_)
    refine (g_iload_nH c72005 dJ31_mergeAt_275 rfl).trans ?_
    refine (g_iload_nH c72005 dJ31_mergeAt_276 rfl).trans ?_
    refine (g_iaddH c72005 dJ31_mergeAt_277).trans ?_
    refine (g_iconstH (x := 1) c72005 dJ31_mergeAt_278 rfl).trans ?_
    refine (g_isubH c72005 dJ31_mergeAt_279).trans ?_
    refine (g_aaloadH c72005 dJ31_mergeAt_280).trans (aG_cg fun w2 => rR_cg fun r3 => ?_)
    refine (g_castH c72005 dJ31_mergeAt_281 rfl).trans (cK_cg ?_)
    refine (g_aload_nH c72005 dJ31_mergeAt_284 rfl).trans ?_
    refine (g_getRH c72005 dJ31_mergeAt_285 rfl).trans (rR_cg fun r4 => ?_)
    refine (g_iloadH c72005 dJ31_mergeAt_288 rfl).trans ?_
    refine (g_iloadH c72005 dJ31_mergeAt_290 rfl).trans ?_
    refine (g_iloadH c72005 dJ31_mergeAt_292 rfl).trans ?_
    refine (g_iconstH (x := 1) c72005 dJ31_mergeAt_294 rfl).trans ?_
    refine (g_isubH c72005 dJ31_mergeAt_295).trans ?_
    refine (g_staticH (as := [r3, r4, .int i4, .int i5, .int (i5 - 1)]) (rest := []) c72005 dJ31_mergeAt_296 rfl rfl rfl rfl rfl).trans ((jback_IH (κx := cX) (fun e h => jthrow_outH rfl)).trans (cI_cg fun x5 h6 => ?_))
    refine (g_istoreH (L' := [.ref a0, .int i1, .int (i2 + i6), .int (i3 - i6), .int i4, .int x5, .int i6]) c72005 dJ31_mergeAt_299 rfl rfl).trans ?_
    refine (g_getsIH (x := 1) c72005 dJ31_mergeAt_301 rfl rfl).trans ?_
    refine (g_if_neH (tgt := 320) c72005 dJ31_mergeAt_304 rfl).trans (if_cg ?_ ?_)
    · skip
      refine (g_iloadH c72005 dJ31_mergeAt_307 rfl).trans ?_
      refine (g_if_geH (tgt := 320) c72005 dJ31_mergeAt_309 rfl).trans (if_cg ?_ ?_)
      · skip
        rfl
      · skip
        rfl
    · skip
      rfl
theorem F72005_320 (d : Nat) (a0 : Nat) (i1 : Int32) (i2 : Int32) (i3 : Int32) (i4 : Int32) (i5 : Int32) (i6 : Int32) (h : AH) : G2 d 72005 320 [.ref a0, .int i1, .int i2, .int i3, .int i4, .int i5, .int i6] [] h = if i5 = 0 then (some (.inl none, h)) else (if i5 < i3 then (zcV (M2 d 72008 [.ref a0, .int i2, .int i3, .int i4, .int i5] h) (fun h2 => some (.inl none, h2)) ()) else (zcV (M2 d 72009 [.ref a0, .int i2, .int i3, .int i4, .int i5] h) (fun h4 => some (.inl none, h4)) ())) := by
  refine (g_iloadH c72005 dJ31_mergeAt_320 rfl).trans ?_
  refine (g_if_neH (tgt := 326) c72005 dJ31_mergeAt_322 rfl).trans (if_cg ?_ ?_)
  · skip
    exact g_returnH c72005 dJ31_mergeAt_325 rfl
  · skip
    refine (g_iload_nH c72005 dJ31_mergeAt_326 rfl).trans ?_
    refine (g_iloadH c72005 dJ31_mergeAt_327 rfl).trans ?_
    refine (g_icmp_gtH (tgt := 345) c72005 dJ31_mergeAt_329 rfl).trans (if_cg ?_ ?_)
    · skip
      refine (g_aload_nH c72005 dJ31_mergeAt_345 rfl).trans ?_
      refine (g_iload_nH c72005 dJ31_mergeAt_346 rfl).trans ?_
      refine (g_iload_nH c72005 dJ31_mergeAt_347 rfl).trans ?_
      refine (g_iloadH c72005 dJ31_mergeAt_348 rfl).trans ?_
      refine (g_iloadH c72005 dJ31_mergeAt_350 rfl).trans ?_
      refine (g_virtualH (as := [.ref a0, .int i2, .int i3, .int i4, .int i5]) (rest := []) c72005 dJ31_mergeAt_352 rfl rfl rfl rfl rfl).trans ((jback_VH (κx := cX) (fun e h => jthrow_outH rfl)).trans (cV_cg fun h2 => ?_))
      exact g_returnH c72005 dJ31_mergeAt_355 rfl
    · skip
      refine (g_aload_nH c72005 dJ31_mergeAt_332 rfl).trans ?_
      refine (g_iload_nH c72005 dJ31_mergeAt_333 rfl).trans ?_
      refine (g_iload_nH c72005 dJ31_mergeAt_334 rfl).trans ?_
      refine (g_iloadH c72005 dJ31_mergeAt_335 rfl).trans ?_
      refine (g_iloadH c72005 dJ31_mergeAt_337 rfl).trans ?_
      refine (g_virtualH (as := [.ref a0, .int i2, .int i3, .int i4, .int i5]) (rest := []) c72005 dJ31_mergeAt_339 rfl rfl rfl rfl rfl).trans ((jback_VH (κx := cX) (fun e h => jthrow_outH rfl)).trans (cV_cg fun h4 => ?_))
      refine (g_gotoH (tgt := 355) c72005 dJ31_mergeAt_342 rfl).trans ?_
      exact g_returnH c72005 dJ31_mergeAt_355 rfl
theorem Y72005 {d : Nat} {a0 : Nat} {i1 : Int32} (h : AH) (hr : jrecv 72005 [.ref a0, .int i1] h = true) : M2 (d + 1) 72005 [.ref a0, .int i1] h = G2 d 72005 0 [.ref a0, .int i1, jno, jno, jno, jno, jno] [] h := M2_eq rfl rfl hr rfl
/-! java/util/ComparableTimSort.mergeCollapse()V -/
abbrev cJ31_mergeCollapse : ByteArray := prog_74_method_8_code
def dkwJ31_mergeCollapse_5 : List UInt8 := [164, 0, 6, 167, 0, 11, 42, 27, 182, 0, 85, 167, 255, 126, 177]
abbrev dktJ31_mergeCollapse_5 : List UInt8 := dkwJ31_mergeCollapse_5 ++ []
def dkwJ31_mergeCollapse_4 : List UInt8 := [132, 1, 255, 167, 0, 27, 27, 155, 0, 31, 42, 180, 0, 34, 27, 46, 42, 180, 0, 34, 27, 4, 96, 46]
abbrev dktJ31_mergeCollapse_4 : List UInt8 := dkwJ31_mergeCollapse_4 ++ dktJ31_mergeCollapse_5
def dkwJ31_mergeCollapse_3 : List UInt8 := [46, 96, 163, 0, 28, 42, 180, 0, 34, 27, 4, 100, 46, 42, 180, 0, 34, 27, 4, 96, 46, 162, 0, 33]
abbrev dktJ31_mergeCollapse_3 : List UInt8 := dkwJ31_mergeCollapse_3 ++ dktJ31_mergeCollapse_4
def dkwJ31_mergeCollapse_2 : List UInt8 := [164, 0, 54, 42, 180, 0, 34, 27, 5, 100, 46, 42, 180, 0, 34, 27, 46, 42, 180, 0, 34, 27, 4, 100]
abbrev dktJ31_mergeCollapse_2 : List UInt8 := dkwJ31_mergeCollapse_2 ++ dktJ31_mergeCollapse_3
def dkwJ31_mergeCollapse_1 : List UInt8 := [4, 100, 46, 42, 180, 0, 34, 27, 46, 42, 180, 0, 34, 27, 4, 96, 46, 96, 164, 0, 34, 27, 4]
abbrev dktJ31_mergeCollapse_1 : List UInt8 := dkwJ31_mergeCollapse_1 ++ dktJ31_mergeCollapse_2
def dkwJ31_mergeCollapse_0 : List UInt8 := [42, 180, 0, 13, 4, 164, 0, 128, 42, 180, 0, 13, 5, 100, 60, 27, 158, 0, 29, 42, 180, 0, 34, 27]
abbrev dktJ31_mergeCollapse_0 : List UInt8 := dkwJ31_mergeCollapse_0 ++ dktJ31_mergeCollapse_1
theorem dksJ31_mergeCollapse_0 : cJ31_mergeCollapse.data.toList.drop 0 = dktJ31_mergeCollapse_0 := by decide +kernel
theorem dksJ31_mergeCollapse_1 : cJ31_mergeCollapse.data.toList.drop 24 = dktJ31_mergeCollapse_1 := dk_seg dksJ31_mergeCollapse_0 24 rfl rfl
theorem dksJ31_mergeCollapse_2 : cJ31_mergeCollapse.data.toList.drop 47 = dktJ31_mergeCollapse_2 := dk_seg dksJ31_mergeCollapse_1 23 rfl rfl
theorem dksJ31_mergeCollapse_3 : cJ31_mergeCollapse.data.toList.drop 71 = dktJ31_mergeCollapse_3 := dk_seg dksJ31_mergeCollapse_2 24 rfl rfl
theorem dksJ31_mergeCollapse_4 : cJ31_mergeCollapse.data.toList.drop 95 = dktJ31_mergeCollapse_4 := dk_seg dksJ31_mergeCollapse_3 24 rfl rfl
theorem dksJ31_mergeCollapse_5 : cJ31_mergeCollapse.data.toList.drop 119 = dktJ31_mergeCollapse_5 := dk_seg dksJ31_mergeCollapse_4 24 rfl rfl
theorem dJ31_mergeCollapse_0 : decode cJ31_mergeCollapse 0 = .ok (.aload_n 0, 1) := dk_42 (dk_at dksJ31_mergeCollapse_0 0 rfl rfl)
theorem dJ31_mergeCollapse_1 : decode cJ31_mergeCollapse 1 = .ok (.getfield 13, 3) := dk_180 0 13 (dk_at dksJ31_mergeCollapse_0 1 rfl rfl)
theorem dJ31_mergeCollapse_4 : decode cJ31_mergeCollapse 4 = .ok (.iconst 1, 1) := dk_4 (dk_at dksJ31_mergeCollapse_0 4 rfl rfl)
theorem dJ31_mergeCollapse_5 : decode cJ31_mergeCollapse 5 = .ok (.if_icmp .le 128, 3) := dk_164 0 128 (dk_at dksJ31_mergeCollapse_0 5 rfl rfl)
theorem dJ31_mergeCollapse_8 : decode cJ31_mergeCollapse 8 = .ok (.aload_n 0, 1) := dk_42 (dk_at dksJ31_mergeCollapse_0 8 rfl rfl)
theorem dJ31_mergeCollapse_9 : decode cJ31_mergeCollapse 9 = .ok (.getfield 13, 3) := dk_180 0 13 (dk_at dksJ31_mergeCollapse_0 9 rfl rfl)
theorem dJ31_mergeCollapse_12 : decode cJ31_mergeCollapse 12 = .ok (.iconst 2, 1) := dk_5 (dk_at dksJ31_mergeCollapse_0 12 rfl rfl)
theorem dJ31_mergeCollapse_13 : decode cJ31_mergeCollapse 13 = .ok (.isub, 1) := dk_100 (dk_at dksJ31_mergeCollapse_0 13 rfl rfl)
theorem dJ31_mergeCollapse_14 : decode cJ31_mergeCollapse 14 = .ok (.istore_n 1, 1) := dk_60 (dk_at dksJ31_mergeCollapse_0 14 rfl rfl)
theorem dJ31_mergeCollapse_15 : decode cJ31_mergeCollapse 15 = .ok (.iload_n 1, 1) := dk_27 (dk_at dksJ31_mergeCollapse_0 15 rfl rfl)
theorem dJ31_mergeCollapse_16 : decode cJ31_mergeCollapse 16 = .ok (.ifCond .le 29, 3) := dk_158 0 29 (dk_at dksJ31_mergeCollapse_0 16 rfl rfl)
theorem dJ31_mergeCollapse_19 : decode cJ31_mergeCollapse 19 = .ok (.aload_n 0, 1) := dk_42 (dk_at dksJ31_mergeCollapse_0 19 rfl rfl)
theorem dJ31_mergeCollapse_20 : decode cJ31_mergeCollapse 20 = .ok (.getfield 34, 3) := dk_180 0 34 (dk_at dksJ31_mergeCollapse_0 20 rfl rfl)
theorem dJ31_mergeCollapse_23 : decode cJ31_mergeCollapse 23 = .ok (.iload_n 1, 1) := dk_27 (dk_at dksJ31_mergeCollapse_0 23 rfl rfl)
theorem dJ31_mergeCollapse_24 : decode cJ31_mergeCollapse 24 = .ok (.iconst 1, 1) := dk_4 (dk_at dksJ31_mergeCollapse_1 0 rfl rfl)
theorem dJ31_mergeCollapse_25 : decode cJ31_mergeCollapse 25 = .ok (.isub, 1) := dk_100 (dk_at dksJ31_mergeCollapse_1 1 rfl rfl)
theorem dJ31_mergeCollapse_26 : decode cJ31_mergeCollapse 26 = .ok (.iaload, 1) := dk_46 (dk_at dksJ31_mergeCollapse_1 2 rfl rfl)
theorem dJ31_mergeCollapse_27 : decode cJ31_mergeCollapse 27 = .ok (.aload_n 0, 1) := dk_42 (dk_at dksJ31_mergeCollapse_1 3 rfl rfl)
theorem dJ31_mergeCollapse_28 : decode cJ31_mergeCollapse 28 = .ok (.getfield 34, 3) := dk_180 0 34 (dk_at dksJ31_mergeCollapse_1 4 rfl rfl)
theorem dJ31_mergeCollapse_31 : decode cJ31_mergeCollapse 31 = .ok (.iload_n 1, 1) := dk_27 (dk_at dksJ31_mergeCollapse_1 7 rfl rfl)
theorem dJ31_mergeCollapse_32 : decode cJ31_mergeCollapse 32 = .ok (.iaload, 1) := dk_46 (dk_at dksJ31_mergeCollapse_1 8 rfl rfl)
theorem dJ31_mergeCollapse_33 : decode cJ31_mergeCollapse 33 = .ok (.aload_n 0, 1) := dk_42 (dk_at dksJ31_mergeCollapse_1 9 rfl rfl)
theorem dJ31_mergeCollapse_34 : decode cJ31_mergeCollapse 34 = .ok (.getfield 34, 3) := dk_180 0 34 (dk_at dksJ31_mergeCollapse_1 10 rfl rfl)
theorem dJ31_mergeCollapse_37 : decode cJ31_mergeCollapse 37 = .ok (.iload_n 1, 1) := dk_27 (dk_at dksJ31_mergeCollapse_1 13 rfl rfl)
theorem dJ31_mergeCollapse_38 : decode cJ31_mergeCollapse 38 = .ok (.iconst 1, 1) := dk_4 (dk_at dksJ31_mergeCollapse_1 14 rfl rfl)
theorem dJ31_mergeCollapse_39 : decode cJ31_mergeCollapse 39 = .ok (.iadd, 1) := dk_96 (dk_at dksJ31_mergeCollapse_1 15 rfl rfl)
theorem dJ31_mergeCollapse_40 : decode cJ31_mergeCollapse 40 = .ok (.iaload, 1) := dk_46 (dk_at dksJ31_mergeCollapse_1 16 rfl rfl)
theorem dJ31_mergeCollapse_41 : decode cJ31_mergeCollapse 41 = .ok (.iadd, 1) := dk_96 (dk_at dksJ31_mergeCollapse_1 17 rfl rfl)
theorem dJ31_mergeCollapse_42 : decode cJ31_mergeCollapse 42 = .ok (.if_icmp .le 34, 3) := dk_164 0 34 (dk_at dksJ31_mergeCollapse_1 18 rfl rfl)
theorem dJ31_mergeCollapse_45 : decode cJ31_mergeCollapse 45 = .ok (.iload_n 1, 1) := dk_27 (dk_at dksJ31_mergeCollapse_1 21 rfl rfl)
theorem dJ31_mergeCollapse_46 : decode cJ31_mergeCollapse 46 = .ok (.iconst 1, 1) := dk_4 (dk_at dksJ31_mergeCollapse_1 22 rfl rfl)
theorem dJ31_mergeCollapse_47 : decode cJ31_mergeCollapse 47 = .ok (.if_icmp .le 54, 3) := dk_164 0 54 (dk_at dksJ31_mergeCollapse_2 0 rfl rfl)
theorem dJ31_mergeCollapse_50 : decode cJ31_mergeCollapse 50 = .ok (.aload_n 0, 1) := dk_42 (dk_at dksJ31_mergeCollapse_2 3 rfl rfl)
theorem dJ31_mergeCollapse_51 : decode cJ31_mergeCollapse 51 = .ok (.getfield 34, 3) := dk_180 0 34 (dk_at dksJ31_mergeCollapse_2 4 rfl rfl)
theorem dJ31_mergeCollapse_54 : decode cJ31_mergeCollapse 54 = .ok (.iload_n 1, 1) := dk_27 (dk_at dksJ31_mergeCollapse_2 7 rfl rfl)
theorem dJ31_mergeCollapse_55 : decode cJ31_mergeCollapse 55 = .ok (.iconst 2, 1) := dk_5 (dk_at dksJ31_mergeCollapse_2 8 rfl rfl)
theorem dJ31_mergeCollapse_56 : decode cJ31_mergeCollapse 56 = .ok (.isub, 1) := dk_100 (dk_at dksJ31_mergeCollapse_2 9 rfl rfl)
theorem dJ31_mergeCollapse_57 : decode cJ31_mergeCollapse 57 = .ok (.iaload, 1) := dk_46 (dk_at dksJ31_mergeCollapse_2 10 rfl rfl)
theorem dJ31_mergeCollapse_58 : decode cJ31_mergeCollapse 58 = .ok (.aload_n 0, 1) := dk_42 (dk_at dksJ31_mergeCollapse_2 11 rfl rfl)
theorem dJ31_mergeCollapse_59 : decode cJ31_mergeCollapse 59 = .ok (.getfield 34, 3) := dk_180 0 34 (dk_at dksJ31_mergeCollapse_2 12 rfl rfl)
theorem dJ31_mergeCollapse_62 : decode cJ31_mergeCollapse 62 = .ok (.iload_n 1, 1) := dk_27 (dk_at dksJ31_mergeCollapse_2 15 rfl rfl)
theorem dJ31_mergeCollapse_63 : decode cJ31_mergeCollapse 63 = .ok (.iaload, 1) := dk_46 (dk_at dksJ31_mergeCollapse_2 16 rfl rfl)
theorem dJ31_mergeCollapse_64 : decode cJ31_mergeCollapse 64 = .ok (.aload_n 0, 1) := dk_42 (dk_at dksJ31_mergeCollapse_2 17 rfl rfl)
theorem dJ31_mergeCollapse_65 : decode cJ31_mergeCollapse 65 = .ok (.getfield 34, 3) := dk_180 0 34 (dk_at dksJ31_mergeCollapse_2 18 rfl rfl)
theorem dJ31_mergeCollapse_68 : decode cJ31_mergeCollapse 68 = .ok (.iload_n 1, 1) := dk_27 (dk_at dksJ31_mergeCollapse_2 21 rfl rfl)
theorem dJ31_mergeCollapse_69 : decode cJ31_mergeCollapse 69 = .ok (.iconst 1, 1) := dk_4 (dk_at dksJ31_mergeCollapse_2 22 rfl rfl)
theorem dJ31_mergeCollapse_70 : decode cJ31_mergeCollapse 70 = .ok (.isub, 1) := dk_100 (dk_at dksJ31_mergeCollapse_2 23 rfl rfl)
theorem dJ31_mergeCollapse_71 : decode cJ31_mergeCollapse 71 = .ok (.iaload, 1) := dk_46 (dk_at dksJ31_mergeCollapse_3 0 rfl rfl)
theorem dJ31_mergeCollapse_72 : decode cJ31_mergeCollapse 72 = .ok (.iadd, 1) := dk_96 (dk_at dksJ31_mergeCollapse_3 1 rfl rfl)
theorem dJ31_mergeCollapse_73 : decode cJ31_mergeCollapse 73 = .ok (.if_icmp .gt 28, 3) := dk_163 0 28 (dk_at dksJ31_mergeCollapse_3 2 rfl rfl)
theorem dJ31_mergeCollapse_76 : decode cJ31_mergeCollapse 76 = .ok (.aload_n 0, 1) := dk_42 (dk_at dksJ31_mergeCollapse_3 5 rfl rfl)
theorem dJ31_mergeCollapse_77 : decode cJ31_mergeCollapse 77 = .ok (.getfield 34, 3) := dk_180 0 34 (dk_at dksJ31_mergeCollapse_3 6 rfl rfl)
theorem dJ31_mergeCollapse_80 : decode cJ31_mergeCollapse 80 = .ok (.iload_n 1, 1) := dk_27 (dk_at dksJ31_mergeCollapse_3 9 rfl rfl)
theorem dJ31_mergeCollapse_81 : decode cJ31_mergeCollapse 81 = .ok (.iconst 1, 1) := dk_4 (dk_at dksJ31_mergeCollapse_3 10 rfl rfl)
theorem dJ31_mergeCollapse_82 : decode cJ31_mergeCollapse 82 = .ok (.isub, 1) := dk_100 (dk_at dksJ31_mergeCollapse_3 11 rfl rfl)
theorem dJ31_mergeCollapse_83 : decode cJ31_mergeCollapse 83 = .ok (.iaload, 1) := dk_46 (dk_at dksJ31_mergeCollapse_3 12 rfl rfl)
theorem dJ31_mergeCollapse_84 : decode cJ31_mergeCollapse 84 = .ok (.aload_n 0, 1) := dk_42 (dk_at dksJ31_mergeCollapse_3 13 rfl rfl)
theorem dJ31_mergeCollapse_85 : decode cJ31_mergeCollapse 85 = .ok (.getfield 34, 3) := dk_180 0 34 (dk_at dksJ31_mergeCollapse_3 14 rfl rfl)
theorem dJ31_mergeCollapse_88 : decode cJ31_mergeCollapse 88 = .ok (.iload_n 1, 1) := dk_27 (dk_at dksJ31_mergeCollapse_3 17 rfl rfl)
theorem dJ31_mergeCollapse_89 : decode cJ31_mergeCollapse 89 = .ok (.iconst 1, 1) := dk_4 (dk_at dksJ31_mergeCollapse_3 18 rfl rfl)
theorem dJ31_mergeCollapse_90 : decode cJ31_mergeCollapse 90 = .ok (.iadd, 1) := dk_96 (dk_at dksJ31_mergeCollapse_3 19 rfl rfl)
theorem dJ31_mergeCollapse_91 : decode cJ31_mergeCollapse 91 = .ok (.iaload, 1) := dk_46 (dk_at dksJ31_mergeCollapse_3 20 rfl rfl)
theorem dJ31_mergeCollapse_92 : decode cJ31_mergeCollapse 92 = .ok (.if_icmp .ge 33, 3) := dk_162 0 33 (dk_at dksJ31_mergeCollapse_3 21 rfl rfl)
theorem dJ31_mergeCollapse_95 : decode cJ31_mergeCollapse 95 = .ok (.iinc 1 (-1), 3) := dk_132 1 255 (dk_at dksJ31_mergeCollapse_4 0 rfl rfl)
theorem dJ31_mergeCollapse_98 : decode cJ31_mergeCollapse 98 = .ok (.goto 27, 3) := dk_167 0 27 (dk_at dksJ31_mergeCollapse_4 3 rfl rfl)
theorem dJ31_mergeCollapse_101 : decode cJ31_mergeCollapse 101 = .ok (.iload_n 1, 1) := dk_27 (dk_at dksJ31_mergeCollapse_4 6 rfl rfl)
theorem dJ31_mergeCollapse_102 : decode cJ31_mergeCollapse 102 = .ok (.ifCond .lt 31, 3) := dk_155 0 31 (dk_at dksJ31_mergeCollapse_4 7 rfl rfl)
theorem dJ31_mergeCollapse_105 : decode cJ31_mergeCollapse 105 = .ok (.aload_n 0, 1) := dk_42 (dk_at dksJ31_mergeCollapse_4 10 rfl rfl)
theorem dJ31_mergeCollapse_106 : decode cJ31_mergeCollapse 106 = .ok (.getfield 34, 3) := dk_180 0 34 (dk_at dksJ31_mergeCollapse_4 11 rfl rfl)
theorem dJ31_mergeCollapse_109 : decode cJ31_mergeCollapse 109 = .ok (.iload_n 1, 1) := dk_27 (dk_at dksJ31_mergeCollapse_4 14 rfl rfl)
theorem dJ31_mergeCollapse_110 : decode cJ31_mergeCollapse 110 = .ok (.iaload, 1) := dk_46 (dk_at dksJ31_mergeCollapse_4 15 rfl rfl)
theorem dJ31_mergeCollapse_111 : decode cJ31_mergeCollapse 111 = .ok (.aload_n 0, 1) := dk_42 (dk_at dksJ31_mergeCollapse_4 16 rfl rfl)
theorem dJ31_mergeCollapse_112 : decode cJ31_mergeCollapse 112 = .ok (.getfield 34, 3) := dk_180 0 34 (dk_at dksJ31_mergeCollapse_4 17 rfl rfl)
theorem dJ31_mergeCollapse_115 : decode cJ31_mergeCollapse 115 = .ok (.iload_n 1, 1) := dk_27 (dk_at dksJ31_mergeCollapse_4 20 rfl rfl)
theorem dJ31_mergeCollapse_116 : decode cJ31_mergeCollapse 116 = .ok (.iconst 1, 1) := dk_4 (dk_at dksJ31_mergeCollapse_4 21 rfl rfl)
theorem dJ31_mergeCollapse_117 : decode cJ31_mergeCollapse 117 = .ok (.iadd, 1) := dk_96 (dk_at dksJ31_mergeCollapse_4 22 rfl rfl)
theorem dJ31_mergeCollapse_118 : decode cJ31_mergeCollapse 118 = .ok (.iaload, 1) := dk_46 (dk_at dksJ31_mergeCollapse_4 23 rfl rfl)
theorem dJ31_mergeCollapse_119 : decode cJ31_mergeCollapse 119 = .ok (.if_icmp .le 6, 3) := dk_164 0 6 (dk_at dksJ31_mergeCollapse_5 0 rfl rfl)
theorem dJ31_mergeCollapse_122 : decode cJ31_mergeCollapse 122 = .ok (.goto 11, 3) := dk_167 0 11 (dk_at dksJ31_mergeCollapse_5 3 rfl rfl)
theorem dJ31_mergeCollapse_125 : decode cJ31_mergeCollapse 125 = .ok (.aload_n 0, 1) := dk_42 (dk_at dksJ31_mergeCollapse_5 6 rfl rfl)
theorem dJ31_mergeCollapse_126 : decode cJ31_mergeCollapse 126 = .ok (.iload_n 1, 1) := dk_27 (dk_at dksJ31_mergeCollapse_5 7 rfl rfl)
theorem dJ31_mergeCollapse_127 : decode cJ31_mergeCollapse 127 = .ok (.invokevirtual 85, 3) := dk_182 0 85 (dk_at dksJ31_mergeCollapse_5 8 rfl rfl)
theorem dJ31_mergeCollapse_130 : decode cJ31_mergeCollapse 130 = .ok (.goto (-130), 3) := dk_167 255 126 (dk_at dksJ31_mergeCollapse_5 11 rfl rfl)
theorem dJ31_mergeCollapse_133 : decode cJ31_mergeCollapse 133 = .ok (.return_, 1) := dk_177 (dk_at dksJ31_mergeCollapse_5 14 rfl rfl)
theorem c72006 : jtCode 72006 = cJ31_mergeCollapse := rfl
theorem F72006_0 (d : Nat) (a0 : Nat) (h : AH) : G2 d 72006 0 [.ref a0, jno] [] h = zpI (jf (jc h (.ref a0)) [72] 5) (fun x1 => if x1 ≤ 1 then (some (.inl none, h)) else (zpI (jf (jc h (.ref a0)) [72] 5) (fun x2 => if (x2 - 2) ≤ 0 then (G2 d 72006 45 [.ref a0, .int (x2 - 2)] [] h) else (zpR (jf (jc h (.ref a0)) [72] 7) (fun r3 => zqG h r3 [1000, 1001] ((x2 - 2) - 1) (fun w4 => zpI w4 (fun x5 => zpR (jf (jc h (.ref a0)) [72] 7) (fun r6 => zqG h r6 [1000, 1001] (x2 - 2) (fun w7 => zpI w7 (fun x8 => zpR (jf (jc h (.ref a0)) [72] 7) (fun r9 => zqG h r9 [1000, 1001] ((x2 - 2) + 1) (fun w10 => zpI w10 (fun x11 => if x5 ≤ (x8 + x11) then (G2 d 72006 76 [.ref a0, .int (x2 - 2)] [] h) else (G2 d 72006 45 [.ref a0, .int (x2 - 2)] [] h)) ()) ()) ()) ()) ()) ()) ()) ()) ())) ())) () := by
  refine (g_aload_nH c72006 dJ31_mergeCollapse_0 rfl).trans ?_
  refine (g_getIH c72006 dJ31_mergeCollapse_1 rfl rfl).trans (rI_cg fun x1 => ?_)
  refine (g_iconstH (x := 1) c72006 dJ31_mergeCollapse_4 rfl).trans ?_
  refine (g_icmp_leH (tgt := 133) c72006 dJ31_mergeCollapse_5 rfl).trans (if_cg ?_ ?_)
  · skip
    exact g_returnH c72006 dJ31_mergeCollapse_133 rfl
  · skip
    refine (g_aload_nH c72006 dJ31_mergeCollapse_8 rfl).trans ?_
    refine (g_getIH c72006 dJ31_mergeCollapse_9 rfl rfl).trans (rI_cg fun x2 => ?_)
    refine (g_iconstH (x := 2) c72006 dJ31_mergeCollapse_12 rfl).trans ?_
    refine (g_isubH c72006 dJ31_mergeCollapse_13).trans ?_
    refine (g_istore_nH (L' := [.ref a0, .int (x2 - 2)]) c72006 dJ31_mergeCollapse_14 rfl rfl).trans ?_
    refine (g_iload_nH c72006 dJ31_mergeCollapse_15 rfl).trans ?_
    refine (g_if_leH (tgt := 45) c72006 dJ31_mergeCollapse_16 rfl).trans (if_cg ?_ ?_)
    · skip
      rfl
    · skip
      refine (g_aload_nH c72006 dJ31_mergeCollapse_19 rfl).trans ?_
      refine (g_getRH c72006 dJ31_mergeCollapse_20 rfl).trans (rR_cg fun r3 => ?_)
      refine (g_iload_nH c72006 dJ31_mergeCollapse_23 rfl).trans ?_
      refine (g_iconstH (x := 1) c72006 dJ31_mergeCollapse_24 rfl).trans ?_
      refine (g_isubH c72006 dJ31_mergeCollapse_25).trans ?_
      refine (g_ialoadH c72006 dJ31_mergeCollapse_26).trans (aG_cg fun w4 => rI_cg fun x5 => ?_)
      refine (g_aload_nH c72006 dJ31_mergeCollapse_27 rfl).trans ?_
      refine (g_getRH c72006 dJ31_mergeCollapse_28 rfl).trans (rR_cg fun r6 => ?_)
      refine (g_iload_nH c72006 dJ31_mergeCollapse_31 rfl).trans ?_
      refine (g_ialoadH c72006 dJ31_mergeCollapse_32).trans (aG_cg fun w7 => rI_cg fun x8 => ?_)
      refine (g_aload_nH c72006 dJ31_mergeCollapse_33 rfl).trans ?_
      refine (g_getRH c72006 dJ31_mergeCollapse_34 rfl).trans (rR_cg fun r9 => ?_)
      refine (g_iload_nH c72006 dJ31_mergeCollapse_37 rfl).trans ?_
      refine (g_iconstH (x := 1) c72006 dJ31_mergeCollapse_38 rfl).trans ?_
      refine (g_iaddH c72006 dJ31_mergeCollapse_39).trans ?_
      refine (g_ialoadH c72006 dJ31_mergeCollapse_40).trans (aG_cg fun w10 => rI_cg fun x11 => ?_)
      refine (g_iaddH c72006 dJ31_mergeCollapse_41).trans ?_
      refine (g_icmp_leH (tgt := 76) c72006 dJ31_mergeCollapse_42 rfl).trans (if_cg ?_ ?_)
      · skip
        rfl
      · skip
        rfl
theorem F72006_45 (d : Nat) (a0 : Nat) (i1 : Int32) (h : AH) : G2 d 72006 45 [.ref a0, .int i1] [] h = if i1 ≤ 1 then (G2 d 72006 101 [.ref a0, .int i1] [] h) else (zpR (jf (jc h (.ref a0)) [72] 7) (fun r1 => zqG h r1 [1000, 1001] (i1 - 2) (fun w2 => zpI w2 (fun x3 => zpR (jf (jc h (.ref a0)) [72] 7) (fun r4 => zqG h r4 [1000, 1001] i1 (fun w5 => zpI w5 (fun x6 => zpR (jf (jc h (.ref a0)) [72] 7) (fun r7 => zqG h r7 [1000, 1001] (i1 - 1) (fun w8 => zpI w8 (fun x9 => if (x6 + x9) < x3 then (G2 d 72006 101 [.ref a0, .int i1] [] h) else (G2 d 72006 76 [.ref a0, .int i1] [] h)) ()) ()) ()) ()) ()) ()) ()) ()) ()) := by
  refine (g_iload_nH c72006 dJ31_mergeCollapse_45 rfl).trans ?_
  refine (g_iconstH (x := 1) c72006 dJ31_mergeCollapse_46 rfl).trans ?_
  refine (g_icmp_leH (tgt := 101) c72006 dJ31_mergeCollapse_47 rfl).trans (if_cg ?_ ?_)
  · skip
    rfl
  · skip
    refine (g_aload_nH c72006 dJ31_mergeCollapse_50 rfl).trans ?_
    refine (g_getRH c72006 dJ31_mergeCollapse_51 rfl).trans (rR_cg fun r1 => ?_)
    refine (g_iload_nH c72006 dJ31_mergeCollapse_54 rfl).trans ?_
    refine (g_iconstH (x := 2) c72006 dJ31_mergeCollapse_55 rfl).trans ?_
    refine (g_isubH c72006 dJ31_mergeCollapse_56).trans ?_
    refine (g_ialoadH c72006 dJ31_mergeCollapse_57).trans (aG_cg fun w2 => rI_cg fun x3 => ?_)
    refine (g_aload_nH c72006 dJ31_mergeCollapse_58 rfl).trans ?_
    refine (g_getRH c72006 dJ31_mergeCollapse_59 rfl).trans (rR_cg fun r4 => ?_)
    refine (g_iload_nH c72006 dJ31_mergeCollapse_62 rfl).trans ?_
    refine (g_ialoadH c72006 dJ31_mergeCollapse_63).trans (aG_cg fun w5 => rI_cg fun x6 => ?_)
    refine (g_aload_nH c72006 dJ31_mergeCollapse_64 rfl).trans ?_
    refine (g_getRH c72006 dJ31_mergeCollapse_65 rfl).trans (rR_cg fun r7 => ?_)
    refine (g_iload_nH c72006 dJ31_mergeCollapse_68 rfl).trans ?_
    refine (g_iconstH (x := 1) c72006 dJ31_mergeCollapse_69 rfl).trans ?_
    refine (g_isubH c72006 dJ31_mergeCollapse_70).trans ?_
    refine (g_ialoadH c72006 dJ31_mergeCollapse_71).trans (aG_cg fun w8 => rI_cg fun x9 => ?_)
    refine (g_iaddH c72006 dJ31_mergeCollapse_72).trans ?_
    refine (g_icmp_gtH (tgt := 101) c72006 dJ31_mergeCollapse_73 rfl).trans (if_cg ?_ ?_)
    · skip
      rfl
    · skip
      rfl
theorem F72006_76 (d : Nat) (a0 : Nat) (i1 : Int32) (h : AH) : G2 d 72006 76 [.ref a0, .int i1] [] h = zpR (jf (jc h (.ref a0)) [72] 7) (fun r1 => zqG h r1 [1000, 1001] (i1 - 1) (fun w2 => zpI w2 (fun x3 => zpR (jf (jc h (.ref a0)) [72] 7) (fun r4 => zqG h r4 [1000, 1001] (i1 + 1) (fun w5 => zpI w5 (fun x6 => if x6 ≤ x3 then (zcV (M2 d 72005 [.ref a0, .int i1] h) (fun h8 => G2 d 72006 0 [.ref a0, .int i1] [] h8) ()) else (zcV (M2 d 72005 [.ref a0, .int (i1 + (-1))] h) (fun h10 => G2 d 72006 0 [.ref a0, .int (i1 + (-1))] [] h10) ())) ()) ()) ()) ()) ()) () := by
  refine (g_aload_nH c72006 dJ31_mergeCollapse_76 rfl).trans ?_
  refine (g_getRH c72006 dJ31_mergeCollapse_77 rfl).trans (rR_cg fun r1 => ?_)
  refine (g_iload_nH c72006 dJ31_mergeCollapse_80 rfl).trans ?_
  refine (g_iconstH (x := 1) c72006 dJ31_mergeCollapse_81 rfl).trans ?_
  refine (g_isubH c72006 dJ31_mergeCollapse_82).trans ?_
  refine (g_ialoadH c72006 dJ31_mergeCollapse_83).trans (aG_cg fun w2 => rI_cg fun x3 => ?_)
  refine (g_aload_nH c72006 dJ31_mergeCollapse_84 rfl).trans ?_
  refine (g_getRH c72006 dJ31_mergeCollapse_85 rfl).trans (rR_cg fun r4 => ?_)
  refine (g_iload_nH c72006 dJ31_mergeCollapse_88 rfl).trans ?_
  refine (g_iconstH (x := 1) c72006 dJ31_mergeCollapse_89 rfl).trans ?_
  refine (g_iaddH c72006 dJ31_mergeCollapse_90).trans ?_
  refine (g_ialoadH c72006 dJ31_mergeCollapse_91).trans (aG_cg fun w5 => rI_cg fun x6 => ?_)
  refine (g_icmp_geH (tgt := 125) c72006 dJ31_mergeCollapse_92 rfl).trans (if_cg ?_ ?_)
  · skip
    refine (g_aload_nH c72006 dJ31_mergeCollapse_125 rfl).trans ?_
    refine (g_iload_nH c72006 dJ31_mergeCollapse_126 rfl).trans ?_
    refine (g_virtualH (as := [.ref a0, .int i1]) (rest := []) c72006 dJ31_mergeCollapse_127 rfl rfl rfl rfl rfl).trans ((jback_VH (κx := cX) (fun e h => jthrow_outH rfl)).trans (cV_cg fun h8 => ?_))
    refine (g_gotoH (tgt := 0) c72006 dJ31_mergeCollapse_130 rfl).trans ?_
    rfl
  · skip
    refine (g_iincH (c := (-1)) (L' := [.ref a0, .int (i1 + (-1))]) c72006 dJ31_mergeCollapse_95 rfl rfl rfl rfl).trans ?_
    refine (g_gotoH (tgt := 125) c72006 dJ31_mergeCollapse_98 rfl).trans ?_
    refine (g_aload_nH c72006 dJ31_mergeCollapse_125 rfl).trans ?_
    refine (g_iload_nH c72006 dJ31_mergeCollapse_126 rfl).trans ?_
    refine (g_virtualH (as := [.ref a0, .int (i1 + (-1))]) (rest := []) c72006 dJ31_mergeCollapse_127 rfl rfl rfl rfl rfl).trans ((jback_VH (κx := cX) (fun e h => jthrow_outH rfl)).trans (cV_cg fun h10 => ?_))
    refine (g_gotoH (tgt := 0) c72006 dJ31_mergeCollapse_130 rfl).trans ?_
    rfl
theorem F72006_101 (d : Nat) (a0 : Nat) (i1 : Int32) (h : AH) : G2 d 72006 101 [.ref a0, .int i1] [] h = if i1 < 0 then (some (.inl none, h)) else (zpR (jf (jc h (.ref a0)) [72] 7) (fun r1 => zqG h r1 [1000, 1001] i1 (fun w2 => zpI w2 (fun x3 => zpR (jf (jc h (.ref a0)) [72] 7) (fun r4 => zqG h r4 [1000, 1001] (i1 + 1) (fun w5 => zpI w5 (fun x6 => if x3 ≤ x6 then (zcV (M2 d 72005 [.ref a0, .int i1] h) (fun h8 => G2 d 72006 0 [.ref a0, .int i1] [] h8) ()) else (some (.inl none, h))) ()) ()) ()) ()) ()) ()) := by
  refine (g_iload_nH c72006 dJ31_mergeCollapse_101 rfl).trans ?_
  refine (g_if_ltH (tgt := 133) c72006 dJ31_mergeCollapse_102 rfl).trans (if_cg ?_ ?_)
  · skip
    exact g_returnH c72006 dJ31_mergeCollapse_133 rfl
  · skip
    refine (g_aload_nH c72006 dJ31_mergeCollapse_105 rfl).trans ?_
    refine (g_getRH c72006 dJ31_mergeCollapse_106 rfl).trans (rR_cg fun r1 => ?_)
    refine (g_iload_nH c72006 dJ31_mergeCollapse_109 rfl).trans ?_
    refine (g_ialoadH c72006 dJ31_mergeCollapse_110).trans (aG_cg fun w2 => rI_cg fun x3 => ?_)
    refine (g_aload_nH c72006 dJ31_mergeCollapse_111 rfl).trans ?_
    refine (g_getRH c72006 dJ31_mergeCollapse_112 rfl).trans (rR_cg fun r4 => ?_)
    refine (g_iload_nH c72006 dJ31_mergeCollapse_115 rfl).trans ?_
    refine (g_iconstH (x := 1) c72006 dJ31_mergeCollapse_116 rfl).trans ?_
    refine (g_iaddH c72006 dJ31_mergeCollapse_117).trans ?_
    refine (g_ialoadH c72006 dJ31_mergeCollapse_118).trans (aG_cg fun w5 => rI_cg fun x6 => ?_)
    refine (g_icmp_leH (tgt := 125) c72006 dJ31_mergeCollapse_119 rfl).trans (if_cg ?_ ?_)
    · skip
      refine (g_aload_nH c72006 dJ31_mergeCollapse_125 rfl).trans ?_
      refine (g_iload_nH c72006 dJ31_mergeCollapse_126 rfl).trans ?_
      refine (g_virtualH (as := [.ref a0, .int i1]) (rest := []) c72006 dJ31_mergeCollapse_127 rfl rfl rfl rfl rfl).trans ((jback_VH (κx := cX) (fun e h => jthrow_outH rfl)).trans (cV_cg fun h8 => ?_))
      refine (g_gotoH (tgt := 0) c72006 dJ31_mergeCollapse_130 rfl).trans ?_
      rfl
    · skip
      refine (g_gotoH (tgt := 133) c72006 dJ31_mergeCollapse_122 rfl).trans ?_
      exact g_returnH c72006 dJ31_mergeCollapse_133 rfl
theorem Y72006 {d : Nat} {a0 : Nat} (h : AH) (hr : jrecv 72006 [.ref a0] h = true) : M2 (d + 1) 72006 [.ref a0] h = G2 d 72006 0 [.ref a0, jno] [] h := M2_eq rfl rfl hr rfl
/-! java/util/ComparableTimSort.mergeForceCollapse()V -/
abbrev cJ31_mergeForceCollapse : ByteArray := prog_74_method_9_code
def dkwJ31_mergeForceCollapse_2 : List UInt8 := [167, 255, 210, 177]
abbrev dktJ31_mergeForceCollapse_2 : List UInt8 := dkwJ31_mergeForceCollapse_2 ++ []
def dkwJ31_mergeForceCollapse_1 : List UInt8 := [4, 100, 46, 42, 180, 0, 34, 27, 4, 96, 46, 162, 0, 6, 132, 1, 255, 42, 27, 182, 0, 85]
abbrev dktJ31_mergeForceCollapse_1 : List UInt8 := dkwJ31_mergeForceCollapse_1 ++ dktJ31_mergeForceCollapse_2
def dkwJ31_mergeForceCollapse_0 : List UInt8 := [42, 180, 0, 13, 4, 164, 0, 44, 42, 180, 0, 13, 5, 100, 60, 27, 158, 0, 25, 42, 180, 0, 34, 27]
abbrev dktJ31_mergeForceCollapse_0 : List UInt8 := dkwJ31_mergeForceCollapse_0 ++ dktJ31_mergeForceCollapse_1
theorem dksJ31_mergeForceCollapse_0 : cJ31_mergeForceCollapse.data.toList.drop 0 = dktJ31_mergeForceCollapse_0 := by decide +kernel
theorem dksJ31_mergeForceCollapse_1 : cJ31_mergeForceCollapse.data.toList.drop 24 = dktJ31_mergeForceCollapse_1 := dk_seg dksJ31_mergeForceCollapse_0 24 rfl rfl
theorem dksJ31_mergeForceCollapse_2 : cJ31_mergeForceCollapse.data.toList.drop 46 = dktJ31_mergeForceCollapse_2 := dk_seg dksJ31_mergeForceCollapse_1 22 rfl rfl
theorem dJ31_mergeForceCollapse_0 : decode cJ31_mergeForceCollapse 0 = .ok (.aload_n 0, 1) := dk_42 (dk_at dksJ31_mergeForceCollapse_0 0 rfl rfl)
theorem dJ31_mergeForceCollapse_1 : decode cJ31_mergeForceCollapse 1 = .ok (.getfield 13, 3) := dk_180 0 13 (dk_at dksJ31_mergeForceCollapse_0 1 rfl rfl)
theorem dJ31_mergeForceCollapse_4 : decode cJ31_mergeForceCollapse 4 = .ok (.iconst 1, 1) := dk_4 (dk_at dksJ31_mergeForceCollapse_0 4 rfl rfl)
theorem dJ31_mergeForceCollapse_5 : decode cJ31_mergeForceCollapse 5 = .ok (.if_icmp .le 44, 3) := dk_164 0 44 (dk_at dksJ31_mergeForceCollapse_0 5 rfl rfl)
theorem dJ31_mergeForceCollapse_8 : decode cJ31_mergeForceCollapse 8 = .ok (.aload_n 0, 1) := dk_42 (dk_at dksJ31_mergeForceCollapse_0 8 rfl rfl)
theorem dJ31_mergeForceCollapse_9 : decode cJ31_mergeForceCollapse 9 = .ok (.getfield 13, 3) := dk_180 0 13 (dk_at dksJ31_mergeForceCollapse_0 9 rfl rfl)
theorem dJ31_mergeForceCollapse_12 : decode cJ31_mergeForceCollapse 12 = .ok (.iconst 2, 1) := dk_5 (dk_at dksJ31_mergeForceCollapse_0 12 rfl rfl)
theorem dJ31_mergeForceCollapse_13 : decode cJ31_mergeForceCollapse 13 = .ok (.isub, 1) := dk_100 (dk_at dksJ31_mergeForceCollapse_0 13 rfl rfl)
theorem dJ31_mergeForceCollapse_14 : decode cJ31_mergeForceCollapse 14 = .ok (.istore_n 1, 1) := dk_60 (dk_at dksJ31_mergeForceCollapse_0 14 rfl rfl)
theorem dJ31_mergeForceCollapse_15 : decode cJ31_mergeForceCollapse 15 = .ok (.iload_n 1, 1) := dk_27 (dk_at dksJ31_mergeForceCollapse_0 15 rfl rfl)
theorem dJ31_mergeForceCollapse_16 : decode cJ31_mergeForceCollapse 16 = .ok (.ifCond .le 25, 3) := dk_158 0 25 (dk_at dksJ31_mergeForceCollapse_0 16 rfl rfl)
theorem dJ31_mergeForceCollapse_19 : decode cJ31_mergeForceCollapse 19 = .ok (.aload_n 0, 1) := dk_42 (dk_at dksJ31_mergeForceCollapse_0 19 rfl rfl)
theorem dJ31_mergeForceCollapse_20 : decode cJ31_mergeForceCollapse 20 = .ok (.getfield 34, 3) := dk_180 0 34 (dk_at dksJ31_mergeForceCollapse_0 20 rfl rfl)
theorem dJ31_mergeForceCollapse_23 : decode cJ31_mergeForceCollapse 23 = .ok (.iload_n 1, 1) := dk_27 (dk_at dksJ31_mergeForceCollapse_0 23 rfl rfl)
theorem dJ31_mergeForceCollapse_24 : decode cJ31_mergeForceCollapse 24 = .ok (.iconst 1, 1) := dk_4 (dk_at dksJ31_mergeForceCollapse_1 0 rfl rfl)
theorem dJ31_mergeForceCollapse_25 : decode cJ31_mergeForceCollapse 25 = .ok (.isub, 1) := dk_100 (dk_at dksJ31_mergeForceCollapse_1 1 rfl rfl)
theorem dJ31_mergeForceCollapse_26 : decode cJ31_mergeForceCollapse 26 = .ok (.iaload, 1) := dk_46 (dk_at dksJ31_mergeForceCollapse_1 2 rfl rfl)
theorem dJ31_mergeForceCollapse_27 : decode cJ31_mergeForceCollapse 27 = .ok (.aload_n 0, 1) := dk_42 (dk_at dksJ31_mergeForceCollapse_1 3 rfl rfl)
theorem dJ31_mergeForceCollapse_28 : decode cJ31_mergeForceCollapse 28 = .ok (.getfield 34, 3) := dk_180 0 34 (dk_at dksJ31_mergeForceCollapse_1 4 rfl rfl)
theorem dJ31_mergeForceCollapse_31 : decode cJ31_mergeForceCollapse 31 = .ok (.iload_n 1, 1) := dk_27 (dk_at dksJ31_mergeForceCollapse_1 7 rfl rfl)
theorem dJ31_mergeForceCollapse_32 : decode cJ31_mergeForceCollapse 32 = .ok (.iconst 1, 1) := dk_4 (dk_at dksJ31_mergeForceCollapse_1 8 rfl rfl)
theorem dJ31_mergeForceCollapse_33 : decode cJ31_mergeForceCollapse 33 = .ok (.iadd, 1) := dk_96 (dk_at dksJ31_mergeForceCollapse_1 9 rfl rfl)
theorem dJ31_mergeForceCollapse_34 : decode cJ31_mergeForceCollapse 34 = .ok (.iaload, 1) := dk_46 (dk_at dksJ31_mergeForceCollapse_1 10 rfl rfl)
theorem dJ31_mergeForceCollapse_35 : decode cJ31_mergeForceCollapse 35 = .ok (.if_icmp .ge 6, 3) := dk_162 0 6 (dk_at dksJ31_mergeForceCollapse_1 11 rfl rfl)
theorem dJ31_mergeForceCollapse_38 : decode cJ31_mergeForceCollapse 38 = .ok (.iinc 1 (-1), 3) := dk_132 1 255 (dk_at dksJ31_mergeForceCollapse_1 14 rfl rfl)
theorem dJ31_mergeForceCollapse_41 : decode cJ31_mergeForceCollapse 41 = .ok (.aload_n 0, 1) := dk_42 (dk_at dksJ31_mergeForceCollapse_1 17 rfl rfl)
theorem dJ31_mergeForceCollapse_42 : decode cJ31_mergeForceCollapse 42 = .ok (.iload_n 1, 1) := dk_27 (dk_at dksJ31_mergeForceCollapse_1 18 rfl rfl)
theorem dJ31_mergeForceCollapse_43 : decode cJ31_mergeForceCollapse 43 = .ok (.invokevirtual 85, 3) := dk_182 0 85 (dk_at dksJ31_mergeForceCollapse_1 19 rfl rfl)
theorem dJ31_mergeForceCollapse_46 : decode cJ31_mergeForceCollapse 46 = .ok (.goto (-46), 3) := dk_167 255 210 (dk_at dksJ31_mergeForceCollapse_2 0 rfl rfl)
theorem dJ31_mergeForceCollapse_49 : decode cJ31_mergeForceCollapse 49 = .ok (.return_, 1) := dk_177 (dk_at dksJ31_mergeForceCollapse_2 3 rfl rfl)
theorem c72007 : jtCode 72007 = cJ31_mergeForceCollapse := rfl
theorem F72007_0 (d : Nat) (a0 : Nat) (h : AH) : G2 d 72007 0 [.ref a0, jno] [] h = zpI (jf (jc h (.ref a0)) [72] 5) (fun x1 => if x1 ≤ 1 then (some (.inl none, h)) else (zpI (jf (jc h (.ref a0)) [72] 5) (fun x2 => if (x2 - 2) ≤ 0 then (zcV (M2 d 72005 [.ref a0, .int (x2 - 2)] h) (fun h4 => G2 d 72007 0 [.ref a0, .int (x2 - 2)] [] h4) ()) else (zpR (jf (jc h (.ref a0)) [72] 7) (fun r5 => zqG h r5 [1000, 1001] ((x2 - 2) - 1) (fun w6 => zpI w6 (fun x7 => zpR (jf (jc h (.ref a0)) [72] 7) (fun r8 => zqG h r8 [1000, 1001] ((x2 - 2) + 1) (fun w9 => zpI w9 (fun x10 => if x10 ≤ x7 then (zcV (M2 d 72005 [.ref a0, .int (x2 - 2)] h) (fun h12 => G2 d 72007 0 [.ref a0, .int (x2 - 2)] [] h12) ()) else (zcV (M2 d 72005 [.ref a0, .int ((x2 - 2) + (-1))] h) (fun h14 => G2 d 72007 0 [.ref a0, .int ((x2 - 2) + (-1))] [] h14) ())) ()) ()) ()) ()) ()) ())) ())) () := by
  refine (g_aload_nH c72007 dJ31_mergeForceCollapse_0 rfl).trans ?_
  refine (g_getIH c72007 dJ31_mergeForceCollapse_1 rfl rfl).trans (rI_cg fun x1 => ?_)
  refine (g_iconstH (x := 1) c72007 dJ31_mergeForceCollapse_4 rfl).trans ?_
  refine (g_icmp_leH (tgt := 49) c72007 dJ31_mergeForceCollapse_5 rfl).trans (if_cg ?_ ?_)
  · skip
    exact g_returnH c72007 dJ31_mergeForceCollapse_49 rfl
  · skip
    refine (g_aload_nH c72007 dJ31_mergeForceCollapse_8 rfl).trans ?_
    refine (g_getIH c72007 dJ31_mergeForceCollapse_9 rfl rfl).trans (rI_cg fun x2 => ?_)
    refine (g_iconstH (x := 2) c72007 dJ31_mergeForceCollapse_12 rfl).trans ?_
    refine (g_isubH c72007 dJ31_mergeForceCollapse_13).trans ?_
    refine (g_istore_nH (L' := [.ref a0, .int (x2 - 2)]) c72007 dJ31_mergeForceCollapse_14 rfl rfl).trans ?_
    refine (g_iload_nH c72007 dJ31_mergeForceCollapse_15 rfl).trans ?_
    refine (g_if_leH (tgt := 41) c72007 dJ31_mergeForceCollapse_16 rfl).trans (if_cg ?_ ?_)
    · skip
      refine (g_aload_nH c72007 dJ31_mergeForceCollapse_41 rfl).trans ?_
      refine (g_iload_nH c72007 dJ31_mergeForceCollapse_42 rfl).trans ?_
      refine (g_virtualH (as := [.ref a0, .int (x2 - 2)]) (rest := []) c72007 dJ31_mergeForceCollapse_43 rfl rfl rfl rfl rfl).trans ((jback_VH (κx := cX) (fun e h => jthrow_outH rfl)).trans (cV_cg fun h4 => ?_))
      refine (g_gotoH (tgt := 0) c72007 dJ31_mergeForceCollapse_46 rfl).trans ?_
      rfl
    · skip
      refine (g_aload_nH c72007 dJ31_mergeForceCollapse_19 rfl).trans ?_
      refine (g_getRH c72007 dJ31_mergeForceCollapse_20 rfl).trans (rR_cg fun r5 => ?_)
      refine (g_iload_nH c72007 dJ31_mergeForceCollapse_23 rfl).trans ?_
      refine (g_iconstH (x := 1) c72007 dJ31_mergeForceCollapse_24 rfl).trans ?_
      refine (g_isubH c72007 dJ31_mergeForceCollapse_25).trans ?_
      refine (g_ialoadH c72007 dJ31_mergeForceCollapse_26).trans (aG_cg fun w6 => rI_cg fun x7 => ?_)
      refine (g_aload_nH c72007 dJ31_mergeForceCollapse_27 rfl).trans ?_
      refine (g_getRH c72007 dJ31_mergeForceCollapse_28 rfl).trans (rR_cg fun r8 => ?_)
      refine (g_iload_nH c72007 dJ31_mergeForceCollapse_31 rfl).trans ?_
      refine (g_iconstH (x := 1) c72007 dJ31_mergeForceCollapse_32 rfl).trans ?_
      refine (g_iaddH c72007 dJ31_mergeForceCollapse_33).trans ?_
      refine (g_ialoadH c72007 dJ31_mergeForceCollapse_34).trans (aG_cg fun w9 => rI_cg fun x10 => ?_)
      refine (g_icmp_geH (tgt := 41) c72007 dJ31_mergeForceCollapse_35 rfl).trans (if_cg ?_ ?_)
      · skip
        refine (g_aload_nH c72007 dJ31_mergeForceCollapse_41 rfl).trans ?_
        refine (g_iload_nH c72007 dJ31_mergeForceCollapse_42 rfl).trans ?_
        refine (g_virtualH (as := [.ref a0, .int (x2 - 2)]) (rest := []) c72007 dJ31_mergeForceCollapse_43 rfl rfl rfl rfl rfl).trans ((jback_VH (κx := cX) (fun e h => jthrow_outH rfl)).trans (cV_cg fun h12 => ?_))
        refine (g_gotoH (tgt := 0) c72007 dJ31_mergeForceCollapse_46 rfl).trans ?_
        rfl
      · skip
        refine (g_iincH (c := (-1)) (L' := [.ref a0, .int ((x2 - 2) + (-1))]) c72007 dJ31_mergeForceCollapse_38 rfl rfl rfl rfl).trans ?_
        refine (g_aload_nH c72007 dJ31_mergeForceCollapse_41 rfl).trans ?_
        refine (g_iload_nH c72007 dJ31_mergeForceCollapse_42 rfl).trans ?_
        refine (g_virtualH (as := [.ref a0, .int ((x2 - 2) + (-1))]) (rest := []) c72007 dJ31_mergeForceCollapse_43 rfl rfl rfl rfl rfl).trans ((jback_VH (κx := cX) (fun e h => jthrow_outH rfl)).trans (cV_cg fun h14 => ?_))
        refine (g_gotoH (tgt := 0) c72007 dJ31_mergeForceCollapse_46 rfl).trans ?_
        rfl
theorem Y72007 {d : Nat} {a0 : Nat} (h : AH) (hr : jrecv 72007 [.ref a0] h = true) : M2 (d + 1) 72007 [.ref a0] h = G2 d 72007 0 [.ref a0, jno] [] h := M2_eq rfl rfl hr rfl
/-! java/util/ComparableTimSort.mergeHi(IIII)V -/
abbrev cJ31_mergeHi : ByteArray := prog_74_method_14_code
def dkwJ31_mergeHi_31 : List UInt8 := [100, 100, 21, 4, 184, 0, 75, 177]
abbrev dktJ31_mergeHi_31 : List UInt8 := dkwJ31_mergeHi_31 ++ []
def dkwJ31_mergeHi_30 : List UInt8 := [21, 4, 157, 0, 11, 187, 0, 41, 89, 183, 0, 43, 191, 25, 6, 21, 7, 25, 5, 21, 10, 21, 4, 4]
abbrev dktJ31_mergeHi_30 : List UInt8 := dkwJ31_mergeHi_30 ++ dktJ31_mergeHi_31
def dkwJ31_mergeHi_29 : List UInt8 := [178, 0, 37, 154, 0, 15, 28, 153, 0, 11, 187, 0, 41, 89, 183, 0, 43, 191, 178, 0, 37, 154, 0, 16]
abbrev dktJ31_mergeHi_29 : List UInt8 := dkwJ31_mergeHi_29 ++ dktJ31_mergeHi_30
def dkwJ31_mergeHi_28 : List UInt8 := [25, 6, 21, 9, 50, 83, 167, 0, 73, 21, 4, 154, 0, 13, 187, 0, 107, 89, 18, 109, 183, 0, 111, 191]
abbrev dktJ31_mergeHi_28 : List UInt8 := dkwJ31_mergeHi_28 ++ dktJ31_mergeHi_29
def dkwJ31_mergeHi_27 : List UInt8 := [100, 54, 8, 25, 5, 21, 8, 4, 96, 25, 5, 21, 10, 4, 96, 28, 184, 0, 75, 25, 5, 21, 10]
abbrev dktJ31_mergeHi_27 : List UInt8 := dkwJ31_mergeHi_27 ++ dktJ31_mergeHi_28
def dkwJ31_mergeHi_26 : List UInt8 := [154, 0, 15, 28, 157, 0, 11, 187, 0, 41, 89, 183, 0, 43, 191, 21, 10, 28, 100, 54, 10, 21, 8, 28]
abbrev dktJ31_mergeHi_26 : List UInt8 := dkwJ31_mergeHi_26 ++ dktJ31_mergeHi_27
def dkwJ31_mergeHi_25 : List UInt8 := [21, 11, 4, 162, 0, 7, 4, 167, 0, 5, 21, 11, 181, 0, 9, 21, 4, 4, 160, 0, 62, 178, 0, 37]
abbrev dktJ31_mergeHi_25 : List UInt8 := dkwJ31_mergeHi_25 ++ dktJ31_mergeHi_26
def dkwJ31_mergeHi_24 : List UInt8 := [167, 0, 4, 3, 128, 154, 255, 2, 21, 11, 156, 0, 6, 3, 54, 11, 132, 11, 2, 167, 254, 117, 42]
abbrev dktJ31_mergeHi_24 : List UInt8 := dkwJ31_mergeHi_24 ++ dktJ31_mergeHi_25
def dkwJ31_mergeHi_23 : List UInt8 := [132, 11, 255, 21, 12, 16, 7, 161, 0, 7, 4, 167, 0, 4, 3, 21, 13, 16, 7, 161, 0, 7, 4]
abbrev dktJ31_mergeHi_23 : List UInt8 := dkwJ31_mergeHi_23 ++ dktJ31_mergeHi_24
def dkwJ31_mergeHi_22 : List UInt8 := [132, 10, 255, 25, 5, 21, 8, 132, 8, 255, 50, 83, 132, 2, 255, 28, 154, 0, 6, 167, 0, 48]
abbrev dktJ31_mergeHi_22 : List UInt8 := dkwJ31_mergeHi_22 ++ dktJ31_mergeHi_23
def dkwJ31_mergeHi_21 : List UInt8 := [21, 10, 4, 96, 21, 13, 184, 0, 75, 21, 4, 4, 163, 0, 6, 167, 0, 74, 25, 5, 21, 10]
abbrev dktJ31_mergeHi_21 : List UInt8 := dkwJ31_mergeHi_21 ++ dktJ31_mergeHi_22
def dkwJ31_mergeHi_20 : List UInt8 := [54, 10, 21, 9, 21, 13, 100, 54, 9, 21, 4, 21, 13, 100, 54, 4, 25, 6, 21, 9, 4, 96, 25, 5]
abbrev dktJ31_mergeHi_20 : List UInt8 := dkwJ31_mergeHi_20 ++ dktJ31_mergeHi_21
def dkwJ31_mergeHi_19 : List UInt8 := [21, 7, 21, 4, 21, 4, 4, 100, 184, 0, 93, 100, 54, 13, 21, 13, 153, 0, 50, 21, 10, 21, 13, 100]
abbrev dktJ31_mergeHi_19 : List UInt8 := dkwJ31_mergeHi_19 ++ dktJ31_mergeHi_20
def dkwJ31_mergeHi_18 : List UInt8 := [132, 4, 255, 21, 4, 4, 160, 0, 6, 167, 0, 152, 21, 4, 25, 5, 21, 8, 50, 192, 0, 69, 25, 6]
abbrev dktJ31_mergeHi_18 : List UInt8 := dkwJ31_mergeHi_18 ++ dktJ31_mergeHi_19
def dkwJ31_mergeHi_17 : List UInt8 := [154, 0, 6, 167, 0, 180, 25, 5, 21, 10, 132, 10, 255, 25, 6, 21, 9, 132, 9, 255, 50, 83]
abbrev dktJ31_mergeHi_17 : List UInt8 := dkwJ31_mergeHi_17 ++ dktJ31_mergeHi_18
def dkwJ31_mergeHi_16 : List UInt8 := [21, 12, 100, 61, 25, 5, 21, 8, 4, 96, 25, 5, 21, 10, 4, 96, 21, 12, 184, 0, 75, 28]
abbrev dktJ31_mergeHi_16 : List UInt8 := dkwJ31_mergeHi_16 ++ dktJ31_mergeHi_17
def dkwJ31_mergeHi_15 : List UInt8 := [100, 54, 12, 21, 12, 153, 0, 46, 21, 10, 21, 12, 100, 54, 10, 21, 8, 21, 12, 100, 54, 8, 28]
abbrev dktJ31_mergeHi_15 : List UInt8 := dkwJ31_mergeHi_15 ++ dktJ31_mergeHi_16
def dkwJ31_mergeHi_14 : List UInt8 := [89, 183, 0, 43, 191, 28, 25, 6, 21, 9, 50, 192, 0, 69, 25, 5, 27, 28, 28, 4, 100, 184, 0, 89]
abbrev dktJ31_mergeHi_14 : List UInt8 := dkwJ31_mergeHi_14 ++ dktJ31_mergeHi_15
def dkwJ31_mergeHi_13 : List UInt8 := [21, 11, 161, 255, 138, 178, 0, 37, 154, 0, 21, 28, 158, 0, 9, 21, 4, 4, 163, 0, 11, 187, 0, 41]
abbrev dktJ31_mergeHi_13 : List UInt8 := dkwJ31_mergeHi_13 ++ dktJ31_mergeHi_14
def dkwJ31_mergeHi_12 : List UInt8 := [132, 13, 1, 3, 54, 12, 132, 4, 255, 21, 4, 4, 160, 0, 6, 167, 1, 28, 21, 12, 21, 13, 128]
abbrev dktJ31_mergeHi_12 : List UInt8 := dkwJ31_mergeHi_12 ++ dktJ31_mergeHi_13
def dkwJ31_mergeHi_11 : List UInt8 := [154, 0, 40, 167, 1, 62, 25, 5, 21, 10, 132, 10, 255, 25, 6, 21, 9, 132, 9, 255, 50, 83]
abbrev dktJ31_mergeHi_11 : List UInt8 := dkwJ31_mergeHi_11 ++ dktJ31_mergeHi_12
def dkwJ31_mergeHi_10 : List UInt8 := [132, 10, 255, 25, 5, 21, 8, 132, 8, 255, 50, 83, 132, 12, 1, 3, 54, 13, 132, 2, 255, 28]
abbrev dktJ31_mergeHi_10 : List UInt8 := dkwJ31_mergeHi_10 ++ dktJ31_mergeHi_11
def dkwJ31_mergeHi_9 : List UInt8 := [21, 9, 50, 192, 0, 69, 25, 5, 21, 8, 50, 185, 0, 71, 2, 0, 156, 0, 35, 25, 5, 21, 10]
abbrev dktJ31_mergeHi_9 : List UInt8 := dkwJ31_mergeHi_9 ++ dktJ31_mergeHi_10
def dkwJ31_mergeHi_8 : List UInt8 := [154, 0, 21, 28, 158, 0, 9, 21, 4, 4, 163, 0, 11, 187, 0, 41, 89, 183, 0, 43, 191, 25, 6]
abbrev dktJ31_mergeHi_8 : List UInt8 := dkwJ31_mergeHi_8 ++ dktJ31_mergeHi_9
def dkwJ31_mergeHi_7 : List UInt8 := [21, 10, 25, 6, 21, 9, 50, 83, 177, 42, 180, 0, 9, 54, 11, 3, 54, 12, 3, 54, 13, 178, 0, 37]
abbrev dktJ31_mergeHi_7 : List UInt8 := dkwJ31_mergeHi_7 ++ dktJ31_mergeHi_8
def dkwJ31_mergeHi_6 : List UInt8 := [21, 8, 28, 100, 54, 8, 25, 5, 21, 8, 4, 96, 25, 5, 21, 10, 4, 96, 28, 184, 0, 75, 25, 5]
abbrev dktJ31_mergeHi_6 : List UInt8 := dkwJ31_mergeHi_6 ++ dktJ31_mergeHi_7
def dkwJ31_mergeHi_5 : List UInt8 := [21, 4, 4, 100, 100, 21, 4, 184, 0, 75, 177, 21, 4, 4, 160, 0, 42, 21, 10, 28, 100, 54, 10]
abbrev dktJ31_mergeHi_5 : List UInt8 := dkwJ31_mergeHi_5 ++ dktJ31_mergeHi_6
def dkwJ31_mergeHi_4 : List UInt8 := [25, 5, 21, 8, 132, 8, 255, 50, 83, 132, 2, 255, 28, 154, 0, 22, 25, 6, 21, 7, 25, 5, 21, 10]
abbrev dktJ31_mergeHi_4 : List UInt8 := dkwJ31_mergeHi_4 ++ dktJ31_mergeHi_5
def dkwJ31_mergeHi_3 : List UInt8 := [21, 7, 21, 4, 96, 4, 100, 54, 9, 29, 21, 4, 96, 4, 100, 54, 10, 25, 5, 21, 10, 132, 10, 255]
abbrev dktJ31_mergeHi_3 : List UInt8 := dkwJ31_mergeHi_3 ++ dktJ31_mergeHi_4
def dkwJ31_mergeHi_2 : List UInt8 := [180, 0, 23, 54, 7, 25, 5, 29, 25, 6, 21, 7, 21, 4, 184, 0, 75, 27, 28, 96, 4, 100, 54, 8]
abbrev dktJ31_mergeHi_2 : List UInt8 := dkwJ31_mergeHi_2 ++ dktJ31_mergeHi_3
def dkwJ31_mergeHi_1 : List UInt8 := [187, 0, 41, 89, 183, 0, 43, 191, 42, 180, 0, 16, 58, 5, 42, 21, 4, 182, 0, 103, 58, 6, 42]
abbrev dktJ31_mergeHi_1 : List UInt8 := dkwJ31_mergeHi_1 ++ dktJ31_mergeHi_2
def dkwJ31_mergeHi_0 : List UInt8 := [178, 0, 37, 154, 0, 27, 28, 158, 0, 15, 21, 4, 158, 0, 10, 27, 28, 96, 29, 159, 0, 11]
abbrev dktJ31_mergeHi_0 : List UInt8 := dkwJ31_mergeHi_0 ++ dktJ31_mergeHi_1
theorem dksJ31_mergeHi_0 : cJ31_mergeHi.data.toList.drop 0 = dktJ31_mergeHi_0 := by decide +kernel
theorem dksJ31_mergeHi_1 : cJ31_mergeHi.data.toList.drop 22 = dktJ31_mergeHi_1 := dk_seg dksJ31_mergeHi_0 22 rfl rfl
theorem dksJ31_mergeHi_2 : cJ31_mergeHi.data.toList.drop 45 = dktJ31_mergeHi_2 := dk_seg dksJ31_mergeHi_1 23 rfl rfl
theorem dksJ31_mergeHi_3 : cJ31_mergeHi.data.toList.drop 69 = dktJ31_mergeHi_3 := dk_seg dksJ31_mergeHi_2 24 rfl rfl
theorem dksJ31_mergeHi_4 : cJ31_mergeHi.data.toList.drop 93 = dktJ31_mergeHi_4 := dk_seg dksJ31_mergeHi_3 24 rfl rfl
theorem dksJ31_mergeHi_5 : cJ31_mergeHi.data.toList.drop 117 = dktJ31_mergeHi_5 := dk_seg dksJ31_mergeHi_4 24 rfl rfl
theorem dksJ31_mergeHi_6 : cJ31_mergeHi.data.toList.drop 140 = dktJ31_mergeHi_6 := dk_seg dksJ31_mergeHi_5 23 rfl rfl
theorem dksJ31_mergeHi_7 : cJ31_mergeHi.data.toList.drop 164 = dktJ31_mergeHi_7 := dk_seg dksJ31_mergeHi_6 24 rfl rfl
theorem dksJ31_mergeHi_8 : cJ31_mergeHi.data.toList.drop 188 = dktJ31_mergeHi_8 := dk_seg dksJ31_mergeHi_7 24 rfl rfl
theorem dksJ31_mergeHi_9 : cJ31_mergeHi.data.toList.drop 211 = dktJ31_mergeHi_9 := dk_seg dksJ31_mergeHi_8 23 rfl rfl
theorem dksJ31_mergeHi_10 : cJ31_mergeHi.data.toList.drop 234 = dktJ31_mergeHi_10 := dk_seg dksJ31_mergeHi_9 23 rfl rfl
theorem dksJ31_mergeHi_11 : cJ31_mergeHi.data.toList.drop 256 = dktJ31_mergeHi_11 := dk_seg dksJ31_mergeHi_10 22 rfl rfl
theorem dksJ31_mergeHi_12 : cJ31_mergeHi.data.toList.drop 278 = dktJ31_mergeHi_12 := dk_seg dksJ31_mergeHi_11 22 rfl rfl
theorem dksJ31_mergeHi_13 : cJ31_mergeHi.data.toList.drop 301 = dktJ31_mergeHi_13 := dk_seg dksJ31_mergeHi_12 23 rfl rfl
theorem dksJ31_mergeHi_14 : cJ31_mergeHi.data.toList.drop 325 = dktJ31_mergeHi_14 := dk_seg dksJ31_mergeHi_13 24 rfl rfl
theorem dksJ31_mergeHi_15 : cJ31_mergeHi.data.toList.drop 349 = dktJ31_mergeHi_15 := dk_seg dksJ31_mergeHi_14 24 rfl rfl
theorem dksJ31_mergeHi_16 : cJ31_mergeHi.data.toList.drop 372 = dktJ31_mergeHi_16 := dk_seg dksJ31_mergeHi_15 23 rfl rfl
theorem dksJ31_mergeHi_17 : cJ31_mergeHi.data.toList.drop 394 = dktJ31_mergeHi_17 := dk_seg dksJ31_mergeHi_16 22 rfl rfl
theorem dksJ31_mergeHi_18 : cJ31_mergeHi.data.toList.drop 416 = dktJ31_mergeHi_18 := dk_seg dksJ31_mergeHi_17 22 rfl rfl
theorem dksJ31_mergeHi_19 : cJ31_mergeHi.data.toList.drop 440 = dktJ31_mergeHi_19 := dk_seg dksJ31_mergeHi_18 24 rfl rfl
theorem dksJ31_mergeHi_20 : cJ31_mergeHi.data.toList.drop 464 = dktJ31_mergeHi_20 := dk_seg dksJ31_mergeHi_19 24 rfl rfl
theorem dksJ31_mergeHi_21 : cJ31_mergeHi.data.toList.drop 488 = dktJ31_mergeHi_21 := dk_seg dksJ31_mergeHi_20 24 rfl rfl
theorem dksJ31_mergeHi_22 : cJ31_mergeHi.data.toList.drop 510 = dktJ31_mergeHi_22 := dk_seg dksJ31_mergeHi_21 22 rfl rfl
theorem dksJ31_mergeHi_23 : cJ31_mergeHi.data.toList.drop 532 = dktJ31_mergeHi_23 := dk_seg dksJ31_mergeHi_22 22 rfl rfl
theorem dksJ31_mergeHi_24 : cJ31_mergeHi.data.toList.drop 555 = dktJ31_mergeHi_24 := dk_seg dksJ31_mergeHi_23 23 rfl rfl
theorem dksJ31_mergeHi_25 : cJ31_mergeHi.data.toList.drop 578 = dktJ31_mergeHi_25 := dk_seg dksJ31_mergeHi_24 23 rfl rfl
theorem dksJ31_mergeHi_26 : cJ31_mergeHi.data.toList.drop 602 = dktJ31_mergeHi_26 := dk_seg dksJ31_mergeHi_25 24 rfl rfl
theorem dksJ31_mergeHi_27 : cJ31_mergeHi.data.toList.drop 626 = dktJ31_mergeHi_27 := dk_seg dksJ31_mergeHi_26 24 rfl rfl
theorem dksJ31_mergeHi_28 : cJ31_mergeHi.data.toList.drop 649 = dktJ31_mergeHi_28 := dk_seg dksJ31_mergeHi_27 23 rfl rfl
theorem dksJ31_mergeHi_29 : cJ31_mergeHi.data.toList.drop 673 = dktJ31_mergeHi_29 := dk_seg dksJ31_mergeHi_28 24 rfl rfl
theorem dksJ31_mergeHi_30 : cJ31_mergeHi.data.toList.drop 697 = dktJ31_mergeHi_30 := dk_seg dksJ31_mergeHi_29 24 rfl rfl
theorem dksJ31_mergeHi_31 : cJ31_mergeHi.data.toList.drop 721 = dktJ31_mergeHi_31 := dk_seg dksJ31_mergeHi_30 24 rfl rfl
theorem dJ31_mergeHi_0 : decode cJ31_mergeHi 0 = .ok (.getstatic 37, 3) := dk_178 0 37 (dk_at dksJ31_mergeHi_0 0 rfl rfl)
theorem dJ31_mergeHi_3 : decode cJ31_mergeHi 3 = .ok (.ifCond .ne 27, 3) := dk_154 0 27 (dk_at dksJ31_mergeHi_0 3 rfl rfl)
theorem dJ31_mergeHi_6 : decode cJ31_mergeHi 6 = .ok (.iload_n 2, 1) := dk_28 (dk_at dksJ31_mergeHi_0 6 rfl rfl)
theorem dJ31_mergeHi_7 : decode cJ31_mergeHi 7 = .ok (.ifCond .le 15, 3) := dk_158 0 15 (dk_at dksJ31_mergeHi_0 7 rfl rfl)
theorem dJ31_mergeHi_10 : decode cJ31_mergeHi 10 = .ok (.iload 4, 2) := dk_21 4 (dk_at dksJ31_mergeHi_0 10 rfl rfl)
theorem dJ31_mergeHi_12 : decode cJ31_mergeHi 12 = .ok (.ifCond .le 10, 3) := dk_158 0 10 (dk_at dksJ31_mergeHi_0 12 rfl rfl)
theorem dJ31_mergeHi_15 : decode cJ31_mergeHi 15 = .ok (.iload_n 1, 1) := dk_27 (dk_at dksJ31_mergeHi_0 15 rfl rfl)
theorem dJ31_mergeHi_16 : decode cJ31_mergeHi 16 = .ok (.iload_n 2, 1) := dk_28 (dk_at dksJ31_mergeHi_0 16 rfl rfl)
theorem dJ31_mergeHi_17 : decode cJ31_mergeHi 17 = .ok (.iadd, 1) := dk_96 (dk_at dksJ31_mergeHi_0 17 rfl rfl)
theorem dJ31_mergeHi_18 : decode cJ31_mergeHi 18 = .ok (.iload_n 3, 1) := dk_29 (dk_at dksJ31_mergeHi_0 18 rfl rfl)
theorem dJ31_mergeHi_19 : decode cJ31_mergeHi 19 = .ok (.if_icmp .eq 11, 3) := dk_159 0 11 (dk_at dksJ31_mergeHi_0 19 rfl rfl)
theorem dJ31_mergeHi_22 : decode cJ31_mergeHi 22 = .ok (.new 41, 3) := dk_187 0 41 (dk_at dksJ31_mergeHi_1 0 rfl rfl)
theorem dJ31_mergeHi_25 : decode cJ31_mergeHi 25 = .ok (.dup, 1) := dk_89 (dk_at dksJ31_mergeHi_1 3 rfl rfl)
theorem dJ31_mergeHi_26 : decode cJ31_mergeHi 26 = .ok (.invokespecial 43, 3) := dk_183 0 43 (dk_at dksJ31_mergeHi_1 4 rfl rfl)
theorem dJ31_mergeHi_29 : decode cJ31_mergeHi 29 = .ok (.athrow, 1) := dk_191 (dk_at dksJ31_mergeHi_1 7 rfl rfl)
theorem dJ31_mergeHi_30 : decode cJ31_mergeHi 30 = .ok (.aload_n 0, 1) := dk_42 (dk_at dksJ31_mergeHi_1 8 rfl rfl)
theorem dJ31_mergeHi_31 : decode cJ31_mergeHi 31 = .ok (.getfield 16, 3) := dk_180 0 16 (dk_at dksJ31_mergeHi_1 9 rfl rfl)
theorem dJ31_mergeHi_34 : decode cJ31_mergeHi 34 = .ok (.astore 5, 2) := dk_58 5 (dk_at dksJ31_mergeHi_1 12 rfl rfl)
theorem dJ31_mergeHi_36 : decode cJ31_mergeHi 36 = .ok (.aload_n 0, 1) := dk_42 (dk_at dksJ31_mergeHi_1 14 rfl rfl)
theorem dJ31_mergeHi_37 : decode cJ31_mergeHi 37 = .ok (.iload 4, 2) := dk_21 4 (dk_at dksJ31_mergeHi_1 15 rfl rfl)
theorem dJ31_mergeHi_39 : decode cJ31_mergeHi 39 = .ok (.invokevirtual 103, 3) := dk_182 0 103 (dk_at dksJ31_mergeHi_1 17 rfl rfl)
theorem dJ31_mergeHi_42 : decode cJ31_mergeHi 42 = .ok (.astore 6, 2) := dk_58 6 (dk_at dksJ31_mergeHi_1 20 rfl rfl)
theorem dJ31_mergeHi_44 : decode cJ31_mergeHi 44 = .ok (.aload_n 0, 1) := dk_42 (dk_at dksJ31_mergeHi_1 22 rfl rfl)
theorem dJ31_mergeHi_45 : decode cJ31_mergeHi 45 = .ok (.getfield 23, 3) := dk_180 0 23 (dk_at dksJ31_mergeHi_2 0 rfl rfl)
theorem dJ31_mergeHi_48 : decode cJ31_mergeHi 48 = .ok (.istore 7, 2) := dk_54 7 (dk_at dksJ31_mergeHi_2 3 rfl rfl)
theorem dJ31_mergeHi_50 : decode cJ31_mergeHi 50 = .ok (.aload 5, 2) := dk_25 5 (dk_at dksJ31_mergeHi_2 5 rfl rfl)
theorem dJ31_mergeHi_52 : decode cJ31_mergeHi 52 = .ok (.iload_n 3, 1) := dk_29 (dk_at dksJ31_mergeHi_2 7 rfl rfl)
theorem dJ31_mergeHi_53 : decode cJ31_mergeHi 53 = .ok (.aload 6, 2) := dk_25 6 (dk_at dksJ31_mergeHi_2 8 rfl rfl)
theorem dJ31_mergeHi_55 : decode cJ31_mergeHi 55 = .ok (.iload 7, 2) := dk_21 7 (dk_at dksJ31_mergeHi_2 10 rfl rfl)
theorem dJ31_mergeHi_57 : decode cJ31_mergeHi 57 = .ok (.iload 4, 2) := dk_21 4 (dk_at dksJ31_mergeHi_2 12 rfl rfl)
theorem dJ31_mergeHi_59 : decode cJ31_mergeHi 59 = .ok (.invokestatic 75, 3) := dk_184 0 75 (dk_at dksJ31_mergeHi_2 14 rfl rfl)
theorem dJ31_mergeHi_62 : decode cJ31_mergeHi 62 = .ok (.iload_n 1, 1) := dk_27 (dk_at dksJ31_mergeHi_2 17 rfl rfl)
theorem dJ31_mergeHi_63 : decode cJ31_mergeHi 63 = .ok (.iload_n 2, 1) := dk_28 (dk_at dksJ31_mergeHi_2 18 rfl rfl)
theorem dJ31_mergeHi_64 : decode cJ31_mergeHi 64 = .ok (.iadd, 1) := dk_96 (dk_at dksJ31_mergeHi_2 19 rfl rfl)
theorem dJ31_mergeHi_65 : decode cJ31_mergeHi 65 = .ok (.iconst 1, 1) := dk_4 (dk_at dksJ31_mergeHi_2 20 rfl rfl)
theorem dJ31_mergeHi_66 : decode cJ31_mergeHi 66 = .ok (.isub, 1) := dk_100 (dk_at dksJ31_mergeHi_2 21 rfl rfl)
theorem dJ31_mergeHi_67 : decode cJ31_mergeHi 67 = .ok (.istore 8, 2) := dk_54 8 (dk_at dksJ31_mergeHi_2 22 rfl rfl)
theorem dJ31_mergeHi_69 : decode cJ31_mergeHi 69 = .ok (.iload 7, 2) := dk_21 7 (dk_at dksJ31_mergeHi_3 0 rfl rfl)
theorem dJ31_mergeHi_71 : decode cJ31_mergeHi 71 = .ok (.iload 4, 2) := dk_21 4 (dk_at dksJ31_mergeHi_3 2 rfl rfl)
theorem dJ31_mergeHi_73 : decode cJ31_mergeHi 73 = .ok (.iadd, 1) := dk_96 (dk_at dksJ31_mergeHi_3 4 rfl rfl)
theorem dJ31_mergeHi_74 : decode cJ31_mergeHi 74 = .ok (.iconst 1, 1) := dk_4 (dk_at dksJ31_mergeHi_3 5 rfl rfl)
theorem dJ31_mergeHi_75 : decode cJ31_mergeHi 75 = .ok (.isub, 1) := dk_100 (dk_at dksJ31_mergeHi_3 6 rfl rfl)
theorem dJ31_mergeHi_76 : decode cJ31_mergeHi 76 = .ok (.istore 9, 2) := dk_54 9 (dk_at dksJ31_mergeHi_3 7 rfl rfl)
theorem dJ31_mergeHi_78 : decode cJ31_mergeHi 78 = .ok (.iload_n 3, 1) := dk_29 (dk_at dksJ31_mergeHi_3 9 rfl rfl)
theorem dJ31_mergeHi_79 : decode cJ31_mergeHi 79 = .ok (.iload 4, 2) := dk_21 4 (dk_at dksJ31_mergeHi_3 10 rfl rfl)
theorem dJ31_mergeHi_81 : decode cJ31_mergeHi 81 = .ok (.iadd, 1) := dk_96 (dk_at dksJ31_mergeHi_3 12 rfl rfl)
theorem dJ31_mergeHi_82 : decode cJ31_mergeHi 82 = .ok (.iconst 1, 1) := dk_4 (dk_at dksJ31_mergeHi_3 13 rfl rfl)
theorem dJ31_mergeHi_83 : decode cJ31_mergeHi 83 = .ok (.isub, 1) := dk_100 (dk_at dksJ31_mergeHi_3 14 rfl rfl)
theorem dJ31_mergeHi_84 : decode cJ31_mergeHi 84 = .ok (.istore 10, 2) := dk_54 10 (dk_at dksJ31_mergeHi_3 15 rfl rfl)
theorem dJ31_mergeHi_86 : decode cJ31_mergeHi 86 = .ok (.aload 5, 2) := dk_25 5 (dk_at dksJ31_mergeHi_3 17 rfl rfl)
theorem dJ31_mergeHi_88 : decode cJ31_mergeHi 88 = .ok (.iload 10, 2) := dk_21 10 (dk_at dksJ31_mergeHi_3 19 rfl rfl)
theorem dJ31_mergeHi_90 : decode cJ31_mergeHi 90 = .ok (.iinc 10 (-1), 3) := dk_132 10 255 (dk_at dksJ31_mergeHi_3 21 rfl rfl)
theorem dJ31_mergeHi_93 : decode cJ31_mergeHi 93 = .ok (.aload 5, 2) := dk_25 5 (dk_at dksJ31_mergeHi_4 0 rfl rfl)
theorem dJ31_mergeHi_95 : decode cJ31_mergeHi 95 = .ok (.iload 8, 2) := dk_21 8 (dk_at dksJ31_mergeHi_4 2 rfl rfl)
theorem dJ31_mergeHi_97 : decode cJ31_mergeHi 97 = .ok (.iinc 8 (-1), 3) := dk_132 8 255 (dk_at dksJ31_mergeHi_4 4 rfl rfl)
theorem dJ31_mergeHi_100 : decode cJ31_mergeHi 100 = .ok (.aaload, 1) := dk_50 (dk_at dksJ31_mergeHi_4 7 rfl rfl)
theorem dJ31_mergeHi_101 : decode cJ31_mergeHi 101 = .ok (.aastore, 1) := dk_83 (dk_at dksJ31_mergeHi_4 8 rfl rfl)
theorem dJ31_mergeHi_102 : decode cJ31_mergeHi 102 = .ok (.iinc 2 (-1), 3) := dk_132 2 255 (dk_at dksJ31_mergeHi_4 9 rfl rfl)
theorem dJ31_mergeHi_105 : decode cJ31_mergeHi 105 = .ok (.iload_n 2, 1) := dk_28 (dk_at dksJ31_mergeHi_4 12 rfl rfl)
theorem dJ31_mergeHi_106 : decode cJ31_mergeHi 106 = .ok (.ifCond .ne 22, 3) := dk_154 0 22 (dk_at dksJ31_mergeHi_4 13 rfl rfl)
theorem dJ31_mergeHi_109 : decode cJ31_mergeHi 109 = .ok (.aload 6, 2) := dk_25 6 (dk_at dksJ31_mergeHi_4 16 rfl rfl)
theorem dJ31_mergeHi_111 : decode cJ31_mergeHi 111 = .ok (.iload 7, 2) := dk_21 7 (dk_at dksJ31_mergeHi_4 18 rfl rfl)
theorem dJ31_mergeHi_113 : decode cJ31_mergeHi 113 = .ok (.aload 5, 2) := dk_25 5 (dk_at dksJ31_mergeHi_4 20 rfl rfl)
theorem dJ31_mergeHi_115 : decode cJ31_mergeHi 115 = .ok (.iload 10, 2) := dk_21 10 (dk_at dksJ31_mergeHi_4 22 rfl rfl)
theorem dJ31_mergeHi_117 : decode cJ31_mergeHi 117 = .ok (.iload 4, 2) := dk_21 4 (dk_at dksJ31_mergeHi_5 0 rfl rfl)
theorem dJ31_mergeHi_119 : decode cJ31_mergeHi 119 = .ok (.iconst 1, 1) := dk_4 (dk_at dksJ31_mergeHi_5 2 rfl rfl)
theorem dJ31_mergeHi_120 : decode cJ31_mergeHi 120 = .ok (.isub, 1) := dk_100 (dk_at dksJ31_mergeHi_5 3 rfl rfl)
theorem dJ31_mergeHi_121 : decode cJ31_mergeHi 121 = .ok (.isub, 1) := dk_100 (dk_at dksJ31_mergeHi_5 4 rfl rfl)
theorem dJ31_mergeHi_122 : decode cJ31_mergeHi 122 = .ok (.iload 4, 2) := dk_21 4 (dk_at dksJ31_mergeHi_5 5 rfl rfl)
theorem dJ31_mergeHi_124 : decode cJ31_mergeHi 124 = .ok (.invokestatic 75, 3) := dk_184 0 75 (dk_at dksJ31_mergeHi_5 7 rfl rfl)
theorem dJ31_mergeHi_127 : decode cJ31_mergeHi 127 = .ok (.return_, 1) := dk_177 (dk_at dksJ31_mergeHi_5 10 rfl rfl)
theorem dJ31_mergeHi_128 : decode cJ31_mergeHi 128 = .ok (.iload 4, 2) := dk_21 4 (dk_at dksJ31_mergeHi_5 11 rfl rfl)
theorem dJ31_mergeHi_130 : decode cJ31_mergeHi 130 = .ok (.iconst 1, 1) := dk_4 (dk_at dksJ31_mergeHi_5 13 rfl rfl)
theorem dJ31_mergeHi_131 : decode cJ31_mergeHi 131 = .ok (.if_icmp .ne 42, 3) := dk_160 0 42 (dk_at dksJ31_mergeHi_5 14 rfl rfl)
theorem dJ31_mergeHi_134 : decode cJ31_mergeHi 134 = .ok (.iload 10, 2) := dk_21 10 (dk_at dksJ31_mergeHi_5 17 rfl rfl)
theorem dJ31_mergeHi_136 : decode cJ31_mergeHi 136 = .ok (.iload_n 2, 1) := dk_28 (dk_at dksJ31_mergeHi_5 19 rfl rfl)
theorem dJ31_mergeHi_137 : decode cJ31_mergeHi 137 = .ok (.isub, 1) := dk_100 (dk_at dksJ31_mergeHi_5 20 rfl rfl)
theorem dJ31_mergeHi_138 : decode cJ31_mergeHi 138 = .ok (.istore 10, 2) := dk_54 10 (dk_at dksJ31_mergeHi_5 21 rfl rfl)
theorem dJ31_mergeHi_140 : decode cJ31_mergeHi 140 = .ok (.iload 8, 2) := dk_21 8 (dk_at dksJ31_mergeHi_6 0 rfl rfl)
theorem dJ31_mergeHi_142 : decode cJ31_mergeHi 142 = .ok (.iload_n 2, 1) := dk_28 (dk_at dksJ31_mergeHi_6 2 rfl rfl)
theorem dJ31_mergeHi_143 : decode cJ31_mergeHi 143 = .ok (.isub, 1) := dk_100 (dk_at dksJ31_mergeHi_6 3 rfl rfl)
theorem dJ31_mergeHi_144 : decode cJ31_mergeHi 144 = .ok (.istore 8, 2) := dk_54 8 (dk_at dksJ31_mergeHi_6 4 rfl rfl)
theorem dJ31_mergeHi_146 : decode cJ31_mergeHi 146 = .ok (.aload 5, 2) := dk_25 5 (dk_at dksJ31_mergeHi_6 6 rfl rfl)
theorem dJ31_mergeHi_148 : decode cJ31_mergeHi 148 = .ok (.iload 8, 2) := dk_21 8 (dk_at dksJ31_mergeHi_6 8 rfl rfl)
theorem dJ31_mergeHi_150 : decode cJ31_mergeHi 150 = .ok (.iconst 1, 1) := dk_4 (dk_at dksJ31_mergeHi_6 10 rfl rfl)
theorem dJ31_mergeHi_151 : decode cJ31_mergeHi 151 = .ok (.iadd, 1) := dk_96 (dk_at dksJ31_mergeHi_6 11 rfl rfl)
theorem dJ31_mergeHi_152 : decode cJ31_mergeHi 152 = .ok (.aload 5, 2) := dk_25 5 (dk_at dksJ31_mergeHi_6 12 rfl rfl)
theorem dJ31_mergeHi_154 : decode cJ31_mergeHi 154 = .ok (.iload 10, 2) := dk_21 10 (dk_at dksJ31_mergeHi_6 14 rfl rfl)
theorem dJ31_mergeHi_156 : decode cJ31_mergeHi 156 = .ok (.iconst 1, 1) := dk_4 (dk_at dksJ31_mergeHi_6 16 rfl rfl)
theorem dJ31_mergeHi_157 : decode cJ31_mergeHi 157 = .ok (.iadd, 1) := dk_96 (dk_at dksJ31_mergeHi_6 17 rfl rfl)
theorem dJ31_mergeHi_158 : decode cJ31_mergeHi 158 = .ok (.iload_n 2, 1) := dk_28 (dk_at dksJ31_mergeHi_6 18 rfl rfl)
theorem dJ31_mergeHi_159 : decode cJ31_mergeHi 159 = .ok (.invokestatic 75, 3) := dk_184 0 75 (dk_at dksJ31_mergeHi_6 19 rfl rfl)
theorem dJ31_mergeHi_162 : decode cJ31_mergeHi 162 = .ok (.aload 5, 2) := dk_25 5 (dk_at dksJ31_mergeHi_6 22 rfl rfl)
theorem dJ31_mergeHi_164 : decode cJ31_mergeHi 164 = .ok (.iload 10, 2) := dk_21 10 (dk_at dksJ31_mergeHi_7 0 rfl rfl)
theorem dJ31_mergeHi_166 : decode cJ31_mergeHi 166 = .ok (.aload 6, 2) := dk_25 6 (dk_at dksJ31_mergeHi_7 2 rfl rfl)
theorem dJ31_mergeHi_168 : decode cJ31_mergeHi 168 = .ok (.iload 9, 2) := dk_21 9 (dk_at dksJ31_mergeHi_7 4 rfl rfl)
theorem dJ31_mergeHi_170 : decode cJ31_mergeHi 170 = .ok (.aaload, 1) := dk_50 (dk_at dksJ31_mergeHi_7 6 rfl rfl)
theorem dJ31_mergeHi_171 : decode cJ31_mergeHi 171 = .ok (.aastore, 1) := dk_83 (dk_at dksJ31_mergeHi_7 7 rfl rfl)
theorem dJ31_mergeHi_172 : decode cJ31_mergeHi 172 = .ok (.return_, 1) := dk_177 (dk_at dksJ31_mergeHi_7 8 rfl rfl)
theorem dJ31_mergeHi_173 : decode cJ31_mergeHi 173 = .ok (.aload_n 0, 1) := dk_42 (dk_at dksJ31_mergeHi_7 9 rfl rfl)
theorem dJ31_mergeHi_174 : decode cJ31_mergeHi 174 = .ok (.getfield 9, 3) := dk_180 0 9 (dk_at dksJ31_mergeHi_7 10 rfl rfl)
theorem dJ31_mergeHi_177 : decode cJ31_mergeHi 177 = .ok (.istore 11, 2) := dk_54 11 (dk_at dksJ31_mergeHi_7 13 rfl rfl)
theorem dJ31_mergeHi_179 : decode cJ31_mergeHi 179 = .ok (.iconst 0, 1) := dk_3 (dk_at dksJ31_mergeHi_7 15 rfl rfl)
theorem dJ31_mergeHi_180 : decode cJ31_mergeHi 180 = .ok (.istore 12, 2) := dk_54 12 (dk_at dksJ31_mergeHi_7 16 rfl rfl)
theorem dJ31_mergeHi_182 : decode cJ31_mergeHi 182 = .ok (.iconst 0, 1) := dk_3 (dk_at dksJ31_mergeHi_7 18 rfl rfl)
theorem dJ31_mergeHi_183 : decode cJ31_mergeHi 183 = .ok (.istore 13, 2) := dk_54 13 (dk_at dksJ31_mergeHi_7 19 rfl rfl)
theorem dJ31_mergeHi_185 : decode cJ31_mergeHi 185 = .ok (.getstatic 37, 3) := dk_178 0 37 (dk_at dksJ31_mergeHi_7 21 rfl rfl)
theorem dJ31_mergeHi_188 : decode cJ31_mergeHi 188 = .ok (.ifCond .ne 21, 3) := dk_154 0 21 (dk_at dksJ31_mergeHi_8 0 rfl rfl)
theorem dJ31_mergeHi_191 : decode cJ31_mergeHi 191 = .ok (.iload_n 2, 1) := dk_28 (dk_at dksJ31_mergeHi_8 3 rfl rfl)
theorem dJ31_mergeHi_192 : decode cJ31_mergeHi 192 = .ok (.ifCond .le 9, 3) := dk_158 0 9 (dk_at dksJ31_mergeHi_8 4 rfl rfl)
theorem dJ31_mergeHi_195 : decode cJ31_mergeHi 195 = .ok (.iload 4, 2) := dk_21 4 (dk_at dksJ31_mergeHi_8 7 rfl rfl)
theorem dJ31_mergeHi_197 : decode cJ31_mergeHi 197 = .ok (.iconst 1, 1) := dk_4 (dk_at dksJ31_mergeHi_8 9 rfl rfl)
theorem dJ31_mergeHi_198 : decode cJ31_mergeHi 198 = .ok (.if_icmp .gt 11, 3) := dk_163 0 11 (dk_at dksJ31_mergeHi_8 10 rfl rfl)
theorem dJ31_mergeHi_201 : decode cJ31_mergeHi 201 = .ok (.new 41, 3) := dk_187 0 41 (dk_at dksJ31_mergeHi_8 13 rfl rfl)
theorem dJ31_mergeHi_204 : decode cJ31_mergeHi 204 = .ok (.dup, 1) := dk_89 (dk_at dksJ31_mergeHi_8 16 rfl rfl)
theorem dJ31_mergeHi_205 : decode cJ31_mergeHi 205 = .ok (.invokespecial 43, 3) := dk_183 0 43 (dk_at dksJ31_mergeHi_8 17 rfl rfl)
theorem dJ31_mergeHi_208 : decode cJ31_mergeHi 208 = .ok (.athrow, 1) := dk_191 (dk_at dksJ31_mergeHi_8 20 rfl rfl)
theorem dJ31_mergeHi_209 : decode cJ31_mergeHi 209 = .ok (.aload 6, 2) := dk_25 6 (dk_at dksJ31_mergeHi_8 21 rfl rfl)
theorem dJ31_mergeHi_211 : decode cJ31_mergeHi 211 = .ok (.iload 9, 2) := dk_21 9 (dk_at dksJ31_mergeHi_9 0 rfl rfl)
theorem dJ31_mergeHi_213 : decode cJ31_mergeHi 213 = .ok (.aaload, 1) := dk_50 (dk_at dksJ31_mergeHi_9 2 rfl rfl)
theorem dJ31_mergeHi_214 : decode cJ31_mergeHi 214 = .ok (.checkcast 69, 3) := dk_192 0 69 (dk_at dksJ31_mergeHi_9 3 rfl rfl)
theorem dJ31_mergeHi_217 : decode cJ31_mergeHi 217 = .ok (.aload 5, 2) := dk_25 5 (dk_at dksJ31_mergeHi_9 6 rfl rfl)
theorem dJ31_mergeHi_219 : decode cJ31_mergeHi 219 = .ok (.iload 8, 2) := dk_21 8 (dk_at dksJ31_mergeHi_9 8 rfl rfl)
theorem dJ31_mergeHi_221 : decode cJ31_mergeHi 221 = .ok (.aaload, 1) := dk_50 (dk_at dksJ31_mergeHi_9 10 rfl rfl)
theorem dJ31_mergeHi_222 : decode cJ31_mergeHi 222 = .ok (.invokeinterface 71 2, 5) := by decide +kernel
theorem dJ31_mergeHi_227 : decode cJ31_mergeHi 227 = .ok (.ifCond .ge 35, 3) := dk_156 0 35 (dk_at dksJ31_mergeHi_9 16 rfl rfl)
theorem dJ31_mergeHi_230 : decode cJ31_mergeHi 230 = .ok (.aload 5, 2) := dk_25 5 (dk_at dksJ31_mergeHi_9 19 rfl rfl)
theorem dJ31_mergeHi_232 : decode cJ31_mergeHi 232 = .ok (.iload 10, 2) := dk_21 10 (dk_at dksJ31_mergeHi_9 21 rfl rfl)
theorem dJ31_mergeHi_234 : decode cJ31_mergeHi 234 = .ok (.iinc 10 (-1), 3) := dk_132 10 255 (dk_at dksJ31_mergeHi_10 0 rfl rfl)
theorem dJ31_mergeHi_237 : decode cJ31_mergeHi 237 = .ok (.aload 5, 2) := dk_25 5 (dk_at dksJ31_mergeHi_10 3 rfl rfl)
theorem dJ31_mergeHi_239 : decode cJ31_mergeHi 239 = .ok (.iload 8, 2) := dk_21 8 (dk_at dksJ31_mergeHi_10 5 rfl rfl)
theorem dJ31_mergeHi_241 : decode cJ31_mergeHi 241 = .ok (.iinc 8 (-1), 3) := dk_132 8 255 (dk_at dksJ31_mergeHi_10 7 rfl rfl)
theorem dJ31_mergeHi_244 : decode cJ31_mergeHi 244 = .ok (.aaload, 1) := dk_50 (dk_at dksJ31_mergeHi_10 10 rfl rfl)
theorem dJ31_mergeHi_245 : decode cJ31_mergeHi 245 = .ok (.aastore, 1) := dk_83 (dk_at dksJ31_mergeHi_10 11 rfl rfl)
theorem dJ31_mergeHi_246 : decode cJ31_mergeHi 246 = .ok (.iinc 12 1, 3) := dk_132 12 1 (dk_at dksJ31_mergeHi_10 12 rfl rfl)
theorem dJ31_mergeHi_249 : decode cJ31_mergeHi 249 = .ok (.iconst 0, 1) := dk_3 (dk_at dksJ31_mergeHi_10 15 rfl rfl)
theorem dJ31_mergeHi_250 : decode cJ31_mergeHi 250 = .ok (.istore 13, 2) := dk_54 13 (dk_at dksJ31_mergeHi_10 16 rfl rfl)
theorem dJ31_mergeHi_252 : decode cJ31_mergeHi 252 = .ok (.iinc 2 (-1), 3) := dk_132 2 255 (dk_at dksJ31_mergeHi_10 18 rfl rfl)
theorem dJ31_mergeHi_255 : decode cJ31_mergeHi 255 = .ok (.iload_n 2, 1) := dk_28 (dk_at dksJ31_mergeHi_10 21 rfl rfl)
theorem dJ31_mergeHi_256 : decode cJ31_mergeHi 256 = .ok (.ifCond .ne 40, 3) := dk_154 0 40 (dk_at dksJ31_mergeHi_11 0 rfl rfl)
theorem dJ31_mergeHi_259 : decode cJ31_mergeHi 259 = .ok (.goto 318, 3) := dk_167 1 62 (dk_at dksJ31_mergeHi_11 3 rfl rfl)
theorem dJ31_mergeHi_262 : decode cJ31_mergeHi 262 = .ok (.aload 5, 2) := dk_25 5 (dk_at dksJ31_mergeHi_11 6 rfl rfl)
theorem dJ31_mergeHi_264 : decode cJ31_mergeHi 264 = .ok (.iload 10, 2) := dk_21 10 (dk_at dksJ31_mergeHi_11 8 rfl rfl)
theorem dJ31_mergeHi_266 : decode cJ31_mergeHi 266 = .ok (.iinc 10 (-1), 3) := dk_132 10 255 (dk_at dksJ31_mergeHi_11 10 rfl rfl)
theorem dJ31_mergeHi_269 : decode cJ31_mergeHi 269 = .ok (.aload 6, 2) := dk_25 6 (dk_at dksJ31_mergeHi_11 13 rfl rfl)
theorem dJ31_mergeHi_271 : decode cJ31_mergeHi 271 = .ok (.iload 9, 2) := dk_21 9 (dk_at dksJ31_mergeHi_11 15 rfl rfl)
theorem dJ31_mergeHi_273 : decode cJ31_mergeHi 273 = .ok (.iinc 9 (-1), 3) := dk_132 9 255 (dk_at dksJ31_mergeHi_11 17 rfl rfl)
theorem dJ31_mergeHi_276 : decode cJ31_mergeHi 276 = .ok (.aaload, 1) := dk_50 (dk_at dksJ31_mergeHi_11 20 rfl rfl)
theorem dJ31_mergeHi_277 : decode cJ31_mergeHi 277 = .ok (.aastore, 1) := dk_83 (dk_at dksJ31_mergeHi_11 21 rfl rfl)
theorem dJ31_mergeHi_278 : decode cJ31_mergeHi 278 = .ok (.iinc 13 1, 3) := dk_132 13 1 (dk_at dksJ31_mergeHi_12 0 rfl rfl)
theorem dJ31_mergeHi_281 : decode cJ31_mergeHi 281 = .ok (.iconst 0, 1) := dk_3 (dk_at dksJ31_mergeHi_12 3 rfl rfl)
theorem dJ31_mergeHi_282 : decode cJ31_mergeHi 282 = .ok (.istore 12, 2) := dk_54 12 (dk_at dksJ31_mergeHi_12 4 rfl rfl)
theorem dJ31_mergeHi_284 : decode cJ31_mergeHi 284 = .ok (.iinc 4 (-1), 3) := dk_132 4 255 (dk_at dksJ31_mergeHi_12 6 rfl rfl)
theorem dJ31_mergeHi_287 : decode cJ31_mergeHi 287 = .ok (.iload 4, 2) := dk_21 4 (dk_at dksJ31_mergeHi_12 9 rfl rfl)
theorem dJ31_mergeHi_289 : decode cJ31_mergeHi 289 = .ok (.iconst 1, 1) := dk_4 (dk_at dksJ31_mergeHi_12 11 rfl rfl)
theorem dJ31_mergeHi_290 : decode cJ31_mergeHi 290 = .ok (.if_icmp .ne 6, 3) := dk_160 0 6 (dk_at dksJ31_mergeHi_12 12 rfl rfl)
theorem dJ31_mergeHi_293 : decode cJ31_mergeHi 293 = .ok (.goto 284, 3) := dk_167 1 28 (dk_at dksJ31_mergeHi_12 15 rfl rfl)
theorem dJ31_mergeHi_296 : decode cJ31_mergeHi 296 = .ok (.iload 12, 2) := dk_21 12 (dk_at dksJ31_mergeHi_12 18 rfl rfl)
theorem dJ31_mergeHi_298 : decode cJ31_mergeHi 298 = .ok (.iload 13, 2) := dk_21 13 (dk_at dksJ31_mergeHi_12 20 rfl rfl)
theorem dJ31_mergeHi_300 : decode cJ31_mergeHi 300 = .ok (.ior, 1) := dk_128 (dk_at dksJ31_mergeHi_12 22 rfl rfl)
theorem dJ31_mergeHi_301 : decode cJ31_mergeHi 301 = .ok (.iload 11, 2) := dk_21 11 (dk_at dksJ31_mergeHi_13 0 rfl rfl)
theorem dJ31_mergeHi_303 : decode cJ31_mergeHi 303 = .ok (.if_icmp .lt (-118), 3) := dk_161 255 138 (dk_at dksJ31_mergeHi_13 2 rfl rfl)
theorem dJ31_mergeHi_306 : decode cJ31_mergeHi 306 = .ok (.getstatic 37, 3) := dk_178 0 37 (dk_at dksJ31_mergeHi_13 5 rfl rfl)
theorem dJ31_mergeHi_309 : decode cJ31_mergeHi 309 = .ok (.ifCond .ne 21, 3) := dk_154 0 21 (dk_at dksJ31_mergeHi_13 8 rfl rfl)
theorem dJ31_mergeHi_312 : decode cJ31_mergeHi 312 = .ok (.iload_n 2, 1) := dk_28 (dk_at dksJ31_mergeHi_13 11 rfl rfl)
theorem dJ31_mergeHi_313 : decode cJ31_mergeHi 313 = .ok (.ifCond .le 9, 3) := dk_158 0 9 (dk_at dksJ31_mergeHi_13 12 rfl rfl)
theorem dJ31_mergeHi_316 : decode cJ31_mergeHi 316 = .ok (.iload 4, 2) := dk_21 4 (dk_at dksJ31_mergeHi_13 15 rfl rfl)
theorem dJ31_mergeHi_318 : decode cJ31_mergeHi 318 = .ok (.iconst 1, 1) := dk_4 (dk_at dksJ31_mergeHi_13 17 rfl rfl)
theorem dJ31_mergeHi_319 : decode cJ31_mergeHi 319 = .ok (.if_icmp .gt 11, 3) := dk_163 0 11 (dk_at dksJ31_mergeHi_13 18 rfl rfl)
theorem dJ31_mergeHi_322 : decode cJ31_mergeHi 322 = .ok (.new 41, 3) := dk_187 0 41 (dk_at dksJ31_mergeHi_13 21 rfl rfl)
theorem dJ31_mergeHi_325 : decode cJ31_mergeHi 325 = .ok (.dup, 1) := dk_89 (dk_at dksJ31_mergeHi_14 0 rfl rfl)
theorem dJ31_mergeHi_326 : decode cJ31_mergeHi 326 = .ok (.invokespecial 43, 3) := dk_183 0 43 (dk_at dksJ31_mergeHi_14 1 rfl rfl)
theorem dJ31_mergeHi_329 : decode cJ31_mergeHi 329 = .ok (.athrow, 1) := dk_191 (dk_at dksJ31_mergeHi_14 4 rfl rfl)
theorem dJ31_mergeHi_330 : decode cJ31_mergeHi 330 = .ok (.iload_n 2, 1) := dk_28 (dk_at dksJ31_mergeHi_14 5 rfl rfl)
theorem dJ31_mergeHi_331 : decode cJ31_mergeHi 331 = .ok (.aload 6, 2) := dk_25 6 (dk_at dksJ31_mergeHi_14 6 rfl rfl)
theorem dJ31_mergeHi_333 : decode cJ31_mergeHi 333 = .ok (.iload 9, 2) := dk_21 9 (dk_at dksJ31_mergeHi_14 8 rfl rfl)
theorem dJ31_mergeHi_335 : decode cJ31_mergeHi 335 = .ok (.aaload, 1) := dk_50 (dk_at dksJ31_mergeHi_14 10 rfl rfl)
theorem dJ31_mergeHi_336 : decode cJ31_mergeHi 336 = .ok (.checkcast 69, 3) := dk_192 0 69 (dk_at dksJ31_mergeHi_14 11 rfl rfl)
theorem dJ31_mergeHi_339 : decode cJ31_mergeHi 339 = .ok (.aload 5, 2) := dk_25 5 (dk_at dksJ31_mergeHi_14 14 rfl rfl)
theorem dJ31_mergeHi_341 : decode cJ31_mergeHi 341 = .ok (.iload_n 1, 1) := dk_27 (dk_at dksJ31_mergeHi_14 16 rfl rfl)
theorem dJ31_mergeHi_342 : decode cJ31_mergeHi 342 = .ok (.iload_n 2, 1) := dk_28 (dk_at dksJ31_mergeHi_14 17 rfl rfl)
theorem dJ31_mergeHi_343 : decode cJ31_mergeHi 343 = .ok (.iload_n 2, 1) := dk_28 (dk_at dksJ31_mergeHi_14 18 rfl rfl)
theorem dJ31_mergeHi_344 : decode cJ31_mergeHi 344 = .ok (.iconst 1, 1) := dk_4 (dk_at dksJ31_mergeHi_14 19 rfl rfl)
theorem dJ31_mergeHi_345 : decode cJ31_mergeHi 345 = .ok (.isub, 1) := dk_100 (dk_at dksJ31_mergeHi_14 20 rfl rfl)
theorem dJ31_mergeHi_346 : decode cJ31_mergeHi 346 = .ok (.invokestatic 89, 3) := dk_184 0 89 (dk_at dksJ31_mergeHi_14 21 rfl rfl)
theorem dJ31_mergeHi_349 : decode cJ31_mergeHi 349 = .ok (.isub, 1) := dk_100 (dk_at dksJ31_mergeHi_15 0 rfl rfl)
theorem dJ31_mergeHi_350 : decode cJ31_mergeHi 350 = .ok (.istore 12, 2) := dk_54 12 (dk_at dksJ31_mergeHi_15 1 rfl rfl)
theorem dJ31_mergeHi_352 : decode cJ31_mergeHi 352 = .ok (.iload 12, 2) := dk_21 12 (dk_at dksJ31_mergeHi_15 3 rfl rfl)
theorem dJ31_mergeHi_354 : decode cJ31_mergeHi 354 = .ok (.ifCond .eq 46, 3) := dk_153 0 46 (dk_at dksJ31_mergeHi_15 5 rfl rfl)
theorem dJ31_mergeHi_357 : decode cJ31_mergeHi 357 = .ok (.iload 10, 2) := dk_21 10 (dk_at dksJ31_mergeHi_15 8 rfl rfl)
theorem dJ31_mergeHi_359 : decode cJ31_mergeHi 359 = .ok (.iload 12, 2) := dk_21 12 (dk_at dksJ31_mergeHi_15 10 rfl rfl)
theorem dJ31_mergeHi_361 : decode cJ31_mergeHi 361 = .ok (.isub, 1) := dk_100 (dk_at dksJ31_mergeHi_15 12 rfl rfl)
theorem dJ31_mergeHi_362 : decode cJ31_mergeHi 362 = .ok (.istore 10, 2) := dk_54 10 (dk_at dksJ31_mergeHi_15 13 rfl rfl)
theorem dJ31_mergeHi_364 : decode cJ31_mergeHi 364 = .ok (.iload 8, 2) := dk_21 8 (dk_at dksJ31_mergeHi_15 15 rfl rfl)
theorem dJ31_mergeHi_366 : decode cJ31_mergeHi 366 = .ok (.iload 12, 2) := dk_21 12 (dk_at dksJ31_mergeHi_15 17 rfl rfl)
theorem dJ31_mergeHi_368 : decode cJ31_mergeHi 368 = .ok (.isub, 1) := dk_100 (dk_at dksJ31_mergeHi_15 19 rfl rfl)
theorem dJ31_mergeHi_369 : decode cJ31_mergeHi 369 = .ok (.istore 8, 2) := dk_54 8 (dk_at dksJ31_mergeHi_15 20 rfl rfl)
theorem dJ31_mergeHi_371 : decode cJ31_mergeHi 371 = .ok (.iload_n 2, 1) := dk_28 (dk_at dksJ31_mergeHi_15 22 rfl rfl)
theorem dJ31_mergeHi_372 : decode cJ31_mergeHi 372 = .ok (.iload 12, 2) := dk_21 12 (dk_at dksJ31_mergeHi_16 0 rfl rfl)
theorem dJ31_mergeHi_374 : decode cJ31_mergeHi 374 = .ok (.isub, 1) := dk_100 (dk_at dksJ31_mergeHi_16 2 rfl rfl)
theorem dJ31_mergeHi_375 : decode cJ31_mergeHi 375 = .ok (.istore_n 2, 1) := dk_61 (dk_at dksJ31_mergeHi_16 3 rfl rfl)
theorem dJ31_mergeHi_376 : decode cJ31_mergeHi 376 = .ok (.aload 5, 2) := dk_25 5 (dk_at dksJ31_mergeHi_16 4 rfl rfl)
theorem dJ31_mergeHi_378 : decode cJ31_mergeHi 378 = .ok (.iload 8, 2) := dk_21 8 (dk_at dksJ31_mergeHi_16 6 rfl rfl)
theorem dJ31_mergeHi_380 : decode cJ31_mergeHi 380 = .ok (.iconst 1, 1) := dk_4 (dk_at dksJ31_mergeHi_16 8 rfl rfl)
theorem dJ31_mergeHi_381 : decode cJ31_mergeHi 381 = .ok (.iadd, 1) := dk_96 (dk_at dksJ31_mergeHi_16 9 rfl rfl)
theorem dJ31_mergeHi_382 : decode cJ31_mergeHi 382 = .ok (.aload 5, 2) := dk_25 5 (dk_at dksJ31_mergeHi_16 10 rfl rfl)
theorem dJ31_mergeHi_384 : decode cJ31_mergeHi 384 = .ok (.iload 10, 2) := dk_21 10 (dk_at dksJ31_mergeHi_16 12 rfl rfl)
theorem dJ31_mergeHi_386 : decode cJ31_mergeHi 386 = .ok (.iconst 1, 1) := dk_4 (dk_at dksJ31_mergeHi_16 14 rfl rfl)
theorem dJ31_mergeHi_387 : decode cJ31_mergeHi 387 = .ok (.iadd, 1) := dk_96 (dk_at dksJ31_mergeHi_16 15 rfl rfl)
theorem dJ31_mergeHi_388 : decode cJ31_mergeHi 388 = .ok (.iload 12, 2) := dk_21 12 (dk_at dksJ31_mergeHi_16 16 rfl rfl)
theorem dJ31_mergeHi_390 : decode cJ31_mergeHi 390 = .ok (.invokestatic 75, 3) := dk_184 0 75 (dk_at dksJ31_mergeHi_16 18 rfl rfl)
theorem dJ31_mergeHi_393 : decode cJ31_mergeHi 393 = .ok (.iload_n 2, 1) := dk_28 (dk_at dksJ31_mergeHi_16 21 rfl rfl)
theorem dJ31_mergeHi_394 : decode cJ31_mergeHi 394 = .ok (.ifCond .ne 6, 3) := dk_154 0 6 (dk_at dksJ31_mergeHi_17 0 rfl rfl)
theorem dJ31_mergeHi_397 : decode cJ31_mergeHi 397 = .ok (.goto 180, 3) := dk_167 0 180 (dk_at dksJ31_mergeHi_17 3 rfl rfl)
theorem dJ31_mergeHi_400 : decode cJ31_mergeHi 400 = .ok (.aload 5, 2) := dk_25 5 (dk_at dksJ31_mergeHi_17 6 rfl rfl)
theorem dJ31_mergeHi_402 : decode cJ31_mergeHi 402 = .ok (.iload 10, 2) := dk_21 10 (dk_at dksJ31_mergeHi_17 8 rfl rfl)
theorem dJ31_mergeHi_404 : decode cJ31_mergeHi 404 = .ok (.iinc 10 (-1), 3) := dk_132 10 255 (dk_at dksJ31_mergeHi_17 10 rfl rfl)
theorem dJ31_mergeHi_407 : decode cJ31_mergeHi 407 = .ok (.aload 6, 2) := dk_25 6 (dk_at dksJ31_mergeHi_17 13 rfl rfl)
theorem dJ31_mergeHi_409 : decode cJ31_mergeHi 409 = .ok (.iload 9, 2) := dk_21 9 (dk_at dksJ31_mergeHi_17 15 rfl rfl)
theorem dJ31_mergeHi_411 : decode cJ31_mergeHi 411 = .ok (.iinc 9 (-1), 3) := dk_132 9 255 (dk_at dksJ31_mergeHi_17 17 rfl rfl)
theorem dJ31_mergeHi_414 : decode cJ31_mergeHi 414 = .ok (.aaload, 1) := dk_50 (dk_at dksJ31_mergeHi_17 20 rfl rfl)
theorem dJ31_mergeHi_415 : decode cJ31_mergeHi 415 = .ok (.aastore, 1) := dk_83 (dk_at dksJ31_mergeHi_17 21 rfl rfl)
theorem dJ31_mergeHi_416 : decode cJ31_mergeHi 416 = .ok (.iinc 4 (-1), 3) := dk_132 4 255 (dk_at dksJ31_mergeHi_18 0 rfl rfl)
theorem dJ31_mergeHi_419 : decode cJ31_mergeHi 419 = .ok (.iload 4, 2) := dk_21 4 (dk_at dksJ31_mergeHi_18 3 rfl rfl)
theorem dJ31_mergeHi_421 : decode cJ31_mergeHi 421 = .ok (.iconst 1, 1) := dk_4 (dk_at dksJ31_mergeHi_18 5 rfl rfl)
theorem dJ31_mergeHi_422 : decode cJ31_mergeHi 422 = .ok (.if_icmp .ne 6, 3) := dk_160 0 6 (dk_at dksJ31_mergeHi_18 6 rfl rfl)
theorem dJ31_mergeHi_425 : decode cJ31_mergeHi 425 = .ok (.goto 152, 3) := dk_167 0 152 (dk_at dksJ31_mergeHi_18 9 rfl rfl)
theorem dJ31_mergeHi_428 : decode cJ31_mergeHi 428 = .ok (.iload 4, 2) := dk_21 4 (dk_at dksJ31_mergeHi_18 12 rfl rfl)
theorem dJ31_mergeHi_430 : decode cJ31_mergeHi 430 = .ok (.aload 5, 2) := dk_25 5 (dk_at dksJ31_mergeHi_18 14 rfl rfl)
theorem dJ31_mergeHi_432 : decode cJ31_mergeHi 432 = .ok (.iload 8, 2) := dk_21 8 (dk_at dksJ31_mergeHi_18 16 rfl rfl)
theorem dJ31_mergeHi_434 : decode cJ31_mergeHi 434 = .ok (.aaload, 1) := dk_50 (dk_at dksJ31_mergeHi_18 18 rfl rfl)
theorem dJ31_mergeHi_435 : decode cJ31_mergeHi 435 = .ok (.checkcast 69, 3) := dk_192 0 69 (dk_at dksJ31_mergeHi_18 19 rfl rfl)
theorem dJ31_mergeHi_438 : decode cJ31_mergeHi 438 = .ok (.aload 6, 2) := dk_25 6 (dk_at dksJ31_mergeHi_18 22 rfl rfl)
theorem dJ31_mergeHi_440 : decode cJ31_mergeHi 440 = .ok (.iload 7, 2) := dk_21 7 (dk_at dksJ31_mergeHi_19 0 rfl rfl)
theorem dJ31_mergeHi_442 : decode cJ31_mergeHi 442 = .ok (.iload 4, 2) := dk_21 4 (dk_at dksJ31_mergeHi_19 2 rfl rfl)
theorem dJ31_mergeHi_444 : decode cJ31_mergeHi 444 = .ok (.iload 4, 2) := dk_21 4 (dk_at dksJ31_mergeHi_19 4 rfl rfl)
theorem dJ31_mergeHi_446 : decode cJ31_mergeHi 446 = .ok (.iconst 1, 1) := dk_4 (dk_at dksJ31_mergeHi_19 6 rfl rfl)
theorem dJ31_mergeHi_447 : decode cJ31_mergeHi 447 = .ok (.isub, 1) := dk_100 (dk_at dksJ31_mergeHi_19 7 rfl rfl)
theorem dJ31_mergeHi_448 : decode cJ31_mergeHi 448 = .ok (.invokestatic 93, 3) := dk_184 0 93 (dk_at dksJ31_mergeHi_19 8 rfl rfl)
theorem dJ31_mergeHi_451 : decode cJ31_mergeHi 451 = .ok (.isub, 1) := dk_100 (dk_at dksJ31_mergeHi_19 11 rfl rfl)
theorem dJ31_mergeHi_452 : decode cJ31_mergeHi 452 = .ok (.istore 13, 2) := dk_54 13 (dk_at dksJ31_mergeHi_19 12 rfl rfl)
theorem dJ31_mergeHi_454 : decode cJ31_mergeHi 454 = .ok (.iload 13, 2) := dk_21 13 (dk_at dksJ31_mergeHi_19 14 rfl rfl)
theorem dJ31_mergeHi_456 : decode cJ31_mergeHi 456 = .ok (.ifCond .eq 50, 3) := dk_153 0 50 (dk_at dksJ31_mergeHi_19 16 rfl rfl)
theorem dJ31_mergeHi_459 : decode cJ31_mergeHi 459 = .ok (.iload 10, 2) := dk_21 10 (dk_at dksJ31_mergeHi_19 19 rfl rfl)
theorem dJ31_mergeHi_461 : decode cJ31_mergeHi 461 = .ok (.iload 13, 2) := dk_21 13 (dk_at dksJ31_mergeHi_19 21 rfl rfl)
theorem dJ31_mergeHi_463 : decode cJ31_mergeHi 463 = .ok (.isub, 1) := dk_100 (dk_at dksJ31_mergeHi_19 23 rfl rfl)
theorem dJ31_mergeHi_464 : decode cJ31_mergeHi 464 = .ok (.istore 10, 2) := dk_54 10 (dk_at dksJ31_mergeHi_20 0 rfl rfl)
theorem dJ31_mergeHi_466 : decode cJ31_mergeHi 466 = .ok (.iload 9, 2) := dk_21 9 (dk_at dksJ31_mergeHi_20 2 rfl rfl)
theorem dJ31_mergeHi_468 : decode cJ31_mergeHi 468 = .ok (.iload 13, 2) := dk_21 13 (dk_at dksJ31_mergeHi_20 4 rfl rfl)
theorem dJ31_mergeHi_470 : decode cJ31_mergeHi 470 = .ok (.isub, 1) := dk_100 (dk_at dksJ31_mergeHi_20 6 rfl rfl)
theorem dJ31_mergeHi_471 : decode cJ31_mergeHi 471 = .ok (.istore 9, 2) := dk_54 9 (dk_at dksJ31_mergeHi_20 7 rfl rfl)
theorem dJ31_mergeHi_473 : decode cJ31_mergeHi 473 = .ok (.iload 4, 2) := dk_21 4 (dk_at dksJ31_mergeHi_20 9 rfl rfl)
theorem dJ31_mergeHi_475 : decode cJ31_mergeHi 475 = .ok (.iload 13, 2) := dk_21 13 (dk_at dksJ31_mergeHi_20 11 rfl rfl)
theorem dJ31_mergeHi_477 : decode cJ31_mergeHi 477 = .ok (.isub, 1) := dk_100 (dk_at dksJ31_mergeHi_20 13 rfl rfl)
theorem dJ31_mergeHi_478 : decode cJ31_mergeHi 478 = .ok (.istore 4, 2) := dk_54 4 (dk_at dksJ31_mergeHi_20 14 rfl rfl)
theorem dJ31_mergeHi_480 : decode cJ31_mergeHi 480 = .ok (.aload 6, 2) := dk_25 6 (dk_at dksJ31_mergeHi_20 16 rfl rfl)
theorem dJ31_mergeHi_482 : decode cJ31_mergeHi 482 = .ok (.iload 9, 2) := dk_21 9 (dk_at dksJ31_mergeHi_20 18 rfl rfl)
theorem dJ31_mergeHi_484 : decode cJ31_mergeHi 484 = .ok (.iconst 1, 1) := dk_4 (dk_at dksJ31_mergeHi_20 20 rfl rfl)
theorem dJ31_mergeHi_485 : decode cJ31_mergeHi 485 = .ok (.iadd, 1) := dk_96 (dk_at dksJ31_mergeHi_20 21 rfl rfl)
theorem dJ31_mergeHi_486 : decode cJ31_mergeHi 486 = .ok (.aload 5, 2) := dk_25 5 (dk_at dksJ31_mergeHi_20 22 rfl rfl)
theorem dJ31_mergeHi_488 : decode cJ31_mergeHi 488 = .ok (.iload 10, 2) := dk_21 10 (dk_at dksJ31_mergeHi_21 0 rfl rfl)
theorem dJ31_mergeHi_490 : decode cJ31_mergeHi 490 = .ok (.iconst 1, 1) := dk_4 (dk_at dksJ31_mergeHi_21 2 rfl rfl)
theorem dJ31_mergeHi_491 : decode cJ31_mergeHi 491 = .ok (.iadd, 1) := dk_96 (dk_at dksJ31_mergeHi_21 3 rfl rfl)
theorem dJ31_mergeHi_492 : decode cJ31_mergeHi 492 = .ok (.iload 13, 2) := dk_21 13 (dk_at dksJ31_mergeHi_21 4 rfl rfl)
theorem dJ31_mergeHi_494 : decode cJ31_mergeHi 494 = .ok (.invokestatic 75, 3) := dk_184 0 75 (dk_at dksJ31_mergeHi_21 6 rfl rfl)
theorem dJ31_mergeHi_497 : decode cJ31_mergeHi 497 = .ok (.iload 4, 2) := dk_21 4 (dk_at dksJ31_mergeHi_21 9 rfl rfl)
theorem dJ31_mergeHi_499 : decode cJ31_mergeHi 499 = .ok (.iconst 1, 1) := dk_4 (dk_at dksJ31_mergeHi_21 11 rfl rfl)
theorem dJ31_mergeHi_500 : decode cJ31_mergeHi 500 = .ok (.if_icmp .gt 6, 3) := dk_163 0 6 (dk_at dksJ31_mergeHi_21 12 rfl rfl)
theorem dJ31_mergeHi_503 : decode cJ31_mergeHi 503 = .ok (.goto 74, 3) := dk_167 0 74 (dk_at dksJ31_mergeHi_21 15 rfl rfl)
theorem dJ31_mergeHi_506 : decode cJ31_mergeHi 506 = .ok (.aload 5, 2) := dk_25 5 (dk_at dksJ31_mergeHi_21 18 rfl rfl)
theorem dJ31_mergeHi_508 : decode cJ31_mergeHi 508 = .ok (.iload 10, 2) := dk_21 10 (dk_at dksJ31_mergeHi_21 20 rfl rfl)
theorem dJ31_mergeHi_510 : decode cJ31_mergeHi 510 = .ok (.iinc 10 (-1), 3) := dk_132 10 255 (dk_at dksJ31_mergeHi_22 0 rfl rfl)
theorem dJ31_mergeHi_513 : decode cJ31_mergeHi 513 = .ok (.aload 5, 2) := dk_25 5 (dk_at dksJ31_mergeHi_22 3 rfl rfl)
theorem dJ31_mergeHi_515 : decode cJ31_mergeHi 515 = .ok (.iload 8, 2) := dk_21 8 (dk_at dksJ31_mergeHi_22 5 rfl rfl)
theorem dJ31_mergeHi_517 : decode cJ31_mergeHi 517 = .ok (.iinc 8 (-1), 3) := dk_132 8 255 (dk_at dksJ31_mergeHi_22 7 rfl rfl)
theorem dJ31_mergeHi_520 : decode cJ31_mergeHi 520 = .ok (.aaload, 1) := dk_50 (dk_at dksJ31_mergeHi_22 10 rfl rfl)
theorem dJ31_mergeHi_521 : decode cJ31_mergeHi 521 = .ok (.aastore, 1) := dk_83 (dk_at dksJ31_mergeHi_22 11 rfl rfl)
theorem dJ31_mergeHi_522 : decode cJ31_mergeHi 522 = .ok (.iinc 2 (-1), 3) := dk_132 2 255 (dk_at dksJ31_mergeHi_22 12 rfl rfl)
theorem dJ31_mergeHi_525 : decode cJ31_mergeHi 525 = .ok (.iload_n 2, 1) := dk_28 (dk_at dksJ31_mergeHi_22 15 rfl rfl)
theorem dJ31_mergeHi_526 : decode cJ31_mergeHi 526 = .ok (.ifCond .ne 6, 3) := dk_154 0 6 (dk_at dksJ31_mergeHi_22 16 rfl rfl)
theorem dJ31_mergeHi_529 : decode cJ31_mergeHi 529 = .ok (.goto 48, 3) := dk_167 0 48 (dk_at dksJ31_mergeHi_22 19 rfl rfl)
theorem dJ31_mergeHi_532 : decode cJ31_mergeHi 532 = .ok (.iinc 11 (-1), 3) := dk_132 11 255 (dk_at dksJ31_mergeHi_23 0 rfl rfl)
theorem dJ31_mergeHi_535 : decode cJ31_mergeHi 535 = .ok (.iload 12, 2) := dk_21 12 (dk_at dksJ31_mergeHi_23 3 rfl rfl)
theorem dJ31_mergeHi_537 : decode cJ31_mergeHi 537 = .ok (.bipush 7, 2) := dk_16 7 (dk_at dksJ31_mergeHi_23 5 rfl rfl)
theorem dJ31_mergeHi_539 : decode cJ31_mergeHi 539 = .ok (.if_icmp .lt 7, 3) := dk_161 0 7 (dk_at dksJ31_mergeHi_23 7 rfl rfl)
theorem dJ31_mergeHi_542 : decode cJ31_mergeHi 542 = .ok (.iconst 1, 1) := dk_4 (dk_at dksJ31_mergeHi_23 10 rfl rfl)
theorem dJ31_mergeHi_543 : decode cJ31_mergeHi 543 = .ok (.goto 4, 3) := dk_167 0 4 (dk_at dksJ31_mergeHi_23 11 rfl rfl)
theorem dJ31_mergeHi_546 : decode cJ31_mergeHi 546 = .ok (.iconst 0, 1) := dk_3 (dk_at dksJ31_mergeHi_23 14 rfl rfl)
theorem dJ31_mergeHi_547 : decode cJ31_mergeHi 547 = .ok (.iload 13, 2) := dk_21 13 (dk_at dksJ31_mergeHi_23 15 rfl rfl)
theorem dJ31_mergeHi_549 : decode cJ31_mergeHi 549 = .ok (.bipush 7, 2) := dk_16 7 (dk_at dksJ31_mergeHi_23 17 rfl rfl)
theorem dJ31_mergeHi_551 : decode cJ31_mergeHi 551 = .ok (.if_icmp .lt 7, 3) := dk_161 0 7 (dk_at dksJ31_mergeHi_23 19 rfl rfl)
theorem dJ31_mergeHi_554 : decode cJ31_mergeHi 554 = .ok (.iconst 1, 1) := dk_4 (dk_at dksJ31_mergeHi_23 22 rfl rfl)
theorem dJ31_mergeHi_555 : decode cJ31_mergeHi 555 = .ok (.goto 4, 3) := dk_167 0 4 (dk_at dksJ31_mergeHi_24 0 rfl rfl)
theorem dJ31_mergeHi_558 : decode cJ31_mergeHi 558 = .ok (.iconst 0, 1) := dk_3 (dk_at dksJ31_mergeHi_24 3 rfl rfl)
theorem dJ31_mergeHi_559 : decode cJ31_mergeHi 559 = .ok (.ior, 1) := dk_128 (dk_at dksJ31_mergeHi_24 4 rfl rfl)
theorem dJ31_mergeHi_560 : decode cJ31_mergeHi 560 = .ok (.ifCond .ne (-254), 3) := dk_154 255 2 (dk_at dksJ31_mergeHi_24 5 rfl rfl)
theorem dJ31_mergeHi_563 : decode cJ31_mergeHi 563 = .ok (.iload 11, 2) := dk_21 11 (dk_at dksJ31_mergeHi_24 8 rfl rfl)
theorem dJ31_mergeHi_565 : decode cJ31_mergeHi 565 = .ok (.ifCond .ge 6, 3) := dk_156 0 6 (dk_at dksJ31_mergeHi_24 10 rfl rfl)
theorem dJ31_mergeHi_568 : decode cJ31_mergeHi 568 = .ok (.iconst 0, 1) := dk_3 (dk_at dksJ31_mergeHi_24 13 rfl rfl)
theorem dJ31_mergeHi_569 : decode cJ31_mergeHi 569 = .ok (.istore 11, 2) := dk_54 11 (dk_at dksJ31_mergeHi_24 14 rfl rfl)
theorem dJ31_mergeHi_571 : decode cJ31_mergeHi 571 = .ok (.iinc 11 2, 3) := dk_132 11 2 (dk_at dksJ31_mergeHi_24 16 rfl rfl)
theorem dJ31_mergeHi_574 : decode cJ31_mergeHi 574 = .ok (.goto (-395), 3) := dk_167 254 117 (dk_at dksJ31_mergeHi_24 19 rfl rfl)
theorem dJ31_mergeHi_577 : decode cJ31_mergeHi 577 = .ok (.aload_n 0, 1) := dk_42 (dk_at dksJ31_mergeHi_24 22 rfl rfl)
theorem dJ31_mergeHi_578 : decode cJ31_mergeHi 578 = .ok (.iload 11, 2) := dk_21 11 (dk_at dksJ31_mergeHi_25 0 rfl rfl)
theorem dJ31_mergeHi_580 : decode cJ31_mergeHi 580 = .ok (.iconst 1, 1) := dk_4 (dk_at dksJ31_mergeHi_25 2 rfl rfl)
theorem dJ31_mergeHi_581 : decode cJ31_mergeHi 581 = .ok (.if_icmp .ge 7, 3) := dk_162 0 7 (dk_at dksJ31_mergeHi_25 3 rfl rfl)
theorem dJ31_mergeHi_584 : decode cJ31_mergeHi 584 = .ok (.iconst 1, 1) := dk_4 (dk_at dksJ31_mergeHi_25 6 rfl rfl)
theorem dJ31_mergeHi_585 : decode cJ31_mergeHi 585 = .ok (.goto 5, 3) := dk_167 0 5 (dk_at dksJ31_mergeHi_25 7 rfl rfl)
theorem dJ31_mergeHi_588 : decode cJ31_mergeHi 588 = .ok (.iload 11, 2) := dk_21 11 (dk_at dksJ31_mergeHi_25 10 rfl rfl)
theorem dJ31_mergeHi_590 : decode cJ31_mergeHi 590 = .ok (.putfield 9, 3) := dk_181 0 9 (dk_at dksJ31_mergeHi_25 12 rfl rfl)
theorem dJ31_mergeHi_593 : decode cJ31_mergeHi 593 = .ok (.iload 4, 2) := dk_21 4 (dk_at dksJ31_mergeHi_25 15 rfl rfl)
theorem dJ31_mergeHi_595 : decode cJ31_mergeHi 595 = .ok (.iconst 1, 1) := dk_4 (dk_at dksJ31_mergeHi_25 17 rfl rfl)
theorem dJ31_mergeHi_596 : decode cJ31_mergeHi 596 = .ok (.if_icmp .ne 62, 3) := dk_160 0 62 (dk_at dksJ31_mergeHi_25 18 rfl rfl)
theorem dJ31_mergeHi_599 : decode cJ31_mergeHi 599 = .ok (.getstatic 37, 3) := dk_178 0 37 (dk_at dksJ31_mergeHi_25 21 rfl rfl)
theorem dJ31_mergeHi_602 : decode cJ31_mergeHi 602 = .ok (.ifCond .ne 15, 3) := dk_154 0 15 (dk_at dksJ31_mergeHi_26 0 rfl rfl)
theorem dJ31_mergeHi_605 : decode cJ31_mergeHi 605 = .ok (.iload_n 2, 1) := dk_28 (dk_at dksJ31_mergeHi_26 3 rfl rfl)
theorem dJ31_mergeHi_606 : decode cJ31_mergeHi 606 = .ok (.ifCond .gt 11, 3) := dk_157 0 11 (dk_at dksJ31_mergeHi_26 4 rfl rfl)
theorem dJ31_mergeHi_609 : decode cJ31_mergeHi 609 = .ok (.new 41, 3) := dk_187 0 41 (dk_at dksJ31_mergeHi_26 7 rfl rfl)
theorem dJ31_mergeHi_612 : decode cJ31_mergeHi 612 = .ok (.dup, 1) := dk_89 (dk_at dksJ31_mergeHi_26 10 rfl rfl)
theorem dJ31_mergeHi_613 : decode cJ31_mergeHi 613 = .ok (.invokespecial 43, 3) := dk_183 0 43 (dk_at dksJ31_mergeHi_26 11 rfl rfl)
theorem dJ31_mergeHi_616 : decode cJ31_mergeHi 616 = .ok (.athrow, 1) := dk_191 (dk_at dksJ31_mergeHi_26 14 rfl rfl)
theorem dJ31_mergeHi_617 : decode cJ31_mergeHi 617 = .ok (.iload 10, 2) := dk_21 10 (dk_at dksJ31_mergeHi_26 15 rfl rfl)
theorem dJ31_mergeHi_619 : decode cJ31_mergeHi 619 = .ok (.iload_n 2, 1) := dk_28 (dk_at dksJ31_mergeHi_26 17 rfl rfl)
theorem dJ31_mergeHi_620 : decode cJ31_mergeHi 620 = .ok (.isub, 1) := dk_100 (dk_at dksJ31_mergeHi_26 18 rfl rfl)
theorem dJ31_mergeHi_621 : decode cJ31_mergeHi 621 = .ok (.istore 10, 2) := dk_54 10 (dk_at dksJ31_mergeHi_26 19 rfl rfl)
theorem dJ31_mergeHi_623 : decode cJ31_mergeHi 623 = .ok (.iload 8, 2) := dk_21 8 (dk_at dksJ31_mergeHi_26 21 rfl rfl)
theorem dJ31_mergeHi_625 : decode cJ31_mergeHi 625 = .ok (.iload_n 2, 1) := dk_28 (dk_at dksJ31_mergeHi_26 23 rfl rfl)
theorem dJ31_mergeHi_626 : decode cJ31_mergeHi 626 = .ok (.isub, 1) := dk_100 (dk_at dksJ31_mergeHi_27 0 rfl rfl)
theorem dJ31_mergeHi_627 : decode cJ31_mergeHi 627 = .ok (.istore 8, 2) := dk_54 8 (dk_at dksJ31_mergeHi_27 1 rfl rfl)
theorem dJ31_mergeHi_629 : decode cJ31_mergeHi 629 = .ok (.aload 5, 2) := dk_25 5 (dk_at dksJ31_mergeHi_27 3 rfl rfl)
theorem dJ31_mergeHi_631 : decode cJ31_mergeHi 631 = .ok (.iload 8, 2) := dk_21 8 (dk_at dksJ31_mergeHi_27 5 rfl rfl)
theorem dJ31_mergeHi_633 : decode cJ31_mergeHi 633 = .ok (.iconst 1, 1) := dk_4 (dk_at dksJ31_mergeHi_27 7 rfl rfl)
theorem dJ31_mergeHi_634 : decode cJ31_mergeHi 634 = .ok (.iadd, 1) := dk_96 (dk_at dksJ31_mergeHi_27 8 rfl rfl)
theorem dJ31_mergeHi_635 : decode cJ31_mergeHi 635 = .ok (.aload 5, 2) := dk_25 5 (dk_at dksJ31_mergeHi_27 9 rfl rfl)
theorem dJ31_mergeHi_637 : decode cJ31_mergeHi 637 = .ok (.iload 10, 2) := dk_21 10 (dk_at dksJ31_mergeHi_27 11 rfl rfl)
theorem dJ31_mergeHi_639 : decode cJ31_mergeHi 639 = .ok (.iconst 1, 1) := dk_4 (dk_at dksJ31_mergeHi_27 13 rfl rfl)
theorem dJ31_mergeHi_640 : decode cJ31_mergeHi 640 = .ok (.iadd, 1) := dk_96 (dk_at dksJ31_mergeHi_27 14 rfl rfl)
theorem dJ31_mergeHi_641 : decode cJ31_mergeHi 641 = .ok (.iload_n 2, 1) := dk_28 (dk_at dksJ31_mergeHi_27 15 rfl rfl)
theorem dJ31_mergeHi_642 : decode cJ31_mergeHi 642 = .ok (.invokestatic 75, 3) := dk_184 0 75 (dk_at dksJ31_mergeHi_27 16 rfl rfl)
theorem dJ31_mergeHi_645 : decode cJ31_mergeHi 645 = .ok (.aload 5, 2) := dk_25 5 (dk_at dksJ31_mergeHi_27 19 rfl rfl)
theorem dJ31_mergeHi_647 : decode cJ31_mergeHi 647 = .ok (.iload 10, 2) := dk_21 10 (dk_at dksJ31_mergeHi_27 21 rfl rfl)
theorem dJ31_mergeHi_649 : decode cJ31_mergeHi 649 = .ok (.aload 6, 2) := dk_25 6 (dk_at dksJ31_mergeHi_28 0 rfl rfl)
theorem dJ31_mergeHi_651 : decode cJ31_mergeHi 651 = .ok (.iload 9, 2) := dk_21 9 (dk_at dksJ31_mergeHi_28 2 rfl rfl)
theorem dJ31_mergeHi_653 : decode cJ31_mergeHi 653 = .ok (.aaload, 1) := dk_50 (dk_at dksJ31_mergeHi_28 4 rfl rfl)
theorem dJ31_mergeHi_654 : decode cJ31_mergeHi 654 = .ok (.aastore, 1) := dk_83 (dk_at dksJ31_mergeHi_28 5 rfl rfl)
theorem dJ31_mergeHi_655 : decode cJ31_mergeHi 655 = .ok (.goto 73, 3) := dk_167 0 73 (dk_at dksJ31_mergeHi_28 6 rfl rfl)
theorem dJ31_mergeHi_658 : decode cJ31_mergeHi 658 = .ok (.iload 4, 2) := dk_21 4 (dk_at dksJ31_mergeHi_28 9 rfl rfl)
theorem dJ31_mergeHi_660 : decode cJ31_mergeHi 660 = .ok (.ifCond .ne 13, 3) := dk_154 0 13 (dk_at dksJ31_mergeHi_28 11 rfl rfl)
theorem dJ31_mergeHi_663 : decode cJ31_mergeHi 663 = .ok (.new 107, 3) := dk_187 0 107 (dk_at dksJ31_mergeHi_28 14 rfl rfl)
theorem dJ31_mergeHi_666 : decode cJ31_mergeHi 666 = .ok (.dup, 1) := dk_89 (dk_at dksJ31_mergeHi_28 17 rfl rfl)
theorem dJ31_mergeHi_667 : decode cJ31_mergeHi 667 = .ok (.ldc 109, 2) := dk_18 109 (dk_at dksJ31_mergeHi_28 18 rfl rfl)
theorem dJ31_mergeHi_669 : decode cJ31_mergeHi 669 = .ok (.invokespecial 111, 3) := dk_183 0 111 (dk_at dksJ31_mergeHi_28 20 rfl rfl)
theorem dJ31_mergeHi_672 : decode cJ31_mergeHi 672 = .ok (.athrow, 1) := dk_191 (dk_at dksJ31_mergeHi_28 23 rfl rfl)
theorem dJ31_mergeHi_673 : decode cJ31_mergeHi 673 = .ok (.getstatic 37, 3) := dk_178 0 37 (dk_at dksJ31_mergeHi_29 0 rfl rfl)
theorem dJ31_mergeHi_676 : decode cJ31_mergeHi 676 = .ok (.ifCond .ne 15, 3) := dk_154 0 15 (dk_at dksJ31_mergeHi_29 3 rfl rfl)
theorem dJ31_mergeHi_679 : decode cJ31_mergeHi 679 = .ok (.iload_n 2, 1) := dk_28 (dk_at dksJ31_mergeHi_29 6 rfl rfl)
theorem dJ31_mergeHi_680 : decode cJ31_mergeHi 680 = .ok (.ifCond .eq 11, 3) := dk_153 0 11 (dk_at dksJ31_mergeHi_29 7 rfl rfl)
theorem dJ31_mergeHi_683 : decode cJ31_mergeHi 683 = .ok (.new 41, 3) := dk_187 0 41 (dk_at dksJ31_mergeHi_29 10 rfl rfl)
theorem dJ31_mergeHi_686 : decode cJ31_mergeHi 686 = .ok (.dup, 1) := dk_89 (dk_at dksJ31_mergeHi_29 13 rfl rfl)
theorem dJ31_mergeHi_687 : decode cJ31_mergeHi 687 = .ok (.invokespecial 43, 3) := dk_183 0 43 (dk_at dksJ31_mergeHi_29 14 rfl rfl)
theorem dJ31_mergeHi_690 : decode cJ31_mergeHi 690 = .ok (.athrow, 1) := dk_191 (dk_at dksJ31_mergeHi_29 17 rfl rfl)
theorem dJ31_mergeHi_691 : decode cJ31_mergeHi 691 = .ok (.getstatic 37, 3) := dk_178 0 37 (dk_at dksJ31_mergeHi_29 18 rfl rfl)
theorem dJ31_mergeHi_694 : decode cJ31_mergeHi 694 = .ok (.ifCond .ne 16, 3) := dk_154 0 16 (dk_at dksJ31_mergeHi_29 21 rfl rfl)
theorem dJ31_mergeHi_697 : decode cJ31_mergeHi 697 = .ok (.iload 4, 2) := dk_21 4 (dk_at dksJ31_mergeHi_30 0 rfl rfl)
theorem dJ31_mergeHi_699 : decode cJ31_mergeHi 699 = .ok (.ifCond .gt 11, 3) := dk_157 0 11 (dk_at dksJ31_mergeHi_30 2 rfl rfl)
theorem dJ31_mergeHi_702 : decode cJ31_mergeHi 702 = .ok (.new 41, 3) := dk_187 0 41 (dk_at dksJ31_mergeHi_30 5 rfl rfl)
theorem dJ31_mergeHi_705 : decode cJ31_mergeHi 705 = .ok (.dup, 1) := dk_89 (dk_at dksJ31_mergeHi_30 8 rfl rfl)
theorem dJ31_mergeHi_706 : decode cJ31_mergeHi 706 = .ok (.invokespecial 43, 3) := dk_183 0 43 (dk_at dksJ31_mergeHi_30 9 rfl rfl)
theorem dJ31_mergeHi_709 : decode cJ31_mergeHi 709 = .ok (.athrow, 1) := dk_191 (dk_at dksJ31_mergeHi_30 12 rfl rfl)
theorem dJ31_mergeHi_710 : decode cJ31_mergeHi 710 = .ok (.aload 6, 2) := dk_25 6 (dk_at dksJ31_mergeHi_30 13 rfl rfl)
theorem dJ31_mergeHi_712 : decode cJ31_mergeHi 712 = .ok (.iload 7, 2) := dk_21 7 (dk_at dksJ31_mergeHi_30 15 rfl rfl)
theorem dJ31_mergeHi_714 : decode cJ31_mergeHi 714 = .ok (.aload 5, 2) := dk_25 5 (dk_at dksJ31_mergeHi_30 17 rfl rfl)
theorem dJ31_mergeHi_716 : decode cJ31_mergeHi 716 = .ok (.iload 10, 2) := dk_21 10 (dk_at dksJ31_mergeHi_30 19 rfl rfl)
theorem dJ31_mergeHi_718 : decode cJ31_mergeHi 718 = .ok (.iload 4, 2) := dk_21 4 (dk_at dksJ31_mergeHi_30 21 rfl rfl)
theorem dJ31_mergeHi_720 : decode cJ31_mergeHi 720 = .ok (.iconst 1, 1) := dk_4 (dk_at dksJ31_mergeHi_30 23 rfl rfl)
theorem dJ31_mergeHi_721 : decode cJ31_mergeHi 721 = .ok (.isub, 1) := dk_100 (dk_at dksJ31_mergeHi_31 0 rfl rfl)
theorem dJ31_mergeHi_722 : decode cJ31_mergeHi 722 = .ok (.isub, 1) := dk_100 (dk_at dksJ31_mergeHi_31 1 rfl rfl)
theorem dJ31_mergeHi_723 : decode cJ31_mergeHi 723 = .ok (.iload 4, 2) := dk_21 4 (dk_at dksJ31_mergeHi_31 2 rfl rfl)
theorem dJ31_mergeHi_725 : decode cJ31_mergeHi 725 = .ok (.invokestatic 75, 3) := dk_184 0 75 (dk_at dksJ31_mergeHi_31 4 rfl rfl)
theorem dJ31_mergeHi_728 : decode cJ31_mergeHi 728 = .ok (.return_, 1) := dk_177 (dk_at dksJ31_mergeHi_31 7 rfl rfl)
theorem c72008 : jtCode 72008 = cJ31_mergeHi := rfl
theorem F72008_0 (d : Nat) (a0 : Nat) (i1 : Int32) (i2 : Int32) (i3 : Int32) (i4 : Int32) (h : AH) : G2 d 72008 0 [.ref a0, .int i1, .int i2, .int i3, .int i4, jno, jno, jno, jno, jno, jno, jno, jno, jno] [] h = if (1 : Int32) = 0 then (if i2 ≤ 0 then (G2 d 72008 22 [.ref a0, .int i1, .int i2, .int i3, .int i4, jno, jno, jno, jno, jno, jno, jno, jno, jno] [] h) else (if i4 ≤ 0 then (G2 d 72008 22 [.ref a0, .int i1, .int i2, .int i3, .int i4, jno, jno, jno, jno, jno, jno, jno, jno, jno] [] h) else (if (i1 + i2) = i3 then (G2 d 72008 30 [.ref a0, .int i1, .int i2, .int i3, .int i4, jno, jno, jno, jno, jno, jno, jno, jno, jno] [] h) else (G2 d 72008 22 [.ref a0, .int i1, .int i2, .int i3, .int i4, jno, jno, jno, jno, jno, jno, jno, jno, jno] [] h)))) else (G2 d 72008 30 [.ref a0, .int i1, .int i2, .int i3, .int i4, jno, jno, jno, jno, jno, jno, jno, jno, jno] [] h) := by
  refine (g_getsIH (x := 1) c72008 dJ31_mergeHi_0 rfl rfl).trans ?_
  refine (g_if_neH (tgt := 30) c72008 dJ31_mergeHi_3 rfl).trans (if_cg ?_ ?_)
  · skip
    refine (g_iload_nH c72008 dJ31_mergeHi_6 rfl).trans ?_
    refine (g_if_leH (tgt := 22) c72008 dJ31_mergeHi_7 rfl).trans (if_cg ?_ ?_)
    · skip
      rfl
    · skip
      refine (g_iloadH c72008 dJ31_mergeHi_10 rfl).trans ?_
      refine (g_if_leH (tgt := 22) c72008 dJ31_mergeHi_12 rfl).trans (if_cg ?_ ?_)
      · skip
        rfl
      · skip
        refine (g_iload_nH c72008 dJ31_mergeHi_15 rfl).trans ?_
        refine (g_iload_nH c72008 dJ31_mergeHi_16 rfl).trans ?_
        refine (g_iaddH c72008 dJ31_mergeHi_17).trans ?_
        refine (g_iload_nH c72008 dJ31_mergeHi_18 rfl).trans ?_
        refine (g_icmp_eqH (tgt := 30) c72008 dJ31_mergeHi_19 rfl).trans (if_cg ?_ ?_)
        · skip
          rfl
        · skip
          rfl
  · skip
    rfl
theorem F72008_30 (d : Nat) (a0 : Nat) (i1 : Int32) (i2 : Int32) (i3 : Int32) (i4 : Int32) (h : AH) : G2 d 72008 30 [.ref a0, .int i1, .int i2, .int i3, .int i4, jno, jno, jno, jno, jno, jno, jno, jno, jno] [] h = zpR (jf (jc h (.ref a0)) [72] 0) (fun r1 => zkR r1 (zcR (M2 d 72002 [.ref a0, .int i4] h) (fun r2 h3 => zkR r2 (zpI (jf (jc h3 (.ref a0)) [72] 3) (fun x4 => zkR r1 (zkR r2 (zcV (M2 d 90001 [r1, .int i3, r2, .int x4, .int i4] h3) (fun h6 => zkR r1 (zkR r1 (zqG h6 r1 [1040, 1041, 1050, 1060, 1071] ((i1 + i2) - 1) (fun w7 => zpR w7 (fun r8 => zqA h6 r1 r8 ((i3 + i4) - 1) (fun h9 => if (i2 + (-1)) = 0 then (zkR r2 (zkR r1 (zcV (M2 d 90001 [r2, .int x4, r1, .int ((((i3 + i4) - 1) + (-1)) - (i4 - 1)), .int i4] h9) (fun h11 => some (.inl none, h11)) ()) ()) ()) else (if i4 = 1 then (zkR r1 (zkR r1 (zcV (M2 d 90001 [r1, .int (((((i1 + i2) - 1) + (-1)) - (i2 + (-1))) + 1), r1, .int (((((i3 + i4) - 1) + (-1)) - (i2 + (-1))) + 1), .int (i2 + (-1))] h9) (fun h13 => zkR r1 (zkR r2 (zqG h13 r2 [1040, 1041, 1050, 1060, 1071] ((x4 + i4) - 1) (fun w14 => zpR w14 (fun r15 => zqA h13 r1 r15 ((((i3 + i4) - 1) + (-1)) - (i2 + (-1))) (fun h16 => some (.inl none, h16)) ()) ()) ()) ()) ()) ()) ()) ()) else (zpI (jf (jc h9 (.ref a0)) [72] 1) (fun x17 => G2 d 72008 179 [.ref a0, .int i1, .int (i2 + (-1)), .int i3, .int i4, r1, r2, .int x4, .int (((i1 + i2) - 1) + (-1)), .int ((x4 + i4) - 1), .int (((i3 + i4) - 1) + (-1)), .int x17, jno, jno] [] h9) ()))) ()) ()) ()) ()) ()) ()) ()) ()) ()) ()) ()) ()) () := by
  refine (g_aload_nH c72008 dJ31_mergeHi_30 rfl).trans ?_
  refine (g_getRH c72008 dJ31_mergeHi_31 rfl).trans (rR_cg fun r1 => ?_)
  refine (g_astoreVH (L' := [.ref a0, .int i1, .int i2, .int i3, .int i4, r1, jno, jno, jno, jno, jno, jno, jno, jno]) c72008 dJ31_mergeHi_34 rfl rfl).trans (ckR_cg ?_)
  refine (g_aload_nH c72008 dJ31_mergeHi_36 rfl).trans ?_
  refine (g_iloadH c72008 dJ31_mergeHi_37 rfl).trans ?_
  refine (g_virtualH (as := [.ref a0, .int i4]) (rest := []) c72008 dJ31_mergeHi_39 rfl rfl rfl rfl rfl).trans ((jback_RH (κx := cX) (fun e h => jthrow_outH rfl)).trans (cR_cg fun r2 h3 => ?_))
  refine (g_astoreVH (L' := [.ref a0, .int i1, .int i2, .int i3, .int i4, r1, r2, jno, jno, jno, jno, jno, jno, jno]) c72008 dJ31_mergeHi_42 rfl rfl).trans (ckR_cg ?_)
  refine (g_aload_nH c72008 dJ31_mergeHi_44 rfl).trans ?_
  refine (g_getIH c72008 dJ31_mergeHi_45 rfl rfl).trans (rI_cg fun x4 => ?_)
  refine (g_istoreH (L' := [.ref a0, .int i1, .int i2, .int i3, .int i4, r1, r2, .int x4, jno, jno, jno, jno, jno, jno]) c72008 dJ31_mergeHi_48 rfl rfl).trans ?_
  refine (g_aloadVH c72008 dJ31_mergeHi_50 rfl).trans (ckR_cg ?_)
  refine (g_iload_nH c72008 dJ31_mergeHi_52 rfl).trans ?_
  refine (g_aloadVH c72008 dJ31_mergeHi_53 rfl).trans (ckR_cg ?_)
  refine (g_iloadH c72008 dJ31_mergeHi_55 rfl).trans ?_
  refine (g_iloadH c72008 dJ31_mergeHi_57 rfl).trans ?_
  refine (g_staticH (as := [r1, .int i3, r2, .int x4, .int i4]) (rest := []) c72008 dJ31_mergeHi_59 rfl rfl rfl rfl rfl).trans ((jback_VH (κx := cX) (fun e h => jthrow_outH rfl)).trans (cV_cg fun h6 => ?_))
  refine (g_iload_nH c72008 dJ31_mergeHi_62 rfl).trans ?_
  refine (g_iload_nH c72008 dJ31_mergeHi_63 rfl).trans ?_
  refine (g_iaddH c72008 dJ31_mergeHi_64).trans ?_
  refine (g_iconstH (x := 1) c72008 dJ31_mergeHi_65 rfl).trans ?_
  refine (g_isubH c72008 dJ31_mergeHi_66).trans ?_
  refine (g_istoreH (L' := [.ref a0, .int i1, .int i2, .int i3, .int i4, r1, r2, .int x4, .int ((i1 + i2) - 1), jno, jno, jno, jno, jno]) c72008 dJ31_mergeHi_67 rfl rfl).trans ?_
  refine (g_iloadH c72008 dJ31_mergeHi_69 rfl).trans ?_
  refine (g_iloadH c72008 dJ31_mergeHi_71 rfl).trans ?_
  refine (g_iaddH c72008 dJ31_mergeHi_73).trans ?_
  refine (g_iconstH (x := 1) c72008 dJ31_mergeHi_74 rfl).trans ?_
  refine (g_isubH c72008 dJ31_mergeHi_75).trans ?_
  refine (g_istoreH (L' := [.ref a0, .int i1, .int i2, .int i3, .int i4, r1, r2, .int x4, .int ((i1 + i2) - 1), .int ((x4 + i4) - 1), jno, jno, jno, jno]) c72008 dJ31_mergeHi_76 rfl rfl).trans ?_
  refine (g_iload_nH c72008 dJ31_mergeHi_78 rfl).trans ?_
  refine (g_iloadH c72008 dJ31_mergeHi_79 rfl).trans ?_
  refine (g_iaddH c72008 dJ31_mergeHi_81).trans ?_
  refine (g_iconstH (x := 1) c72008 dJ31_mergeHi_82 rfl).trans ?_
  refine (g_isubH c72008 dJ31_mergeHi_83).trans ?_
  refine (g_istoreH (L' := [.ref a0, .int i1, .int i2, .int i3, .int i4, r1, r2, .int x4, .int ((i1 + i2) - 1), .int ((x4 + i4) - 1), .int ((i3 + i4) - 1), jno, jno, jno]) c72008 dJ31_mergeHi_84 rfl rfl).trans ?_
  refine (g_aloadVH c72008 dJ31_mergeHi_86 rfl).trans (ckR_cg ?_)
  refine (g_iloadH c72008 dJ31_mergeHi_88 rfl).trans ?_
  refine (g_iincH (c := (-1)) (L' := [.ref a0, .int i1, .int i2, .int i3, .int i4, r1, r2, .int x4, .int ((i1 + i2) - 1), .int ((x4 + i4) - 1), .int (((i3 + i4) - 1) + (-1)), jno, jno, jno]) c72008 dJ31_mergeHi_90 rfl rfl rfl rfl).trans ?_
  refine (g_aloadVH c72008 dJ31_mergeHi_93 rfl).trans (ckR_cg ?_)
  refine (g_iloadH c72008 dJ31_mergeHi_95 rfl).trans ?_
  refine (g_iincH (c := (-1)) (L' := [.ref a0, .int i1, .int i2, .int i3, .int i4, r1, r2, .int x4, .int (((i1 + i2) - 1) + (-1)), .int ((x4 + i4) - 1), .int (((i3 + i4) - 1) + (-1)), jno, jno, jno]) c72008 dJ31_mergeHi_97 rfl rfl rfl rfl).trans ?_
  refine (g_aaloadH c72008 dJ31_mergeHi_100).trans (aG_cg fun w7 => rR_cg fun r8 => ?_)
  refine (g_aastoreH c72008 dJ31_mergeHi_101).trans (aSr_cg fun h9 => ?_)
  refine (g_iincH (c := (-1)) (L' := [.ref a0, .int i1, .int (i2 + (-1)), .int i3, .int i4, r1, r2, .int x4, .int (((i1 + i2) - 1) + (-1)), .int ((x4 + i4) - 1), .int (((i3 + i4) - 1) + (-1)), jno, jno, jno]) c72008 dJ31_mergeHi_102 rfl rfl rfl rfl).trans ?_
  refine (g_iload_nH c72008 dJ31_mergeHi_105 rfl).trans ?_
  refine (g_if_neH (tgt := 128) c72008 dJ31_mergeHi_106 rfl).trans (if_cg ?_ ?_)
  · skip
    refine (g_aloadVH c72008 dJ31_mergeHi_109 rfl).trans (ckR_cg ?_)
    refine (g_iloadH c72008 dJ31_mergeHi_111 rfl).trans ?_
    refine (g_aloadVH c72008 dJ31_mergeHi_113 rfl).trans (ckR_cg ?_)
    refine (g_iloadH c72008 dJ31_mergeHi_115 rfl).trans ?_
    refine (g_iloadH c72008 dJ31_mergeHi_117 rfl).trans ?_
    refine (g_iconstH (x := 1) c72008 dJ31_mergeHi_119 rfl).trans ?_
    refine (g_isubH c72008 dJ31_mergeHi_120).trans ?_
    refine (g_isubH c72008 dJ31_mergeHi_121).trans ?_
    refine (g_iloadH c72008 dJ31_mergeHi_122 rfl).trans ?_
    refine (g_staticH (as := [r2, .int x4, r1, .int ((((i3 + i4) - 1) + (-1)) - (i4 - 1)), .int i4]) (rest := []) c72008 dJ31_mergeHi_124 rfl rfl rfl rfl rfl).trans ((jback_VH (κx := cX) (fun e h => jthrow_outH rfl)).trans (cV_cg fun h11 => ?_))
    exact g_returnH c72008 dJ31_mergeHi_127 rfl
  · skip
    refine (g_iloadH c72008 dJ31_mergeHi_128 rfl).trans ?_
    refine (g_iconstH (x := 1) c72008 dJ31_mergeHi_130 rfl).trans ?_
    refine (g_icmp_neH (tgt := 173) c72008 dJ31_mergeHi_131 rfl).trans (if_cg ?_ ?_)
    · skip
      refine (g_iloadH c72008 dJ31_mergeHi_134 rfl).trans ?_
      refine (g_iload_nH c72008 dJ31_mergeHi_136 rfl).trans ?_
      refine (g_isubH c72008 dJ31_mergeHi_137).trans ?_
      refine (g_istoreH (L' := [.ref a0, .int i1, .int (i2 + (-1)), .int i3, .int i4, r1, r2, .int x4, .int (((i1 + i2) - 1) + (-1)), .int ((x4 + i4) - 1), .int ((((i3 + i4) - 1) + (-1)) - (i2 + (-1))), jno, jno, jno]) c72008 dJ31_mergeHi_138 rfl rfl).trans ?_
      refine (g_iloadH c72008 dJ31_mergeHi_140 rfl).trans ?_
      refine (g_iload_nH c72008 dJ31_mergeHi_142 rfl).trans ?_
      refine (g_isubH c72008 dJ31_mergeHi_143).trans ?_
      refine (g_istoreH (L' := [.ref a0, .int i1, .int (i2 + (-1)), .int i3, .int i4, r1, r2, .int x4, .int ((((i1 + i2) - 1) + (-1)) - (i2 + (-1))), .int ((x4 + i4) - 1), .int ((((i3 + i4) - 1) + (-1)) - (i2 + (-1))), jno, jno, jno]) c72008 dJ31_mergeHi_144 rfl rfl).trans ?_
      refine (g_aloadVH c72008 dJ31_mergeHi_146 rfl).trans (ckR_cg ?_)
      refine (g_iloadH c72008 dJ31_mergeHi_148 rfl).trans ?_
      refine (g_iconstH (x := 1) c72008 dJ31_mergeHi_150 rfl).trans ?_
      refine (g_iaddH c72008 dJ31_mergeHi_151).trans ?_
      refine (g_aloadVH c72008 dJ31_mergeHi_152 rfl).trans (ckR_cg ?_)
      refine (g_iloadH c72008 dJ31_mergeHi_154 rfl).trans ?_
      refine (g_iconstH (x := 1) c72008 dJ31_mergeHi_156 rfl).trans ?_
      refine (g_iaddH c72008 dJ31_mergeHi_157).trans ?_
      refine (g_iload_nH c72008 dJ31_mergeHi_158 rfl).trans ?_
      refine (g_staticH (as := [r1, .int (((((i1 + i2) - 1) + (-1)) - (i2 + (-1))) + 1), r1, .int (((((i3 + i4) - 1) + (-1)) - (i2 + (-1))) + 1), .int (i2 + (-1))]) (rest := []) c72008 dJ31_mergeHi_159 rfl rfl rfl rfl rfl).trans ((jback_VH (κx := cX) (fun e h => jthrow_outH rfl)).trans (cV_cg fun h13 => ?_))
      refine (g_aloadVH c72008 dJ31_mergeHi_162 rfl).trans (ckR_cg ?_)
      refine (g_iloadH c72008 dJ31_mergeHi_164 rfl).trans ?_
      refine (g_aloadVH c72008 dJ31_mergeHi_166 rfl).trans (ckR_cg ?_)
      refine (g_iloadH c72008 dJ31_mergeHi_168 rfl).trans ?_
      refine (g_aaloadH c72008 dJ31_mergeHi_170).trans (aG_cg fun w14 => rR_cg fun r15 => ?_)
      refine (g_aastoreH c72008 dJ31_mergeHi_171).trans (aSr_cg fun h16 => ?_)
      exact g_returnH c72008 dJ31_mergeHi_172 rfl
    · skip
      refine (g_aload_nH c72008 dJ31_mergeHi_173 rfl).trans ?_
      refine (g_getIH c72008 dJ31_mergeHi_174 rfl rfl).trans (rI_cg fun x17 => ?_)
      refine (g_istoreH (L' := [.ref a0, .int i1, .int (i2 + (-1)), .int i3, .int i4, r1, r2, .int x4, .int (((i1 + i2) - 1) + (-1)), .int ((x4 + i4) - 1), .int (((i3 + i4) - 1) + (-1)), .int x17, jno, jno]) c72008 dJ31_mergeHi_177 rfl rfl).trans ?_
      rfl
theorem F72008_179 (d : Nat) (a0 : Nat) (i1 : Int32) (i2 : Int32) (i3 : Int32) (i4 : Int32) (v5 : Value) (v6 : Value) (i7 : Int32) (i8 : Int32) (i9 : Int32) (i10 : Int32) (i11 : Int32) (v12 : Value) (v13 : Value) (h : AH) : G2 d 72008 179 [.ref a0, .int i1, .int i2, .int i3, .int i4, v5, v6, .int i7, .int i8, .int i9, .int i10, .int i11, v12, v13] [] h = G2 d 72008 185 [.ref a0, .int i1, .int i2, .int i3, .int i4, v5, v6, .int i7, .int i8, .int i9, .int i10, .int i11, .int 0, .int 0] [] h := by
  refine (g_iconstH (x := 0) c72008 dJ31_mergeHi_179 rfl).trans ?_
  refine (g_istoreH (L' := [.ref a0, .int i1, .int i2, .int i3, .int i4, v5, v6, .int i7, .int i8, .int i9, .int i10, .int i11, .int 0, v13]) c72008 dJ31_mergeHi_180 rfl rfl).trans ?_
  refine (g_iconstH (x := 0) c72008 dJ31_mergeHi_182 rfl).trans ?_
  refine (g_istoreH (L' := [.ref a0, .int i1, .int i2, .int i3, .int i4, v5, v6, .int i7, .int i8, .int i9, .int i10, .int i11, .int 0, .int 0]) c72008 dJ31_mergeHi_183 rfl rfl).trans ?_
  rfl
theorem F72008_185 (d : Nat) (a0 : Nat) (i1 : Int32) (i2 : Int32) (i3 : Int32) (i4 : Int32) (v5 : Value) (v6 : Value) (i7 : Int32) (i8 : Int32) (i9 : Int32) (i10 : Int32) (i11 : Int32) (i12 : Int32) (i13 : Int32) (h : AH) : G2 d 72008 185 [.ref a0, .int i1, .int i2, .int i3, .int i4, v5, v6, .int i7, .int i8, .int i9, .int i10, .int i11, .int i12, .int i13] [] h = if (1 : Int32) = 0 then (if i2 ≤ 0 then (G2 d 72008 201 [.ref a0, .int i1, .int i2, .int i3, .int i4, v5, v6, .int i7, .int i8, .int i9, .int i10, .int i11, .int i12, .int i13] [] h) else (if 1 < i4 then (G2 d 72008 209 [.ref a0, .int i1, .int i2, .int i3, .int i4, v5, v6, .int i7, .int i8, .int i9, .int i10, .int i11, .int i12, .int i13] [] h) else (G2 d 72008 201 [.ref a0, .int i1, .int i2, .int i3, .int i4, v5, v6, .int i7, .int i8, .int i9, .int i10, .int i11, .int i12, .int i13] [] h))) else (G2 d 72008 209 [.ref a0, .int i1, .int i2, .int i3, .int i4, v5, v6, .int i7, .int i8, .int i9, .int i10, .int i11, .int i12, .int i13] [] h) := by
  refine (g_getsIH (x := 1) c72008 dJ31_mergeHi_185 rfl rfl).trans ?_
  refine (g_if_neH (tgt := 209) c72008 dJ31_mergeHi_188 rfl).trans (if_cg ?_ ?_)
  · skip
    refine (g_iload_nH c72008 dJ31_mergeHi_191 rfl).trans ?_
    refine (g_if_leH (tgt := 201) c72008 dJ31_mergeHi_192 rfl).trans (if_cg ?_ ?_)
    · skip
      rfl
    · skip
      refine (g_iloadH c72008 dJ31_mergeHi_195 rfl).trans ?_
      refine (g_iconstH (x := 1) c72008 dJ31_mergeHi_197 rfl).trans ?_
      refine (g_icmp_gtH (tgt := 209) c72008 dJ31_mergeHi_198 rfl).trans (if_cg ?_ ?_)
      · skip
        rfl
      · skip
        rfl
  · skip
    rfl
theorem F72008_209 (d : Nat) (a0 : Nat) (i1 : Int32) (i2 : Int32) (i3 : Int32) (i4 : Int32) (v5 : Value) (v6 : Value) (i7 : Int32) (i8 : Int32) (i9 : Int32) (i10 : Int32) (i11 : Int32) (i12 : Int32) (i13 : Int32) (h : AH) : G2 d 72008 209 [.ref a0, .int i1, .int i2, .int i3, .int i4, v5, v6, .int i7, .int i8, .int i9, .int i10, .int i11, .int i12, .int i13] [] h = zkR v6 (zqG h v6 [1040, 1041, 1050, 1060, 1071] i9 (fun w1 => zpR w1 (fun r2 => zqK h r2 [24, 49, 50, 62, 150, 162] (zkR v5 (zqG h v5 [1040, 1041, 1050, 1060, 1071] i8 (fun w3 => zpR w3 (fun r4 => zcI (MvH d 9147 [r2, r4] h) (fun x5 h6 => if 0 ≤ x5 then (zkR v5 (zkR v6 (zqG h6 v6 [1040, 1041, 1050, 1060, 1071] i9 (fun w7 => zpR w7 (fun r8 => zqA h6 v5 r8 i10 (fun h9 => if (i4 + (-1)) = 1 then (if 1 ≤ i11 then (G2 d 72008 590 [.ref a0, .int i1, .int i2, .int i3, .int (i4 + (-1)), v5, v6, .int i7, .int i8, .int (i9 + (-1)), .int (i10 + (-1)), .int i11, .int 0, .int (i13 + 1)] [.int i11, .ref a0] h9) else (G2 d 72008 590 [.ref a0, .int i1, .int i2, .int i3, .int (i4 + (-1)), v5, v6, .int i7, .int i8, .int (i9 + (-1)), .int (i10 + (-1)), .int i11, .int 0, .int (i13 + 1)] [.int 1, .ref a0] h9)) else (if (0 ||| (i13 + 1)) < i11 then (G2 d 72008 185 [.ref a0, .int i1, .int i2, .int i3, .int (i4 + (-1)), v5, v6, .int i7, .int i8, .int (i9 + (-1)), .int (i10 + (-1)), .int i11, .int 0, .int (i13 + 1)] [] h9) else (G2 d 72008 306 [.ref a0, .int i1, .int i2, .int i3, .int (i4 + (-1)), v5, v6, .int i7, .int i8, .int (i9 + (-1)), .int (i10 + (-1)), .int i11, .int 0, .int (i13 + 1)] [] h9))) ()) ()) ()) ()) ()) else (zkR v5 (zkR v5 (zqG h6 v5 [1040, 1041, 1050, 1060, 1071] i8 (fun w10 => zpR w10 (fun r11 => zqA h6 v5 r11 i10 (fun h12 => if (i2 + (-1)) = 0 then (if 1 ≤ i11 then (G2 d 72008 590 [.ref a0, .int i1, .int (i2 + (-1)), .int i3, .int i4, v5, v6, .int i7, .int (i8 + (-1)), .int i9, .int (i10 + (-1)), .int i11, .int (i12 + 1), .int 0] [.int i11, .ref a0] h12) else (G2 d 72008 590 [.ref a0, .int i1, .int (i2 + (-1)), .int i3, .int i4, v5, v6, .int i7, .int (i8 + (-1)), .int i9, .int (i10 + (-1)), .int i11, .int (i12 + 1), .int 0] [.int 1, .ref a0] h12)) else (if ((i12 + 1) ||| 0) < i11 then (G2 d 72008 185 [.ref a0, .int i1, .int (i2 + (-1)), .int i3, .int i4, v5, v6, .int i7, .int (i8 + (-1)), .int i9, .int (i10 + (-1)), .int i11, .int (i12 + 1), .int 0] [] h12) else (G2 d 72008 306 [.ref a0, .int i1, .int (i2 + (-1)), .int i3, .int i4, v5, v6, .int i7, .int (i8 + (-1)), .int i9, .int (i10 + (-1)), .int i11, .int (i12 + 1), .int 0] [] h12))) ()) ()) ()) ()) ())) ()) ()) ()) ()) ()) ()) ()) () := by
  refine (g_aloadVH c72008 dJ31_mergeHi_209 rfl).trans (ckR_cg ?_)
  refine (g_iloadH c72008 dJ31_mergeHi_211 rfl).trans ?_
  refine (g_aaloadH c72008 dJ31_mergeHi_213).trans (aG_cg fun w1 => rR_cg fun r2 => ?_)
  refine (g_castH c72008 dJ31_mergeHi_214 rfl).trans (cK_cg ?_)
  refine (g_aloadVH c72008 dJ31_mergeHi_217 rfl).trans (ckR_cg ?_)
  refine (g_iloadH c72008 dJ31_mergeHi_219 rfl).trans ?_
  refine (g_aaloadH c72008 dJ31_mergeHi_221).trans (aG_cg fun w3 => rR_cg fun r4 => ?_)
  refine (g_faceH (as := [r2, r4]) (rest := []) c72008 dJ31_mergeHi_222 rfl rfl rfl rfl rfl).trans ((jback_IH (κx := cX) (fun e h => jthrow_outH rfl)).trans (cI_cg fun x5 h6 => ?_))
  refine (g_if_geH (tgt := 262) c72008 dJ31_mergeHi_227 rfl).trans (if_cg ?_ ?_)
  · skip
    refine (g_aloadVH c72008 dJ31_mergeHi_262 rfl).trans (ckR_cg ?_)
    refine (g_iloadH c72008 dJ31_mergeHi_264 rfl).trans ?_
    refine (g_iincH (c := (-1)) (L' := [.ref a0, .int i1, .int i2, .int i3, .int i4, v5, v6, .int i7, .int i8, .int i9, .int (i10 + (-1)), .int i11, .int i12, .int i13]) c72008 dJ31_mergeHi_266 rfl rfl rfl rfl).trans ?_
    refine (g_aloadVH c72008 dJ31_mergeHi_269 rfl).trans (ckR_cg ?_)
    refine (g_iloadH c72008 dJ31_mergeHi_271 rfl).trans ?_
    refine (g_iincH (c := (-1)) (L' := [.ref a0, .int i1, .int i2, .int i3, .int i4, v5, v6, .int i7, .int i8, .int (i9 + (-1)), .int (i10 + (-1)), .int i11, .int i12, .int i13]) c72008 dJ31_mergeHi_273 rfl rfl rfl rfl).trans ?_
    refine (g_aaloadH c72008 dJ31_mergeHi_276).trans (aG_cg fun w7 => rR_cg fun r8 => ?_)
    refine (g_aastoreH c72008 dJ31_mergeHi_277).trans (aSr_cg fun h9 => ?_)
    refine (g_iincH (c := 1) (L' := [.ref a0, .int i1, .int i2, .int i3, .int i4, v5, v6, .int i7, .int i8, .int (i9 + (-1)), .int (i10 + (-1)), .int i11, .int i12, .int (i13 + 1)]) c72008 dJ31_mergeHi_278 rfl rfl rfl rfl).trans ?_
    refine (g_iconstH (x := 0) c72008 dJ31_mergeHi_281 rfl).trans ?_
    refine (g_istoreH (L' := [.ref a0, .int i1, .int i2, .int i3, .int i4, v5, v6, .int i7, .int i8, .int (i9 + (-1)), .int (i10 + (-1)), .int i11, .int 0, .int (i13 + 1)]) c72008 dJ31_mergeHi_282 rfl rfl).trans ?_
    refine (g_iincH (c := (-1)) (L' := [.ref a0, .int i1, .int i2, .int i3, .int (i4 + (-1)), v5, v6, .int i7, .int i8, .int (i9 + (-1)), .int (i10 + (-1)), .int i11, .int 0, .int (i13 + 1)]) c72008 dJ31_mergeHi_284 rfl rfl rfl rfl).trans ?_
    refine (g_iloadH c72008 dJ31_mergeHi_287 rfl).trans ?_
    refine (g_iconstH (x := 1) c72008 dJ31_mergeHi_289 rfl).trans ?_
    refine (g_icmp_neH (tgt := 296) c72008 dJ31_mergeHi_290 rfl).trans (if_cg ?_ ?_)
    · skip
      refine (g_gotoH (tgt := 577) c72008 dJ31_mergeHi_293 rfl).trans ?_
      refine (g_aload_nH c72008 dJ31_mergeHi_577 rfl).trans ?_
      refine (g_iloadH c72008 dJ31_mergeHi_578 rfl).trans ?_
      refine (g_iconstH (x := 1) c72008 dJ31_mergeHi_580 rfl).trans ?_
      refine (g_icmp_geH (tgt := 588) c72008 dJ31_mergeHi_581 rfl).trans (if_cg ?_ ?_)
      · skip
        refine (g_iloadH c72008 dJ31_mergeHi_588 rfl).trans ?_
        rfl
      · skip
        refine (g_iconstH (x := 1) c72008 dJ31_mergeHi_584 rfl).trans ?_
        refine (g_gotoH (tgt := 590) c72008 dJ31_mergeHi_585 rfl).trans ?_
        rfl
    · skip
      refine (g_iloadH c72008 dJ31_mergeHi_296 rfl).trans ?_
      refine (g_iloadH c72008 dJ31_mergeHi_298 rfl).trans ?_
      refine (g_iorH c72008 dJ31_mergeHi_300).trans ?_
      refine (g_iloadH c72008 dJ31_mergeHi_301 rfl).trans ?_
      refine (g_icmp_ltH (tgt := 185) c72008 dJ31_mergeHi_303 rfl).trans (if_cg ?_ ?_)
      · skip
        rfl
      · skip
        rfl
  · skip
    refine (g_aloadVH c72008 dJ31_mergeHi_230 rfl).trans (ckR_cg ?_)
    refine (g_iloadH c72008 dJ31_mergeHi_232 rfl).trans ?_
    refine (g_iincH (c := (-1)) (L' := [.ref a0, .int i1, .int i2, .int i3, .int i4, v5, v6, .int i7, .int i8, .int i9, .int (i10 + (-1)), .int i11, .int i12, .int i13]) c72008 dJ31_mergeHi_234 rfl rfl rfl rfl).trans ?_
    refine (g_aloadVH c72008 dJ31_mergeHi_237 rfl).trans (ckR_cg ?_)
    refine (g_iloadH c72008 dJ31_mergeHi_239 rfl).trans ?_
    refine (g_iincH (c := (-1)) (L' := [.ref a0, .int i1, .int i2, .int i3, .int i4, v5, v6, .int i7, .int (i8 + (-1)), .int i9, .int (i10 + (-1)), .int i11, .int i12, .int i13]) c72008 dJ31_mergeHi_241 rfl rfl rfl rfl).trans ?_
    refine (g_aaloadH c72008 dJ31_mergeHi_244).trans (aG_cg fun w10 => rR_cg fun r11 => ?_)
    refine (g_aastoreH c72008 dJ31_mergeHi_245).trans (aSr_cg fun h12 => ?_)
    refine (g_iincH (c := 1) (L' := [.ref a0, .int i1, .int i2, .int i3, .int i4, v5, v6, .int i7, .int (i8 + (-1)), .int i9, .int (i10 + (-1)), .int i11, .int (i12 + 1), .int i13]) c72008 dJ31_mergeHi_246 rfl rfl rfl rfl).trans ?_
    refine (g_iconstH (x := 0) c72008 dJ31_mergeHi_249 rfl).trans ?_
    refine (g_istoreH (L' := [.ref a0, .int i1, .int i2, .int i3, .int i4, v5, v6, .int i7, .int (i8 + (-1)), .int i9, .int (i10 + (-1)), .int i11, .int (i12 + 1), .int 0]) c72008 dJ31_mergeHi_250 rfl rfl).trans ?_
    refine (g_iincH (c := (-1)) (L' := [.ref a0, .int i1, .int (i2 + (-1)), .int i3, .int i4, v5, v6, .int i7, .int (i8 + (-1)), .int i9, .int (i10 + (-1)), .int i11, .int (i12 + 1), .int 0]) c72008 dJ31_mergeHi_252 rfl rfl rfl rfl).trans ?_
    refine (g_iload_nH c72008 dJ31_mergeHi_255 rfl).trans ?_
    refine (g_if_neH (tgt := 296) c72008 dJ31_mergeHi_256 rfl).trans (if_cg ?_ ?_)
    · skip
      refine (g_gotoH (tgt := 577) c72008 dJ31_mergeHi_259 rfl).trans ?_
      refine (g_aload_nH c72008 dJ31_mergeHi_577 rfl).trans ?_
      refine (g_iloadH c72008 dJ31_mergeHi_578 rfl).trans ?_
      refine (g_iconstH (x := 1) c72008 dJ31_mergeHi_580 rfl).trans ?_
      refine (g_icmp_geH (tgt := 588) c72008 dJ31_mergeHi_581 rfl).trans (if_cg ?_ ?_)
      · skip
        refine (g_iloadH c72008 dJ31_mergeHi_588 rfl).trans ?_
        rfl
      · skip
        refine (g_iconstH (x := 1) c72008 dJ31_mergeHi_584 rfl).trans ?_
        refine (g_gotoH (tgt := 590) c72008 dJ31_mergeHi_585 rfl).trans ?_
        rfl
    · skip
      refine (g_iloadH c72008 dJ31_mergeHi_296 rfl).trans ?_
      refine (g_iloadH c72008 dJ31_mergeHi_298 rfl).trans ?_
      refine (g_iorH c72008 dJ31_mergeHi_300).trans ?_
      refine (g_iloadH c72008 dJ31_mergeHi_301 rfl).trans ?_
      refine (g_icmp_ltH (tgt := 185) c72008 dJ31_mergeHi_303 rfl).trans (if_cg ?_ ?_)
      · skip
        rfl
      · skip
        rfl
theorem F72008_306 (d : Nat) (a0 : Nat) (i1 : Int32) (i2 : Int32) (i3 : Int32) (i4 : Int32) (v5 : Value) (v6 : Value) (i7 : Int32) (i8 : Int32) (i9 : Int32) (i10 : Int32) (i11 : Int32) (i12 : Int32) (i13 : Int32) (h : AH) : G2 d 72008 306 [.ref a0, .int i1, .int i2, .int i3, .int i4, v5, v6, .int i7, .int i8, .int i9, .int i10, .int i11, .int i12, .int i13] [] h = if (1 : Int32) = 0 then (if i2 ≤ 0 then (G2 d 72008 322 [.ref a0, .int i1, .int i2, .int i3, .int i4, v5, v6, .int i7, .int i8, .int i9, .int i10, .int i11, .int i12, .int i13] [] h) else (if 1 < i4 then (G2 d 72008 330 [.ref a0, .int i1, .int i2, .int i3, .int i4, v5, v6, .int i7, .int i8, .int i9, .int i10, .int i11, .int i12, .int i13] [] h) else (G2 d 72008 322 [.ref a0, .int i1, .int i2, .int i3, .int i4, v5, v6, .int i7, .int i8, .int i9, .int i10, .int i11, .int i12, .int i13] [] h))) else (G2 d 72008 330 [.ref a0, .int i1, .int i2, .int i3, .int i4, v5, v6, .int i7, .int i8, .int i9, .int i10, .int i11, .int i12, .int i13] [] h) := by
  refine (g_getsIH (x := 1) c72008 dJ31_mergeHi_306 rfl rfl).trans ?_
  refine (g_if_neH (tgt := 330) c72008 dJ31_mergeHi_309 rfl).trans (if_cg ?_ ?_)
  · skip
    refine (g_iload_nH c72008 dJ31_mergeHi_312 rfl).trans ?_
    refine (g_if_leH (tgt := 322) c72008 dJ31_mergeHi_313 rfl).trans (if_cg ?_ ?_)
    · skip
      rfl
    · skip
      refine (g_iloadH c72008 dJ31_mergeHi_316 rfl).trans ?_
      refine (g_iconstH (x := 1) c72008 dJ31_mergeHi_318 rfl).trans ?_
      refine (g_icmp_gtH (tgt := 330) c72008 dJ31_mergeHi_319 rfl).trans (if_cg ?_ ?_)
      · skip
        rfl
      · skip
        rfl
  · skip
    rfl
theorem F72008_330 (d : Nat) (a0 : Nat) (i1 : Int32) (i2 : Int32) (i3 : Int32) (i4 : Int32) (v5 : Value) (v6 : Value) (i7 : Int32) (i8 : Int32) (i9 : Int32) (i10 : Int32) (i11 : Int32) (i12 : Int32) (i13 : Int32) (h : AH) : G2 d 72008 330 [.ref a0, .int i1, .int i2, .int i3, .int i4, v5, v6, .int i7, .int i8, .int i9, .int i10, .int i11, .int i12, .int i13] [] h = zkR v6 (zqG h v6 [1040, 1041, 1050, 1060, 1071] i9 (fun w1 => zpR w1 (fun r2 => zqK h r2 [24, 49, 50, 62, 150, 162] (zkR v5 (zcI (M2 d 72004 [r2, v5, .int i1, .int i2, .int (i2 - 1)] h) (fun x3 h4 => if (i2 - x3) = 0 then (G2 d 72008 400 [.ref a0, .int i1, .int i2, .int i3, .int i4, v5, v6, .int i7, .int i8, .int i9, .int i10, .int i11, .int (i2 - x3), .int i13] [] h4) else (zkR v5 (zkR v5 (zcV (M2 d 90001 [v5, .int ((i8 - (i2 - x3)) + 1), v5, .int ((i10 - (i2 - x3)) + 1), .int (i2 - x3)] h4) (fun h6 => if (i2 - (i2 - x3)) = 0 then (if 1 ≤ i11 then (G2 d 72008 590 [.ref a0, .int i1, .int (i2 - (i2 - x3)), .int i3, .int i4, v5, v6, .int i7, .int (i8 - (i2 - x3)), .int i9, .int (i10 - (i2 - x3)), .int i11, .int (i2 - x3), .int i13] [.int i11, .ref a0] h6) else (G2 d 72008 590 [.ref a0, .int i1, .int (i2 - (i2 - x3)), .int i3, .int i4, v5, v6, .int i7, .int (i8 - (i2 - x3)), .int i9, .int (i10 - (i2 - x3)), .int i11, .int (i2 - x3), .int i13] [.int 1, .ref a0] h6)) else (G2 d 72008 400 [.ref a0, .int i1, .int (i2 - (i2 - x3)), .int i3, .int i4, v5, v6, .int i7, .int (i8 - (i2 - x3)), .int i9, .int (i10 - (i2 - x3)), .int i11, .int (i2 - x3), .int i13] [] h6)) ()) ()) ())) ()) ()) ()) ()) ()) () := by
  refine (g_iload_nH c72008 dJ31_mergeHi_330 rfl).trans ?_
  refine (g_aloadVH c72008 dJ31_mergeHi_331 rfl).trans (ckR_cg ?_)
  refine (g_iloadH c72008 dJ31_mergeHi_333 rfl).trans ?_
  refine (g_aaloadH c72008 dJ31_mergeHi_335).trans (aG_cg fun w1 => rR_cg fun r2 => ?_)
  refine (g_castH c72008 dJ31_mergeHi_336 rfl).trans (cK_cg ?_)
  refine (g_aloadVH c72008 dJ31_mergeHi_339 rfl).trans (ckR_cg ?_)
  refine (g_iload_nH c72008 dJ31_mergeHi_341 rfl).trans ?_
  refine (g_iload_nH c72008 dJ31_mergeHi_342 rfl).trans ?_
  refine (g_iload_nH c72008 dJ31_mergeHi_343 rfl).trans ?_
  refine (g_iconstH (x := 1) c72008 dJ31_mergeHi_344 rfl).trans ?_
  refine (g_isubH c72008 dJ31_mergeHi_345).trans ?_
  refine (g_staticH (as := [r2, v5, .int i1, .int i2, .int (i2 - 1)]) (rest := [.int i2]) c72008 dJ31_mergeHi_346 rfl rfl rfl rfl rfl).trans ((jback_IH (κx := cX) (fun e h => jthrow_outH rfl)).trans (cI_cg fun x3 h4 => ?_))
  refine (g_isubH c72008 dJ31_mergeHi_349).trans ?_
  refine (g_istoreH (L' := [.ref a0, .int i1, .int i2, .int i3, .int i4, v5, v6, .int i7, .int i8, .int i9, .int i10, .int i11, .int (i2 - x3), .int i13]) c72008 dJ31_mergeHi_350 rfl rfl).trans ?_
  refine (g_iloadH c72008 dJ31_mergeHi_352 rfl).trans ?_
  refine (g_if_eqH (tgt := 400) c72008 dJ31_mergeHi_354 rfl).trans (if_cg ?_ ?_)
  · skip
    rfl
  · skip
    refine (g_iloadH c72008 dJ31_mergeHi_357 rfl).trans ?_
    refine (g_iloadH c72008 dJ31_mergeHi_359 rfl).trans ?_
    refine (g_isubH c72008 dJ31_mergeHi_361).trans ?_
    refine (g_istoreH (L' := [.ref a0, .int i1, .int i2, .int i3, .int i4, v5, v6, .int i7, .int i8, .int i9, .int (i10 - (i2 - x3)), .int i11, .int (i2 - x3), .int i13]) c72008 dJ31_mergeHi_362 rfl rfl).trans ?_
    refine (g_iloadH c72008 dJ31_mergeHi_364 rfl).trans ?_
    refine (g_iloadH c72008 dJ31_mergeHi_366 rfl).trans ?_
    refine (g_isubH c72008 dJ31_mergeHi_368).trans ?_
    refine (g_istoreH (L' := [.ref a0, .int i1, .int i2, .int i3, .int i4, v5, v6, .int i7, .int (i8 - (i2 - x3)), .int i9, .int (i10 - (i2 - x3)), .int i11, .int (i2 - x3), .int i13]) c72008 dJ31_mergeHi_369 rfl rfl).trans ?_
    refine (g_iload_nH c72008 dJ31_mergeHi_371 rfl).trans ?_
    refine (g_iloadH c72008 dJ31_mergeHi_372 rfl).trans ?_
    refine (g_isubH c72008 dJ31_mergeHi_374).trans ?_
    refine (g_istore_nH (L' := [.ref a0, .int i1, .int (i2 - (i2 - x3)), .int i3, .int i4, v5, v6, .int i7, .int (i8 - (i2 - x3)), .int i9, .int (i10 - (i2 - x3)), .int i11, .int (i2 - x3), .int i13]) c72008 dJ31_mergeHi_375 rfl rfl).trans ?_
    refine (g_aloadVH c72008 dJ31_mergeHi_376 rfl).trans (ckR_cg ?_)
    refine (g_iloadH c72008 dJ31_mergeHi_378 rfl).trans ?_
    refine (g_iconstH (x := 1) c72008 dJ31_mergeHi_380 rfl).trans ?_
    refine (g_iaddH c72008 dJ31_mergeHi_381).trans ?_
    refine (g_aloadVH c72008 dJ31_mergeHi_382 rfl).trans (ckR_cg ?_)
    refine (g_iloadH c72008 dJ31_mergeHi_384 rfl).trans ?_
    refine (g_iconstH (x := 1) c72008 dJ31_mergeHi_386 rfl).trans ?_
    refine (g_iaddH c72008 dJ31_mergeHi_387).trans ?_
    refine (g_iloadH c72008 dJ31_mergeHi_388 rfl).trans ?_
    refine (g_staticH (as := [v5, .int ((i8 - (i2 - x3)) + 1), v5, .int ((i10 - (i2 - x3)) + 1), .int (i2 - x3)]) (rest := []) c72008 dJ31_mergeHi_390 rfl rfl rfl rfl rfl).trans ((jback_VH (κx := cX) (fun e h => jthrow_outH rfl)).trans (cV_cg fun h6 => ?_))
    refine (g_iload_nH c72008 dJ31_mergeHi_393 rfl).trans ?_
    refine (g_if_neH (tgt := 400) c72008 dJ31_mergeHi_394 rfl).trans (if_cg ?_ ?_)
    · skip
      refine (g_gotoH (tgt := 577) c72008 dJ31_mergeHi_397 rfl).trans ?_
      refine (g_aload_nH c72008 dJ31_mergeHi_577 rfl).trans ?_
      refine (g_iloadH c72008 dJ31_mergeHi_578 rfl).trans ?_
      refine (g_iconstH (x := 1) c72008 dJ31_mergeHi_580 rfl).trans ?_
      refine (g_icmp_geH (tgt := 588) c72008 dJ31_mergeHi_581 rfl).trans (if_cg ?_ ?_)
      · skip
        refine (g_iloadH c72008 dJ31_mergeHi_588 rfl).trans ?_
        rfl
      · skip
        refine (g_iconstH (x := 1) c72008 dJ31_mergeHi_584 rfl).trans ?_
        refine (g_gotoH (tgt := 590) c72008 dJ31_mergeHi_585 rfl).trans ?_
        rfl
    · skip
      rfl
theorem F72008_400 (d : Nat) (a0 : Nat) (i1 : Int32) (i2 : Int32) (i3 : Int32) (i4 : Int32) (v5 : Value) (v6 : Value) (i7 : Int32) (i8 : Int32) (i9 : Int32) (i10 : Int32) (i11 : Int32) (i12 : Int32) (i13 : Int32) (h : AH) : G2 d 72008 400 [.ref a0, .int i1, .int i2, .int i3, .int i4, v5, v6, .int i7, .int i8, .int i9, .int i10, .int i11, .int i12, .int i13] [] h = zkR v5 (zkR v6 (zqG h v6 [1040, 1041, 1050, 1060, 1071] i9 (fun w1 => zpR w1 (fun r2 => zqA h v5 r2 i10 (fun h3 => if (i4 + (-1)) = 1 then (if 1 ≤ i11 then (G2 d 72008 590 [.ref a0, .int i1, .int i2, .int i3, .int (i4 + (-1)), v5, v6, .int i7, .int i8, .int (i9 + (-1)), .int (i10 + (-1)), .int i11, .int i12, .int i13] [.int i11, .ref a0] h3) else (G2 d 72008 590 [.ref a0, .int i1, .int i2, .int i3, .int (i4 + (-1)), v5, v6, .int i7, .int i8, .int (i9 + (-1)), .int (i10 + (-1)), .int i11, .int i12, .int i13] [.int 1, .ref a0] h3)) else (zkR v5 (zqG h3 v5 [1040, 1041, 1050, 1060, 1071] i8 (fun w4 => zpR w4 (fun r5 => zqK h3 r5 [24, 49, 50, 62, 150, 162] (zkR v6 (zcI (M2 d 72003 [r5, v6, .int i7, .int (i4 + (-1)), .int ((i4 + (-1)) - 1)] h3) (fun x6 h7 => if ((i4 + (-1)) - x6) = 0 then (G2 d 72008 506 [.ref a0, .int i1, .int i2, .int i3, .int (i4 + (-1)), v5, v6, .int i7, .int i8, .int (i9 + (-1)), .int (i10 + (-1)), .int i11, .int i12, .int ((i4 + (-1)) - x6)] [] h7) else (zkR v6 (zkR v5 (zcV (M2 d 90001 [v6, .int (((i9 + (-1)) - ((i4 + (-1)) - x6)) + 1), v5, .int (((i10 + (-1)) - ((i4 + (-1)) - x6)) + 1), .int ((i4 + (-1)) - x6)] h7) (fun h9 => if 1 < ((i4 + (-1)) - ((i4 + (-1)) - x6)) then (G2 d 72008 506 [.ref a0, .int i1, .int i2, .int i3, .int ((i4 + (-1)) - ((i4 + (-1)) - x6)), v5, v6, .int i7, .int i8, .int ((i9 + (-1)) - ((i4 + (-1)) - x6)), .int ((i10 + (-1)) - ((i4 + (-1)) - x6)), .int i11, .int i12, .int ((i4 + (-1)) - x6)] [] h9) else (if 1 ≤ i11 then (G2 d 72008 590 [.ref a0, .int i1, .int i2, .int i3, .int ((i4 + (-1)) - ((i4 + (-1)) - x6)), v5, v6, .int i7, .int i8, .int ((i9 + (-1)) - ((i4 + (-1)) - x6)), .int ((i10 + (-1)) - ((i4 + (-1)) - x6)), .int i11, .int i12, .int ((i4 + (-1)) - x6)] [.int i11, .ref a0] h9) else (G2 d 72008 590 [.ref a0, .int i1, .int i2, .int i3, .int ((i4 + (-1)) - ((i4 + (-1)) - x6)), v5, v6, .int i7, .int i8, .int ((i9 + (-1)) - ((i4 + (-1)) - x6)), .int ((i10 + (-1)) - ((i4 + (-1)) - x6)), .int i11, .int i12, .int ((i4 + (-1)) - x6)] [.int 1, .ref a0] h9))) ()) ()) ())) ()) ()) ()) ()) ()) ())) ()) ()) ()) ()) () := by
  refine (g_aloadVH c72008 dJ31_mergeHi_400 rfl).trans (ckR_cg ?_)
  refine (g_iloadH c72008 dJ31_mergeHi_402 rfl).trans ?_
  refine (g_iincH (c := (-1)) (L' := [.ref a0, .int i1, .int i2, .int i3, .int i4, v5, v6, .int i7, .int i8, .int i9, .int (i10 + (-1)), .int i11, .int i12, .int i13]) c72008 dJ31_mergeHi_404 rfl rfl rfl rfl).trans ?_
  refine (g_aloadVH c72008 dJ31_mergeHi_407 rfl).trans (ckR_cg ?_)
  refine (g_iloadH c72008 dJ31_mergeHi_409 rfl).trans ?_
  refine (g_iincH (c := (-1)) (L' := [.ref a0, .int i1, .int i2, .int i3, .int i4, v5, v6, .int i7, .int i8, .int (i9 + (-1)), .int (i10 + (-1)), .int i11, .int i12, .int i13]) c72008 dJ31_mergeHi_411 rfl rfl rfl rfl).trans ?_
  refine (g_aaloadH c72008 dJ31_mergeHi_414).trans (aG_cg fun w1 => rR_cg fun r2 => ?_)
  refine (g_aastoreH c72008 dJ31_mergeHi_415).trans (aSr_cg fun h3 => ?_)
  refine (g_iincH (c := (-1)) (L' := [.ref a0, .int i1, .int i2, .int i3, .int (i4 + (-1)), v5, v6, .int i7, .int i8, .int (i9 + (-1)), .int (i10 + (-1)), .int i11, .int i12, .int i13]) c72008 dJ31_mergeHi_416 rfl rfl rfl rfl).trans ?_
  refine (g_iloadH c72008 dJ31_mergeHi_419 rfl).trans ?_
  refine (g_iconstH (x := 1) c72008 dJ31_mergeHi_421 rfl).trans ?_
  refine (g_icmp_neH (tgt := 428) c72008 dJ31_mergeHi_422 rfl).trans (if_cg ?_ ?_)
  · skip
    refine (g_gotoH (tgt := 577) c72008 dJ31_mergeHi_425 rfl).trans ?_
    refine (g_aload_nH c72008 dJ31_mergeHi_577 rfl).trans ?_
    refine (g_iloadH c72008 dJ31_mergeHi_578 rfl).trans ?_
    refine (g_iconstH (x := 1) c72008 dJ31_mergeHi_580 rfl).trans ?_
    refine (g_icmp_geH (tgt := 588) c72008 dJ31_mergeHi_581 rfl).trans (if_cg ?_ ?_)
    · skip
      refine (g_iloadH c72008 dJ31_mergeHi_588 rfl).trans ?_
      rfl
    · skip
      refine (g_iconstH (x := 1) c72008 dJ31_mergeHi_584 rfl).trans ?_
      refine (g_gotoH (tgt := 590) c72008 dJ31_mergeHi_585 rfl).trans ?_
      rfl
  · skip
    refine (g_iloadH c72008 dJ31_mergeHi_428 rfl).trans ?_
    refine (g_aloadVH c72008 dJ31_mergeHi_430 rfl).trans (ckR_cg ?_)
    refine (g_iloadH c72008 dJ31_mergeHi_432 rfl).trans ?_
    refine (g_aaloadH c72008 dJ31_mergeHi_434).trans (aG_cg fun w4 => rR_cg fun r5 => ?_)
    refine (g_castH c72008 dJ31_mergeHi_435 rfl).trans (cK_cg ?_)
    refine (g_aloadVH c72008 dJ31_mergeHi_438 rfl).trans (ckR_cg ?_)
    refine (g_iloadH c72008 dJ31_mergeHi_440 rfl).trans ?_
    refine (g_iloadH c72008 dJ31_mergeHi_442 rfl).trans ?_
    refine (g_iloadH c72008 dJ31_mergeHi_444 rfl).trans ?_
    refine (g_iconstH (x := 1) c72008 dJ31_mergeHi_446 rfl).trans ?_
    refine (g_isubH c72008 dJ31_mergeHi_447).trans ?_
    refine (g_staticH (as := [r5, v6, .int i7, .int (i4 + (-1)), .int ((i4 + (-1)) - 1)]) (rest := [.int (i4 + (-1))]) c72008 dJ31_mergeHi_448 rfl rfl rfl rfl rfl).trans ((jback_IH (κx := cX) (fun e h => jthrow_outH rfl)).trans (cI_cg fun x6 h7 => ?_))
    refine (g_isubH c72008 dJ31_mergeHi_451).trans ?_
    refine (g_istoreH (L' := [.ref a0, .int i1, .int i2, .int i3, .int (i4 + (-1)), v5, v6, .int i7, .int i8, .int (i9 + (-1)), .int (i10 + (-1)), .int i11, .int i12, .int ((i4 + (-1)) - x6)]) c72008 dJ31_mergeHi_452 rfl rfl).trans ?_
    refine (g_iloadH c72008 dJ31_mergeHi_454 rfl).trans ?_
    refine (g_if_eqH (tgt := 506) c72008 dJ31_mergeHi_456 rfl).trans (if_cg ?_ ?_)
    · skip
      rfl
    · skip
      refine (g_iloadH c72008 dJ31_mergeHi_459 rfl).trans ?_
      refine (g_iloadH c72008 dJ31_mergeHi_461 rfl).trans ?_
      refine (g_isubH c72008 dJ31_mergeHi_463).trans ?_
      refine (g_istoreH (L' := [.ref a0, .int i1, .int i2, .int i3, .int (i4 + (-1)), v5, v6, .int i7, .int i8, .int (i9 + (-1)), .int ((i10 + (-1)) - ((i4 + (-1)) - x6)), .int i11, .int i12, .int ((i4 + (-1)) - x6)]) c72008 dJ31_mergeHi_464 rfl rfl).trans ?_
      refine (g_iloadH c72008 dJ31_mergeHi_466 rfl).trans ?_
      refine (g_iloadH c72008 dJ31_mergeHi_468 rfl).trans ?_
      refine (g_isubH c72008 dJ31_mergeHi_470).trans ?_
      refine (g_istoreH (L' := [.ref a0, .int i1, .int i2, .int i3, .int (i4 + (-1)), v5, v6, .int i7, .int i8, .int ((i9 + (-1)) - ((i4 + (-1)) - x6)), .int ((i10 + (-1)) - ((i4 + (-1)) - x6)), .int i11, .int i12, .int ((i4 + (-1)) - x6)]) c72008 dJ31_mergeHi_471 rfl rfl).trans ?_
      refine (g_iloadH c72008 dJ31_mergeHi_473 rfl).trans ?_
      refine (g_iloadH c72008 dJ31_mergeHi_475 rfl).trans ?_
      refine (g_isubH c72008 dJ31_mergeHi_477).trans ?_
      refine (g_istoreH (L' := [.ref a0, .int i1, .int i2, .int i3, .int ((i4 + (-1)) - ((i4 + (-1)) - x6)), v5, v6, .int i7, .int i8, .int ((i9 + (-1)) - ((i4 + (-1)) - x6)), .int ((i10 + (-1)) - ((i4 + (-1)) - x6)), .int i11, .int i12, .int ((i4 + (-1)) - x6)]) c72008 dJ31_mergeHi_478 rfl rfl).trans ?_
      refine (g_aloadVH c72008 dJ31_mergeHi_480 rfl).trans (ckR_cg ?_)
      refine (g_iloadH c72008 dJ31_mergeHi_482 rfl).trans ?_
      refine (g_iconstH (x := 1) c72008 dJ31_mergeHi_484 rfl).trans ?_
      refine (g_iaddH c72008 dJ31_mergeHi_485).trans ?_
      refine (g_aloadVH c72008 dJ31_mergeHi_486 rfl).trans (ckR_cg ?_)
      refine (g_iloadH c72008 dJ31_mergeHi_488 rfl).trans ?_
      refine (g_iconstH (x := 1) c72008 dJ31_mergeHi_490 rfl).trans ?_
      refine (g_iaddH c72008 dJ31_mergeHi_491).trans ?_
      refine (g_iloadH c72008 dJ31_mergeHi_492 rfl).trans ?_
      refine (g_staticH (as := [v6, .int (((i9 + (-1)) - ((i4 + (-1)) - x6)) + 1), v5, .int (((i10 + (-1)) - ((i4 + (-1)) - x6)) + 1), .int ((i4 + (-1)) - x6)]) (rest := []) c72008 dJ31_mergeHi_494 rfl rfl rfl rfl rfl).trans ((jback_VH (κx := cX) (fun e h => jthrow_outH rfl)).trans (cV_cg fun h9 => ?_))
      refine (g_iloadH c72008 dJ31_mergeHi_497 rfl).trans ?_
      refine (g_iconstH (x := 1) c72008 dJ31_mergeHi_499 rfl).trans ?_
      refine (g_icmp_gtH (tgt := 506) c72008 dJ31_mergeHi_500 rfl).trans (if_cg ?_ ?_)
      · skip
        rfl
      · skip
        refine (g_gotoH (tgt := 577) c72008 dJ31_mergeHi_503 rfl).trans ?_
        refine (g_aload_nH c72008 dJ31_mergeHi_577 rfl).trans ?_
        refine (g_iloadH c72008 dJ31_mergeHi_578 rfl).trans ?_
        refine (g_iconstH (x := 1) c72008 dJ31_mergeHi_580 rfl).trans ?_
        refine (g_icmp_geH (tgt := 588) c72008 dJ31_mergeHi_581 rfl).trans (if_cg ?_ ?_)
        · skip
          refine (g_iloadH c72008 dJ31_mergeHi_588 rfl).trans ?_
          rfl
        · skip
          refine (g_iconstH (x := 1) c72008 dJ31_mergeHi_584 rfl).trans ?_
          refine (g_gotoH (tgt := 590) c72008 dJ31_mergeHi_585 rfl).trans ?_
          rfl
theorem F72008_506 (d : Nat) (a0 : Nat) (i1 : Int32) (i2 : Int32) (i3 : Int32) (i4 : Int32) (v5 : Value) (v6 : Value) (i7 : Int32) (i8 : Int32) (i9 : Int32) (i10 : Int32) (i11 : Int32) (i12 : Int32) (i13 : Int32) (h : AH) : G2 d 72008 506 [.ref a0, .int i1, .int i2, .int i3, .int i4, v5, v6, .int i7, .int i8, .int i9, .int i10, .int i11, .int i12, .int i13] [] h = zkR v5 (zkR v5 (zqG h v5 [1040, 1041, 1050, 1060, 1071] i8 (fun w1 => zpR w1 (fun r2 => zqA h v5 r2 i10 (fun h3 => if (i2 + (-1)) = 0 then (if 1 ≤ i11 then (G2 d 72008 590 [.ref a0, .int i1, .int (i2 + (-1)), .int i3, .int i4, v5, v6, .int i7, .int (i8 + (-1)), .int i9, .int (i10 + (-1)), .int i11, .int i12, .int i13] [.int i11, .ref a0] h3) else (G2 d 72008 590 [.ref a0, .int i1, .int (i2 + (-1)), .int i3, .int i4, v5, v6, .int i7, .int (i8 + (-1)), .int i9, .int (i10 + (-1)), .int i11, .int i12, .int i13] [.int 1, .ref a0] h3)) else (if i12 < 7 then (G2 d 72008 547 [.ref a0, .int i1, .int (i2 + (-1)), .int i3, .int i4, v5, v6, .int i7, .int (i8 + (-1)), .int i9, .int (i10 + (-1)), .int (i11 + (-1)), .int i12, .int i13] [.int 0] h3) else (G2 d 72008 547 [.ref a0, .int i1, .int (i2 + (-1)), .int i3, .int i4, v5, v6, .int i7, .int (i8 + (-1)), .int i9, .int (i10 + (-1)), .int (i11 + (-1)), .int i12, .int i13] [.int 1] h3))) ()) ()) ()) ()) () := by
  refine (g_aloadVH c72008 dJ31_mergeHi_506 rfl).trans (ckR_cg ?_)
  refine (g_iloadH c72008 dJ31_mergeHi_508 rfl).trans ?_
  refine (g_iincH (c := (-1)) (L' := [.ref a0, .int i1, .int i2, .int i3, .int i4, v5, v6, .int i7, .int i8, .int i9, .int (i10 + (-1)), .int i11, .int i12, .int i13]) c72008 dJ31_mergeHi_510 rfl rfl rfl rfl).trans ?_
  refine (g_aloadVH c72008 dJ31_mergeHi_513 rfl).trans (ckR_cg ?_)
  refine (g_iloadH c72008 dJ31_mergeHi_515 rfl).trans ?_
  refine (g_iincH (c := (-1)) (L' := [.ref a0, .int i1, .int i2, .int i3, .int i4, v5, v6, .int i7, .int (i8 + (-1)), .int i9, .int (i10 + (-1)), .int i11, .int i12, .int i13]) c72008 dJ31_mergeHi_517 rfl rfl rfl rfl).trans ?_
  refine (g_aaloadH c72008 dJ31_mergeHi_520).trans (aG_cg fun w1 => rR_cg fun r2 => ?_)
  refine (g_aastoreH c72008 dJ31_mergeHi_521).trans (aSr_cg fun h3 => ?_)
  refine (g_iincH (c := (-1)) (L' := [.ref a0, .int i1, .int (i2 + (-1)), .int i3, .int i4, v5, v6, .int i7, .int (i8 + (-1)), .int i9, .int (i10 + (-1)), .int i11, .int i12, .int i13]) c72008 dJ31_mergeHi_522 rfl rfl rfl rfl).trans ?_
  refine (g_iload_nH c72008 dJ31_mergeHi_525 rfl).trans ?_
  refine (g_if_neH (tgt := 532) c72008 dJ31_mergeHi_526 rfl).trans (if_cg ?_ ?_)
  · skip
    refine (g_gotoH (tgt := 577) c72008 dJ31_mergeHi_529 rfl).trans ?_
    refine (g_aload_nH c72008 dJ31_mergeHi_577 rfl).trans ?_
    refine (g_iloadH c72008 dJ31_mergeHi_578 rfl).trans ?_
    refine (g_iconstH (x := 1) c72008 dJ31_mergeHi_580 rfl).trans ?_
    refine (g_icmp_geH (tgt := 588) c72008 dJ31_mergeHi_581 rfl).trans (if_cg ?_ ?_)
    · skip
      refine (g_iloadH c72008 dJ31_mergeHi_588 rfl).trans ?_
      rfl
    · skip
      refine (g_iconstH (x := 1) c72008 dJ31_mergeHi_584 rfl).trans ?_
      refine (g_gotoH (tgt := 590) c72008 dJ31_mergeHi_585 rfl).trans ?_
      rfl
  · skip
    refine (g_iincH (c := (-1)) (L' := [.ref a0, .int i1, .int (i2 + (-1)), .int i3, .int i4, v5, v6, .int i7, .int (i8 + (-1)), .int i9, .int (i10 + (-1)), .int (i11 + (-1)), .int i12, .int i13]) c72008 dJ31_mergeHi_532 rfl rfl rfl rfl).trans ?_
    refine (g_iloadH c72008 dJ31_mergeHi_535 rfl).trans ?_
    refine (g_bipushH (x := 7) c72008 dJ31_mergeHi_537 rfl).trans ?_
    refine (g_icmp_ltH (tgt := 546) c72008 dJ31_mergeHi_539 rfl).trans (if_cg ?_ ?_)
    · skip
      refine (g_iconstH (x := 0) c72008 dJ31_mergeHi_546 rfl).trans ?_
      rfl
    · skip
      refine (g_iconstH (x := 1) c72008 dJ31_mergeHi_542 rfl).trans ?_
      refine (g_gotoH (tgt := 547) c72008 dJ31_mergeHi_543 rfl).trans ?_
      rfl
theorem F72008_547 (d : Nat) (a0 : Nat) (i1 : Int32) (i2 : Int32) (i3 : Int32) (i4 : Int32) (v5 : Value) (v6 : Value) (i7 : Int32) (i8 : Int32) (i9 : Int32) (i10 : Int32) (i11 : Int32) (i12 : Int32) (i13 : Int32) (is0 : Int32) (h : AH) : G2 d 72008 547 [.ref a0, .int i1, .int i2, .int i3, .int i4, v5, v6, .int i7, .int i8, .int i9, .int i10, .int i11, .int i12, .int i13] [.int is0] h = if i13 < 7 then (if (is0 ||| 0) = 0 then (if 0 ≤ i11 then (G2 d 72008 179 [.ref a0, .int i1, .int i2, .int i3, .int i4, v5, v6, .int i7, .int i8, .int i9, .int i10, .int (i11 + 2), .int i12, .int i13] [] h) else (G2 d 72008 179 [.ref a0, .int i1, .int i2, .int i3, .int i4, v5, v6, .int i7, .int i8, .int i9, .int i10, .int (0 + 2), .int i12, .int i13] [] h)) else (G2 d 72008 306 [.ref a0, .int i1, .int i2, .int i3, .int i4, v5, v6, .int i7, .int i8, .int i9, .int i10, .int i11, .int i12, .int i13] [] h)) else (if (is0 ||| 1) = 0 then (if 0 ≤ i11 then (G2 d 72008 179 [.ref a0, .int i1, .int i2, .int i3, .int i4, v5, v6, .int i7, .int i8, .int i9, .int i10, .int (i11 + 2), .int i12, .int i13] [] h) else (G2 d 72008 179 [.ref a0, .int i1, .int i2, .int i3, .int i4, v5, v6, .int i7, .int i8, .int i9, .int i10, .int (0 + 2), .int i12, .int i13] [] h)) else (G2 d 72008 306 [.ref a0, .int i1, .int i2, .int i3, .int i4, v5, v6, .int i7, .int i8, .int i9, .int i10, .int i11, .int i12, .int i13] [] h)) := by
  refine (g_iloadH c72008 dJ31_mergeHi_547 rfl).trans ?_
  refine (g_bipushH (x := 7) c72008 dJ31_mergeHi_549 rfl).trans ?_
  refine (g_icmp_ltH (tgt := 558) c72008 dJ31_mergeHi_551 rfl).trans (if_cg ?_ ?_)
  · skip
    refine (g_iconstH (x := 0) c72008 dJ31_mergeHi_558 rfl).trans ?_
    refine (g_iorH c72008 dJ31_mergeHi_559).trans ?_
    refine (g_if_neH (tgt := 306) c72008 dJ31_mergeHi_560 rfl).trans (if_cg ?_ ?_)
    · skip
      refine (g_iloadH c72008 dJ31_mergeHi_563 rfl).trans ?_
      refine (g_if_geH (tgt := 571) c72008 dJ31_mergeHi_565 rfl).trans (if_cg ?_ ?_)
      · skip
        refine (g_iincH (c := 2) (L' := [.ref a0, .int i1, .int i2, .int i3, .int i4, v5, v6, .int i7, .int i8, .int i9, .int i10, .int (i11 + 2), .int i12, .int i13]) c72008 dJ31_mergeHi_571 rfl rfl rfl rfl).trans ?_
        refine (g_gotoH (tgt := 179) c72008 dJ31_mergeHi_574 rfl).trans ?_
        rfl
      · skip
        refine (g_iconstH (x := 0) c72008 dJ31_mergeHi_568 rfl).trans ?_
        refine (g_istoreH (L' := [.ref a0, .int i1, .int i2, .int i3, .int i4, v5, v6, .int i7, .int i8, .int i9, .int i10, .int 0, .int i12, .int i13]) c72008 dJ31_mergeHi_569 rfl rfl).trans ?_
        refine (g_iincH (c := 2) (L' := [.ref a0, .int i1, .int i2, .int i3, .int i4, v5, v6, .int i7, .int i8, .int i9, .int i10, .int (0 + 2), .int i12, .int i13]) c72008 dJ31_mergeHi_571 rfl rfl rfl rfl).trans ?_
        refine (g_gotoH (tgt := 179) c72008 dJ31_mergeHi_574 rfl).trans ?_
        rfl
    · skip
      rfl
  · skip
    refine (g_iconstH (x := 1) c72008 dJ31_mergeHi_554 rfl).trans ?_
    refine (g_gotoH (tgt := 559) c72008 dJ31_mergeHi_555 rfl).trans ?_
    refine (g_iorH c72008 dJ31_mergeHi_559).trans ?_
    refine (g_if_neH (tgt := 306) c72008 dJ31_mergeHi_560 rfl).trans (if_cg ?_ ?_)
    · skip
      refine (g_iloadH c72008 dJ31_mergeHi_563 rfl).trans ?_
      refine (g_if_geH (tgt := 571) c72008 dJ31_mergeHi_565 rfl).trans (if_cg ?_ ?_)
      · skip
        refine (g_iincH (c := 2) (L' := [.ref a0, .int i1, .int i2, .int i3, .int i4, v5, v6, .int i7, .int i8, .int i9, .int i10, .int (i11 + 2), .int i12, .int i13]) c72008 dJ31_mergeHi_571 rfl rfl rfl rfl).trans ?_
        refine (g_gotoH (tgt := 179) c72008 dJ31_mergeHi_574 rfl).trans ?_
        rfl
      · skip
        refine (g_iconstH (x := 0) c72008 dJ31_mergeHi_568 rfl).trans ?_
        refine (g_istoreH (L' := [.ref a0, .int i1, .int i2, .int i3, .int i4, v5, v6, .int i7, .int i8, .int i9, .int i10, .int 0, .int i12, .int i13]) c72008 dJ31_mergeHi_569 rfl rfl).trans ?_
        refine (g_iincH (c := 2) (L' := [.ref a0, .int i1, .int i2, .int i3, .int i4, v5, v6, .int i7, .int i8, .int i9, .int i10, .int (0 + 2), .int i12, .int i13]) c72008 dJ31_mergeHi_571 rfl rfl rfl rfl).trans ?_
        refine (g_gotoH (tgt := 179) c72008 dJ31_mergeHi_574 rfl).trans ?_
        rfl
    · skip
      rfl
theorem F72008_590 (d : Nat) (a0 : Nat) (i1 : Int32) (i2 : Int32) (i3 : Int32) (i4 : Int32) (v5 : Value) (v6 : Value) (i7 : Int32) (i8 : Int32) (i9 : Int32) (i10 : Int32) (i11 : Int32) (i12 : Int32) (i13 : Int32) (is0 : Int32) (as1 : Nat) (h : AH) : G2 d 72008 590 [.ref a0, .int i1, .int i2, .int i3, .int i4, v5, v6, .int i7, .int i8, .int i9, .int i10, .int i11, .int i12, .int i13] [.int is0, .ref as1] h = zqF h (.ref as1) [72] 1 0 (.int is0) (fun h1 => if i4 = 1 then (if (1 : Int32) = 0 then (if 0 < i2 then (G2 d 72008 617 [.ref a0, .int i1, .int i2, .int i3, .int i4, v5, v6, .int i7, .int i8, .int i9, .int i10, .int i11, .int i12, .int i13] [] h1) else (G2 d 72008 609 [.ref a0, .int i1, .int i2, .int i3, .int i4, v5, v6, .int i7, .int i8, .int i9, .int i10, .int i11, .int i12, .int i13] [] h1)) else (G2 d 72008 617 [.ref a0, .int i1, .int i2, .int i3, .int i4, v5, v6, .int i7, .int i8, .int i9, .int i10, .int i11, .int i12, .int i13] [] h1)) else (if i4 = 0 then (G2 d 72008 663 [.ref a0, .int i1, .int i2, .int i3, .int i4, v5, v6, .int i7, .int i8, .int i9, .int i10, .int i11, .int i12, .int i13] [] h1) else (if (1 : Int32) = 0 then (if i2 = 0 then (G2 d 72008 691 [.ref a0, .int i1, .int i2, .int i3, .int i4, v5, v6, .int i7, .int i8, .int i9, .int i10, .int i11, .int i12, .int i13] [] h1) else (G2 d 72008 683 [.ref a0, .int i1, .int i2, .int i3, .int i4, v5, v6, .int i7, .int i8, .int i9, .int i10, .int i11, .int i12, .int i13] [] h1)) else (G2 d 72008 691 [.ref a0, .int i1, .int i2, .int i3, .int i4, v5, v6, .int i7, .int i8, .int i9, .int i10, .int i11, .int i12, .int i13] [] h1)))) () := by
  refine (g_putH c72008 dJ31_mergeHi_590 rfl).trans (pF_cg fun h1 => ?_)
  refine (g_iloadH c72008 dJ31_mergeHi_593 rfl).trans ?_
  refine (g_iconstH (x := 1) c72008 dJ31_mergeHi_595 rfl).trans ?_
  refine (g_icmp_neH (tgt := 658) c72008 dJ31_mergeHi_596 rfl).trans (if_cg ?_ ?_)
  · skip
    refine (g_getsIH (x := 1) c72008 dJ31_mergeHi_599 rfl rfl).trans ?_
    refine (g_if_neH (tgt := 617) c72008 dJ31_mergeHi_602 rfl).trans (if_cg ?_ ?_)
    · skip
      refine (g_iload_nH c72008 dJ31_mergeHi_605 rfl).trans ?_
      refine (g_if_gtH (tgt := 617) c72008 dJ31_mergeHi_606 rfl).trans (if_cg ?_ ?_)
      · skip
        rfl
      · skip
        rfl
    · skip
      rfl
  · skip
    refine (g_iloadH c72008 dJ31_mergeHi_658 rfl).trans ?_
    refine (g_if_neH (tgt := 673) c72008 dJ31_mergeHi_660 rfl).trans (if_cg ?_ ?_)
    · skip
      rfl
    · skip
      refine (g_getsIH (x := 1) c72008 dJ31_mergeHi_673 rfl rfl).trans ?_
      refine (g_if_neH (tgt := 691) c72008 dJ31_mergeHi_676 rfl).trans (if_cg ?_ ?_)
      · skip
        refine (g_iload_nH c72008 dJ31_mergeHi_679 rfl).trans ?_
        refine (g_if_eqH (tgt := 691) c72008 dJ31_mergeHi_680 rfl).trans (if_cg ?_ ?_)
        · skip
          rfl
        · skip
          rfl
      · skip
        rfl
theorem F72008_617 (d : Nat) (a0 : Nat) (i1 : Int32) (i2 : Int32) (i3 : Int32) (i4 : Int32) (v5 : Value) (v6 : Value) (i7 : Int32) (i8 : Int32) (i9 : Int32) (i10 : Int32) (i11 : Int32) (i12 : Int32) (i13 : Int32) (h : AH) : G2 d 72008 617 [.ref a0, .int i1, .int i2, .int i3, .int i4, v5, v6, .int i7, .int i8, .int i9, .int i10, .int i11, .int i12, .int i13] [] h = zkR v5 (zkR v5 (zcV (M2 d 90001 [v5, .int ((i8 - i2) + 1), v5, .int ((i10 - i2) + 1), .int i2] h) (fun h2 => zkR v5 (zkR v6 (zqG h2 v6 [1040, 1041, 1050, 1060, 1071] i9 (fun w3 => zpR w3 (fun r4 => zqA h2 v5 r4 (i10 - i2) (fun h5 => some (.inl none, h5)) ()) ()) ()) ()) ()) ()) ()) () := by
  refine (g_iloadH c72008 dJ31_mergeHi_617 rfl).trans ?_
  refine (g_iload_nH c72008 dJ31_mergeHi_619 rfl).trans ?_
  refine (g_isubH c72008 dJ31_mergeHi_620).trans ?_
  refine (g_istoreH (L' := [.ref a0, .int i1, .int i2, .int i3, .int i4, v5, v6, .int i7, .int i8, .int i9, .int (i10 - i2), .int i11, .int i12, .int i13]) c72008 dJ31_mergeHi_621 rfl rfl).trans ?_
  refine (g_iloadH c72008 dJ31_mergeHi_623 rfl).trans ?_
  refine (g_iload_nH c72008 dJ31_mergeHi_625 rfl).trans ?_
  refine (g_isubH c72008 dJ31_mergeHi_626).trans ?_
  refine (g_istoreH (L' := [.ref a0, .int i1, .int i2, .int i3, .int i4, v5, v6, .int i7, .int (i8 - i2), .int i9, .int (i10 - i2), .int i11, .int i12, .int i13]) c72008 dJ31_mergeHi_627 rfl rfl).trans ?_
  refine (g_aloadVH c72008 dJ31_mergeHi_629 rfl).trans (ckR_cg ?_)
  refine (g_iloadH c72008 dJ31_mergeHi_631 rfl).trans ?_
  refine (g_iconstH (x := 1) c72008 dJ31_mergeHi_633 rfl).trans ?_
  refine (g_iaddH c72008 dJ31_mergeHi_634).trans ?_
  refine (g_aloadVH c72008 dJ31_mergeHi_635 rfl).trans (ckR_cg ?_)
  refine (g_iloadH c72008 dJ31_mergeHi_637 rfl).trans ?_
  refine (g_iconstH (x := 1) c72008 dJ31_mergeHi_639 rfl).trans ?_
  refine (g_iaddH c72008 dJ31_mergeHi_640).trans ?_
  refine (g_iload_nH c72008 dJ31_mergeHi_641 rfl).trans ?_
  refine (g_staticH (as := [v5, .int ((i8 - i2) + 1), v5, .int ((i10 - i2) + 1), .int i2]) (rest := []) c72008 dJ31_mergeHi_642 rfl rfl rfl rfl rfl).trans ((jback_VH (κx := cX) (fun e h => jthrow_outH rfl)).trans (cV_cg fun h2 => ?_))
  refine (g_aloadVH c72008 dJ31_mergeHi_645 rfl).trans (ckR_cg ?_)
  refine (g_iloadH c72008 dJ31_mergeHi_647 rfl).trans ?_
  refine (g_aloadVH c72008 dJ31_mergeHi_649 rfl).trans (ckR_cg ?_)
  refine (g_iloadH c72008 dJ31_mergeHi_651 rfl).trans ?_
  refine (g_aaloadH c72008 dJ31_mergeHi_653).trans (aG_cg fun w3 => rR_cg fun r4 => ?_)
  refine (g_aastoreH c72008 dJ31_mergeHi_654).trans (aSr_cg fun h5 => ?_)
  refine (g_gotoH (tgt := 728) c72008 dJ31_mergeHi_655 rfl).trans ?_
  exact g_returnH c72008 dJ31_mergeHi_728 rfl
theorem F72008_691 (d : Nat) (a0 : Nat) (i1 : Int32) (i2 : Int32) (i3 : Int32) (i4 : Int32) (v5 : Value) (v6 : Value) (i7 : Int32) (i8 : Int32) (i9 : Int32) (i10 : Int32) (i11 : Int32) (i12 : Int32) (i13 : Int32) (h : AH) : G2 d 72008 691 [.ref a0, .int i1, .int i2, .int i3, .int i4, v5, v6, .int i7, .int i8, .int i9, .int i10, .int i11, .int i12, .int i13] [] h = if (1 : Int32) = 0 then (if 0 < i4 then (zkR v6 (zkR v5 (zcV (M2 d 90001 [v6, .int i7, v5, .int (i10 - (i4 - 1)), .int i4] h) (fun h2 => some (.inl none, h2)) ()) ()) ()) else (G2 d 72008 702 [.ref a0, .int i1, .int i2, .int i3, .int i4, v5, v6, .int i7, .int i8, .int i9, .int i10, .int i11, .int i12, .int i13] [] h)) else (zkR v6 (zkR v5 (zcV (M2 d 90001 [v6, .int i7, v5, .int (i10 - (i4 - 1)), .int i4] h) (fun h4 => some (.inl none, h4)) ()) ()) ()) := by
  refine (g_getsIH (x := 1) c72008 dJ31_mergeHi_691 rfl rfl).trans ?_
  refine (g_if_neH (tgt := 710) c72008 dJ31_mergeHi_694 rfl).trans (if_cg ?_ ?_)
  · skip
    refine (g_iloadH c72008 dJ31_mergeHi_697 rfl).trans ?_
    refine (g_if_gtH (tgt := 710) c72008 dJ31_mergeHi_699 rfl).trans (if_cg ?_ ?_)
    · skip
      refine (g_aloadVH c72008 dJ31_mergeHi_710 rfl).trans (ckR_cg ?_)
      refine (g_iloadH c72008 dJ31_mergeHi_712 rfl).trans ?_
      refine (g_aloadVH c72008 dJ31_mergeHi_714 rfl).trans (ckR_cg ?_)
      refine (g_iloadH c72008 dJ31_mergeHi_716 rfl).trans ?_
      refine (g_iloadH c72008 dJ31_mergeHi_718 rfl).trans ?_
      refine (g_iconstH (x := 1) c72008 dJ31_mergeHi_720 rfl).trans ?_
      refine (g_isubH c72008 dJ31_mergeHi_721).trans ?_
      refine (g_isubH c72008 dJ31_mergeHi_722).trans ?_
      refine (g_iloadH c72008 dJ31_mergeHi_723 rfl).trans ?_
      refine (g_staticH (as := [v6, .int i7, v5, .int (i10 - (i4 - 1)), .int i4]) (rest := []) c72008 dJ31_mergeHi_725 rfl rfl rfl rfl rfl).trans ((jback_VH (κx := cX) (fun e h => jthrow_outH rfl)).trans (cV_cg fun h2 => ?_))
      exact g_returnH c72008 dJ31_mergeHi_728 rfl
    · skip
      rfl
  · skip
    refine (g_aloadVH c72008 dJ31_mergeHi_710 rfl).trans (ckR_cg ?_)
    refine (g_iloadH c72008 dJ31_mergeHi_712 rfl).trans ?_
    refine (g_aloadVH c72008 dJ31_mergeHi_714 rfl).trans (ckR_cg ?_)
    refine (g_iloadH c72008 dJ31_mergeHi_716 rfl).trans ?_
    refine (g_iloadH c72008 dJ31_mergeHi_718 rfl).trans ?_
    refine (g_iconstH (x := 1) c72008 dJ31_mergeHi_720 rfl).trans ?_
    refine (g_isubH c72008 dJ31_mergeHi_721).trans ?_
    refine (g_isubH c72008 dJ31_mergeHi_722).trans ?_
    refine (g_iloadH c72008 dJ31_mergeHi_723 rfl).trans ?_
    refine (g_staticH (as := [v6, .int i7, v5, .int (i10 - (i4 - 1)), .int i4]) (rest := []) c72008 dJ31_mergeHi_725 rfl rfl rfl rfl rfl).trans ((jback_VH (κx := cX) (fun e h => jthrow_outH rfl)).trans (cV_cg fun h4 => ?_))
    exact g_returnH c72008 dJ31_mergeHi_728 rfl
theorem Y72008 {d : Nat} {a0 : Nat} {i1 : Int32} {i2 : Int32} {i3 : Int32} {i4 : Int32} (h : AH) (hr : jrecv 72008 [.ref a0, .int i1, .int i2, .int i3, .int i4] h = true) : M2 (d + 1) 72008 [.ref a0, .int i1, .int i2, .int i3, .int i4] h = G2 d 72008 0 [.ref a0, .int i1, .int i2, .int i3, .int i4, jno, jno, jno, jno, jno, jno, jno, jno, jno] [] h := M2_eq rfl rfl hr rfl
/-! java/util/ComparableTimSort.mergeLo(IIII)V -/
abbrev cJ31_mergeLo : ByteArray := prog_74_method_13_code
def dkwJ31_mergeLo_28 : List UInt8 := [28, 184, 0, 75, 177]
abbrev dktJ31_mergeLo_28 : List UInt8 := dkwJ31_mergeLo_28 ++ []
def dkwJ31_mergeLo_27 : List UInt8 := [154, 0, 16, 28, 4, 163, 0, 11, 187, 0, 41, 89, 183, 0, 43, 191, 25, 6, 21, 7, 25, 5, 21, 9]
abbrev dktJ31_mergeLo_27 : List UInt8 := dkwJ31_mergeLo_27 ++ dktJ31_mergeLo_28
def dkwJ31_mergeLo_26 : List UInt8 := [178, 0, 37, 154, 0, 16, 21, 4, 153, 0, 11, 187, 0, 41, 89, 183, 0, 43, 191, 178, 0, 37]
abbrev dktJ31_mergeLo_26 : List UInt8 := dkwJ31_mergeLo_26 ++ dktJ31_mergeLo_27
def dkwJ31_mergeLo_25 : List UInt8 := [96, 25, 6, 21, 7, 50, 83, 167, 0, 67, 28, 154, 0, 13, 187, 0, 107, 89, 18, 109, 183, 0, 111, 191]
abbrev dktJ31_mergeLo_25 : List UInt8 := dkwJ31_mergeLo_25 ++ dktJ31_mergeLo_26
def dkwJ31_mergeLo_24 : List UInt8 := [89, 183, 0, 43, 191, 25, 5, 21, 8, 25, 5, 21, 9, 21, 4, 184, 0, 75, 25, 5, 21, 9, 21, 4]
abbrev dktJ31_mergeLo_24 : List UInt8 := dkwJ31_mergeLo_24 ++ dktJ31_mergeLo_25
def dkwJ31_mergeLo_23 : List UInt8 := [21, 10, 181, 0, 9, 28, 4, 160, 0, 51, 178, 0, 37, 154, 0, 16, 21, 4, 157, 0, 11, 187, 0, 41]
abbrev dktJ31_mergeLo_23 : List UInt8 := dkwJ31_mergeLo_23 ++ dktJ31_mergeLo_24
def dkwJ31_mergeLo_22 : List UInt8 := [156, 0, 6, 3, 54, 10, 132, 10, 2, 167, 254, 134, 42, 21, 10, 4, 162, 0, 7, 4, 167, 0, 5]
abbrev dktJ31_mergeLo_22 : List UInt8 := dkwJ31_mergeLo_22 ++ dktJ31_mergeLo_23
def dkwJ31_mergeLo_21 : List UInt8 := [167, 0, 4, 3, 21, 12, 16, 7, 161, 0, 7, 4, 167, 0, 4, 3, 128, 154, 255, 19, 21, 10]
abbrev dktJ31_mergeLo_21 : List UInt8 := dkwJ31_mergeLo_21 ++ dktJ31_mergeLo_22
def dkwJ31_mergeLo_20 : List UInt8 := [132, 2, 255, 28, 4, 160, 0, 6, 167, 0, 48, 132, 10, 255, 21, 11, 16, 7, 161, 0, 7, 4]
abbrev dktJ31_mergeLo_20 : List UInt8 := dkwJ31_mergeLo_20 ++ dktJ31_mergeLo_21
def dkwJ31_mergeLo_19 : List UInt8 := [21, 4, 154, 0, 6, 167, 0, 75, 25, 5, 21, 9, 132, 9, 1, 25, 6, 21, 7, 132, 7, 1, 50, 83]
abbrev dktJ31_mergeLo_19 : List UInt8 := dkwJ31_mergeLo_19 ++ dktJ31_mergeLo_20
def dkwJ31_mergeLo_18 : List UInt8 := [184, 0, 75, 21, 9, 21, 12, 96, 54, 9, 21, 8, 21, 12, 96, 54, 8, 21, 4, 21, 12, 100, 54, 4]
abbrev dktJ31_mergeLo_18 : List UInt8 := dkwJ31_mergeLo_18 ++ dktJ31_mergeLo_19
def dkwJ31_mergeLo_17 : List UInt8 := [21, 4, 3, 184, 0, 93, 54, 12, 21, 12, 153, 0, 45, 25, 5, 21, 8, 25, 5, 21, 9, 21, 12]
abbrev dktJ31_mergeLo_17 : List UInt8 := dkwJ31_mergeLo_17 ++ dktJ31_mergeLo_18
def dkwJ31_mergeLo_16 : List UInt8 := [132, 4, 255, 21, 4, 154, 0, 6, 167, 0, 142, 25, 6, 21, 7, 50, 192, 0, 69, 25, 5, 21, 8]
abbrev dktJ31_mergeLo_16 : List UInt8 := dkwJ31_mergeLo_16 ++ dktJ31_mergeLo_17
def dkwJ31_mergeLo_15 : List UInt8 := [163, 0, 6, 167, 0, 169, 25, 5, 21, 9, 132, 9, 1, 25, 5, 21, 8, 132, 8, 1, 50, 83]
abbrev dktJ31_mergeLo_15 : List UInt8 := dkwJ31_mergeLo_15 ++ dktJ31_mergeLo_16
def dkwJ31_mergeLo_14 : List UInt8 := [184, 0, 75, 21, 9, 21, 11, 96, 54, 9, 21, 7, 21, 11, 96, 54, 7, 28, 21, 11, 100, 61, 28, 4]
abbrev dktJ31_mergeLo_14 : List UInt8 := dkwJ31_mergeLo_14 ++ dktJ31_mergeLo_15
def dkwJ31_mergeLo_13 : List UInt8 := [21, 7, 28, 3, 184, 0, 89, 54, 11, 21, 11, 153, 0, 43, 25, 6, 21, 7, 25, 5, 21, 9, 21, 11]
abbrev dktJ31_mergeLo_13 : List UInt8 := dkwJ31_mergeLo_13 ++ dktJ31_mergeLo_14
def dkwJ31_mergeLo_12 : List UInt8 := [21, 4, 157, 0, 11, 187, 0, 41, 89, 183, 0, 43, 191, 25, 5, 21, 8, 50, 192, 0, 69, 25, 6]
abbrev dktJ31_mergeLo_12 : List UInt8 := dkwJ31_mergeLo_12 ++ dktJ31_mergeLo_13
def dkwJ31_mergeLo_11 : List UInt8 := [167, 1, 11, 21, 11, 21, 12, 128, 21, 10, 161, 255, 138, 178, 0, 37, 154, 0, 21, 28, 4, 164, 0, 8]
abbrev dktJ31_mergeLo_11 : List UInt8 := dkwJ31_mergeLo_11 ++ dktJ31_mergeLo_12
def dkwJ31_mergeLo_10 : List UInt8 := [25, 6, 21, 7, 132, 7, 1, 50, 83, 132, 11, 1, 3, 54, 12, 132, 2, 255, 28, 4, 160, 0, 6]
abbrev dktJ31_mergeLo_10 : List UInt8 := dkwJ31_mergeLo_10 ++ dktJ31_mergeLo_11
def dkwJ31_mergeLo_9 : List UInt8 := [132, 12, 1, 3, 54, 11, 132, 4, 255, 21, 4, 154, 0, 39, 167, 1, 44, 25, 5, 21, 9, 132, 9, 1]
abbrev dktJ31_mergeLo_9 : List UInt8 := dkwJ31_mergeLo_9 ++ dktJ31_mergeLo_10
def dkwJ31_mergeLo_8 : List UInt8 := [185, 0, 71, 2, 0, 156, 0, 36, 25, 5, 21, 9, 132, 9, 1, 25, 5, 21, 8, 132, 8, 1, 50, 83]
abbrev dktJ31_mergeLo_8 : List UInt8 := dkwJ31_mergeLo_8 ++ dktJ31_mergeLo_9
def dkwJ31_mergeLo_7 : List UInt8 := [187, 0, 41, 89, 183, 0, 43, 191, 25, 5, 21, 8, 50, 192, 0, 69, 25, 6, 21, 7, 50]
abbrev dktJ31_mergeLo_7 : List UInt8 := dkwJ31_mergeLo_7 ++ dktJ31_mergeLo_8
def dkwJ31_mergeLo_6 : List UInt8 := [54, 10, 3, 54, 11, 3, 54, 12, 178, 0, 37, 154, 0, 21, 28, 4, 164, 0, 8, 21, 4, 157, 0, 11]
abbrev dktJ31_mergeLo_6 : List UInt8 := dkwJ31_mergeLo_6 ++ dktJ31_mergeLo_7
def dkwJ31_mergeLo_5 : List UInt8 := [21, 4, 184, 0, 75, 25, 5, 21, 9, 21, 4, 96, 25, 6, 21, 7, 50, 83, 177, 42, 180, 0, 9]
abbrev dktJ31_mergeLo_5 : List UInt8 := dkwJ31_mergeLo_5 ++ dktJ31_mergeLo_6
def dkwJ31_mergeLo_4 : List UInt8 := [21, 7, 25, 5, 21, 9, 28, 184, 0, 75, 177, 28, 4, 160, 0, 30, 25, 5, 21, 8, 25, 5, 21, 9]
abbrev dktJ31_mergeLo_4 : List UInt8 := dkwJ31_mergeLo_4 ++ dktJ31_mergeLo_5
def dkwJ31_mergeLo_3 : List UInt8 := [21, 9, 132, 9, 1, 25, 5, 21, 8, 132, 8, 1, 50, 83, 132, 4, 255, 21, 4, 154, 0, 16, 25, 6]
abbrev dktJ31_mergeLo_3 : List UInt8 := dkwJ31_mergeLo_3 ++ dktJ31_mergeLo_4
def dkwJ31_mergeLo_2 : List UInt8 := [180, 0, 23, 54, 7, 29, 54, 8, 27, 54, 9, 25, 5, 27, 25, 6, 21, 7, 28, 184, 0, 75, 25, 5]
abbrev dktJ31_mergeLo_2 : List UInt8 := dkwJ31_mergeLo_2 ++ dktJ31_mergeLo_3
def dkwJ31_mergeLo_1 : List UInt8 := [187, 0, 41, 89, 183, 0, 43, 191, 42, 180, 0, 16, 58, 5, 42, 28, 182, 0, 103, 58, 6, 42]
abbrev dktJ31_mergeLo_1 : List UInt8 := dkwJ31_mergeLo_1 ++ dktJ31_mergeLo_2
def dkwJ31_mergeLo_0 : List UInt8 := [178, 0, 37, 154, 0, 27, 28, 158, 0, 15, 21, 4, 158, 0, 10, 27, 28, 96, 29, 159, 0, 11]
abbrev dktJ31_mergeLo_0 : List UInt8 := dkwJ31_mergeLo_0 ++ dktJ31_mergeLo_1
theorem dksJ31_mergeLo_0 : cJ31_mergeLo.data.toList.drop 0 = dktJ31_mergeLo_0 := by decide +kernel
theorem dksJ31_mergeLo_1 : cJ31_mergeLo.data.toList.drop 22 = dktJ31_mergeLo_1 := dk_seg dksJ31_mergeLo_0 22 rfl rfl
theorem dksJ31_mergeLo_2 : cJ31_mergeLo.data.toList.drop 44 = dktJ31_mergeLo_2 := dk_seg dksJ31_mergeLo_1 22 rfl rfl
theorem dksJ31_mergeLo_3 : cJ31_mergeLo.data.toList.drop 68 = dktJ31_mergeLo_3 := dk_seg dksJ31_mergeLo_2 24 rfl rfl
theorem dksJ31_mergeLo_4 : cJ31_mergeLo.data.toList.drop 92 = dktJ31_mergeLo_4 := dk_seg dksJ31_mergeLo_3 24 rfl rfl
theorem dksJ31_mergeLo_5 : cJ31_mergeLo.data.toList.drop 116 = dktJ31_mergeLo_5 := dk_seg dksJ31_mergeLo_4 24 rfl rfl
theorem dksJ31_mergeLo_6 : cJ31_mergeLo.data.toList.drop 139 = dktJ31_mergeLo_6 := dk_seg dksJ31_mergeLo_5 23 rfl rfl
theorem dksJ31_mergeLo_7 : cJ31_mergeLo.data.toList.drop 163 = dktJ31_mergeLo_7 := dk_seg dksJ31_mergeLo_6 24 rfl rfl
theorem dksJ31_mergeLo_8 : cJ31_mergeLo.data.toList.drop 184 = dktJ31_mergeLo_8 := dk_seg dksJ31_mergeLo_7 21 rfl rfl
theorem dksJ31_mergeLo_9 : cJ31_mergeLo.data.toList.drop 208 = dktJ31_mergeLo_9 := dk_seg dksJ31_mergeLo_8 24 rfl rfl
theorem dksJ31_mergeLo_10 : cJ31_mergeLo.data.toList.drop 232 = dktJ31_mergeLo_10 := dk_seg dksJ31_mergeLo_9 24 rfl rfl
theorem dksJ31_mergeLo_11 : cJ31_mergeLo.data.toList.drop 255 = dktJ31_mergeLo_11 := dk_seg dksJ31_mergeLo_10 23 rfl rfl
theorem dksJ31_mergeLo_12 : cJ31_mergeLo.data.toList.drop 279 = dktJ31_mergeLo_12 := dk_seg dksJ31_mergeLo_11 24 rfl rfl
theorem dksJ31_mergeLo_13 : cJ31_mergeLo.data.toList.drop 302 = dktJ31_mergeLo_13 := dk_seg dksJ31_mergeLo_12 23 rfl rfl
theorem dksJ31_mergeLo_14 : cJ31_mergeLo.data.toList.drop 326 = dktJ31_mergeLo_14 := dk_seg dksJ31_mergeLo_13 24 rfl rfl
theorem dksJ31_mergeLo_15 : cJ31_mergeLo.data.toList.drop 350 = dktJ31_mergeLo_15 := dk_seg dksJ31_mergeLo_14 24 rfl rfl
theorem dksJ31_mergeLo_16 : cJ31_mergeLo.data.toList.drop 372 = dktJ31_mergeLo_16 := dk_seg dksJ31_mergeLo_15 22 rfl rfl
theorem dksJ31_mergeLo_17 : cJ31_mergeLo.data.toList.drop 395 = dktJ31_mergeLo_17 := dk_seg dksJ31_mergeLo_16 23 rfl rfl
theorem dksJ31_mergeLo_18 : cJ31_mergeLo.data.toList.drop 418 = dktJ31_mergeLo_18 := dk_seg dksJ31_mergeLo_17 23 rfl rfl
theorem dksJ31_mergeLo_19 : cJ31_mergeLo.data.toList.drop 442 = dktJ31_mergeLo_19 := dk_seg dksJ31_mergeLo_18 24 rfl rfl
theorem dksJ31_mergeLo_20 : cJ31_mergeLo.data.toList.drop 466 = dktJ31_mergeLo_20 := dk_seg dksJ31_mergeLo_19 24 rfl rfl
theorem dksJ31_mergeLo_21 : cJ31_mergeLo.data.toList.drop 488 = dktJ31_mergeLo_21 := dk_seg dksJ31_mergeLo_20 22 rfl rfl
theorem dksJ31_mergeLo_22 : cJ31_mergeLo.data.toList.drop 510 = dktJ31_mergeLo_22 := dk_seg dksJ31_mergeLo_21 22 rfl rfl
theorem dksJ31_mergeLo_23 : cJ31_mergeLo.data.toList.drop 533 = dktJ31_mergeLo_23 := dk_seg dksJ31_mergeLo_22 23 rfl rfl
theorem dksJ31_mergeLo_24 : cJ31_mergeLo.data.toList.drop 557 = dktJ31_mergeLo_24 := dk_seg dksJ31_mergeLo_23 24 rfl rfl
theorem dksJ31_mergeLo_25 : cJ31_mergeLo.data.toList.drop 581 = dktJ31_mergeLo_25 := dk_seg dksJ31_mergeLo_24 24 rfl rfl
theorem dksJ31_mergeLo_26 : cJ31_mergeLo.data.toList.drop 605 = dktJ31_mergeLo_26 := dk_seg dksJ31_mergeLo_25 24 rfl rfl
theorem dksJ31_mergeLo_27 : cJ31_mergeLo.data.toList.drop 627 = dktJ31_mergeLo_27 := dk_seg dksJ31_mergeLo_26 22 rfl rfl
theorem dksJ31_mergeLo_28 : cJ31_mergeLo.data.toList.drop 651 = dktJ31_mergeLo_28 := dk_seg dksJ31_mergeLo_27 24 rfl rfl
theorem dJ31_mergeLo_0 : decode cJ31_mergeLo 0 = .ok (.getstatic 37, 3) := dk_178 0 37 (dk_at dksJ31_mergeLo_0 0 rfl rfl)
theorem dJ31_mergeLo_3 : decode cJ31_mergeLo 3 = .ok (.ifCond .ne 27, 3) := dk_154 0 27 (dk_at dksJ31_mergeLo_0 3 rfl rfl)
theorem dJ31_mergeLo_6 : decode cJ31_mergeLo 6 = .ok (.iload_n 2, 1) := dk_28 (dk_at dksJ31_mergeLo_0 6 rfl rfl)
theorem dJ31_mergeLo_7 : decode cJ31_mergeLo 7 = .ok (.ifCond .le 15, 3) := dk_158 0 15 (dk_at dksJ31_mergeLo_0 7 rfl rfl)
theorem dJ31_mergeLo_10 : decode cJ31_mergeLo 10 = .ok (.iload 4, 2) := dk_21 4 (dk_at dksJ31_mergeLo_0 10 rfl rfl)
theorem dJ31_mergeLo_12 : decode cJ31_mergeLo 12 = .ok (.ifCond .le 10, 3) := dk_158 0 10 (dk_at dksJ31_mergeLo_0 12 rfl rfl)
theorem dJ31_mergeLo_15 : decode cJ31_mergeLo 15 = .ok (.iload_n 1, 1) := dk_27 (dk_at dksJ31_mergeLo_0 15 rfl rfl)
theorem dJ31_mergeLo_16 : decode cJ31_mergeLo 16 = .ok (.iload_n 2, 1) := dk_28 (dk_at dksJ31_mergeLo_0 16 rfl rfl)
theorem dJ31_mergeLo_17 : decode cJ31_mergeLo 17 = .ok (.iadd, 1) := dk_96 (dk_at dksJ31_mergeLo_0 17 rfl rfl)
theorem dJ31_mergeLo_18 : decode cJ31_mergeLo 18 = .ok (.iload_n 3, 1) := dk_29 (dk_at dksJ31_mergeLo_0 18 rfl rfl)
theorem dJ31_mergeLo_19 : decode cJ31_mergeLo 19 = .ok (.if_icmp .eq 11, 3) := dk_159 0 11 (dk_at dksJ31_mergeLo_0 19 rfl rfl)
theorem dJ31_mergeLo_22 : decode cJ31_mergeLo 22 = .ok (.new 41, 3) := dk_187 0 41 (dk_at dksJ31_mergeLo_1 0 rfl rfl)
theorem dJ31_mergeLo_25 : decode cJ31_mergeLo 25 = .ok (.dup, 1) := dk_89 (dk_at dksJ31_mergeLo_1 3 rfl rfl)
theorem dJ31_mergeLo_26 : decode cJ31_mergeLo 26 = .ok (.invokespecial 43, 3) := dk_183 0 43 (dk_at dksJ31_mergeLo_1 4 rfl rfl)
theorem dJ31_mergeLo_29 : decode cJ31_mergeLo 29 = .ok (.athrow, 1) := dk_191 (dk_at dksJ31_mergeLo_1 7 rfl rfl)
theorem dJ31_mergeLo_30 : decode cJ31_mergeLo 30 = .ok (.aload_n 0, 1) := dk_42 (dk_at dksJ31_mergeLo_1 8 rfl rfl)
theorem dJ31_mergeLo_31 : decode cJ31_mergeLo 31 = .ok (.getfield 16, 3) := dk_180 0 16 (dk_at dksJ31_mergeLo_1 9 rfl rfl)
theorem dJ31_mergeLo_34 : decode cJ31_mergeLo 34 = .ok (.astore 5, 2) := dk_58 5 (dk_at dksJ31_mergeLo_1 12 rfl rfl)
theorem dJ31_mergeLo_36 : decode cJ31_mergeLo 36 = .ok (.aload_n 0, 1) := dk_42 (dk_at dksJ31_mergeLo_1 14 rfl rfl)
theorem dJ31_mergeLo_37 : decode cJ31_mergeLo 37 = .ok (.iload_n 2, 1) := dk_28 (dk_at dksJ31_mergeLo_1 15 rfl rfl)
theorem dJ31_mergeLo_38 : decode cJ31_mergeLo 38 = .ok (.invokevirtual 103, 3) := dk_182 0 103 (dk_at dksJ31_mergeLo_1 16 rfl rfl)
theorem dJ31_mergeLo_41 : decode cJ31_mergeLo 41 = .ok (.astore 6, 2) := dk_58 6 (dk_at dksJ31_mergeLo_1 19 rfl rfl)
theorem dJ31_mergeLo_43 : decode cJ31_mergeLo 43 = .ok (.aload_n 0, 1) := dk_42 (dk_at dksJ31_mergeLo_1 21 rfl rfl)
theorem dJ31_mergeLo_44 : decode cJ31_mergeLo 44 = .ok (.getfield 23, 3) := dk_180 0 23 (dk_at dksJ31_mergeLo_2 0 rfl rfl)
theorem dJ31_mergeLo_47 : decode cJ31_mergeLo 47 = .ok (.istore 7, 2) := dk_54 7 (dk_at dksJ31_mergeLo_2 3 rfl rfl)
theorem dJ31_mergeLo_49 : decode cJ31_mergeLo 49 = .ok (.iload_n 3, 1) := dk_29 (dk_at dksJ31_mergeLo_2 5 rfl rfl)
theorem dJ31_mergeLo_50 : decode cJ31_mergeLo 50 = .ok (.istore 8, 2) := dk_54 8 (dk_at dksJ31_mergeLo_2 6 rfl rfl)
theorem dJ31_mergeLo_52 : decode cJ31_mergeLo 52 = .ok (.iload_n 1, 1) := dk_27 (dk_at dksJ31_mergeLo_2 8 rfl rfl)
theorem dJ31_mergeLo_53 : decode cJ31_mergeLo 53 = .ok (.istore 9, 2) := dk_54 9 (dk_at dksJ31_mergeLo_2 9 rfl rfl)
theorem dJ31_mergeLo_55 : decode cJ31_mergeLo 55 = .ok (.aload 5, 2) := dk_25 5 (dk_at dksJ31_mergeLo_2 11 rfl rfl)
theorem dJ31_mergeLo_57 : decode cJ31_mergeLo 57 = .ok (.iload_n 1, 1) := dk_27 (dk_at dksJ31_mergeLo_2 13 rfl rfl)
theorem dJ31_mergeLo_58 : decode cJ31_mergeLo 58 = .ok (.aload 6, 2) := dk_25 6 (dk_at dksJ31_mergeLo_2 14 rfl rfl)
theorem dJ31_mergeLo_60 : decode cJ31_mergeLo 60 = .ok (.iload 7, 2) := dk_21 7 (dk_at dksJ31_mergeLo_2 16 rfl rfl)
theorem dJ31_mergeLo_62 : decode cJ31_mergeLo 62 = .ok (.iload_n 2, 1) := dk_28 (dk_at dksJ31_mergeLo_2 18 rfl rfl)
theorem dJ31_mergeLo_63 : decode cJ31_mergeLo 63 = .ok (.invokestatic 75, 3) := dk_184 0 75 (dk_at dksJ31_mergeLo_2 19 rfl rfl)
theorem dJ31_mergeLo_66 : decode cJ31_mergeLo 66 = .ok (.aload 5, 2) := dk_25 5 (dk_at dksJ31_mergeLo_2 22 rfl rfl)
theorem dJ31_mergeLo_68 : decode cJ31_mergeLo 68 = .ok (.iload 9, 2) := dk_21 9 (dk_at dksJ31_mergeLo_3 0 rfl rfl)
theorem dJ31_mergeLo_70 : decode cJ31_mergeLo 70 = .ok (.iinc 9 1, 3) := dk_132 9 1 (dk_at dksJ31_mergeLo_3 2 rfl rfl)
theorem dJ31_mergeLo_73 : decode cJ31_mergeLo 73 = .ok (.aload 5, 2) := dk_25 5 (dk_at dksJ31_mergeLo_3 5 rfl rfl)
theorem dJ31_mergeLo_75 : decode cJ31_mergeLo 75 = .ok (.iload 8, 2) := dk_21 8 (dk_at dksJ31_mergeLo_3 7 rfl rfl)
theorem dJ31_mergeLo_77 : decode cJ31_mergeLo 77 = .ok (.iinc 8 1, 3) := dk_132 8 1 (dk_at dksJ31_mergeLo_3 9 rfl rfl)
theorem dJ31_mergeLo_80 : decode cJ31_mergeLo 80 = .ok (.aaload, 1) := dk_50 (dk_at dksJ31_mergeLo_3 12 rfl rfl)
theorem dJ31_mergeLo_81 : decode cJ31_mergeLo 81 = .ok (.aastore, 1) := dk_83 (dk_at dksJ31_mergeLo_3 13 rfl rfl)
theorem dJ31_mergeLo_82 : decode cJ31_mergeLo 82 = .ok (.iinc 4 (-1), 3) := dk_132 4 255 (dk_at dksJ31_mergeLo_3 14 rfl rfl)
theorem dJ31_mergeLo_85 : decode cJ31_mergeLo 85 = .ok (.iload 4, 2) := dk_21 4 (dk_at dksJ31_mergeLo_3 17 rfl rfl)
theorem dJ31_mergeLo_87 : decode cJ31_mergeLo 87 = .ok (.ifCond .ne 16, 3) := dk_154 0 16 (dk_at dksJ31_mergeLo_3 19 rfl rfl)
theorem dJ31_mergeLo_90 : decode cJ31_mergeLo 90 = .ok (.aload 6, 2) := dk_25 6 (dk_at dksJ31_mergeLo_3 22 rfl rfl)
theorem dJ31_mergeLo_92 : decode cJ31_mergeLo 92 = .ok (.iload 7, 2) := dk_21 7 (dk_at dksJ31_mergeLo_4 0 rfl rfl)
theorem dJ31_mergeLo_94 : decode cJ31_mergeLo 94 = .ok (.aload 5, 2) := dk_25 5 (dk_at dksJ31_mergeLo_4 2 rfl rfl)
theorem dJ31_mergeLo_96 : decode cJ31_mergeLo 96 = .ok (.iload 9, 2) := dk_21 9 (dk_at dksJ31_mergeLo_4 4 rfl rfl)
theorem dJ31_mergeLo_98 : decode cJ31_mergeLo 98 = .ok (.iload_n 2, 1) := dk_28 (dk_at dksJ31_mergeLo_4 6 rfl rfl)
theorem dJ31_mergeLo_99 : decode cJ31_mergeLo 99 = .ok (.invokestatic 75, 3) := dk_184 0 75 (dk_at dksJ31_mergeLo_4 7 rfl rfl)
theorem dJ31_mergeLo_102 : decode cJ31_mergeLo 102 = .ok (.return_, 1) := dk_177 (dk_at dksJ31_mergeLo_4 10 rfl rfl)
theorem dJ31_mergeLo_103 : decode cJ31_mergeLo 103 = .ok (.iload_n 2, 1) := dk_28 (dk_at dksJ31_mergeLo_4 11 rfl rfl)
theorem dJ31_mergeLo_104 : decode cJ31_mergeLo 104 = .ok (.iconst 1, 1) := dk_4 (dk_at dksJ31_mergeLo_4 12 rfl rfl)
theorem dJ31_mergeLo_105 : decode cJ31_mergeLo 105 = .ok (.if_icmp .ne 30, 3) := dk_160 0 30 (dk_at dksJ31_mergeLo_4 13 rfl rfl)
theorem dJ31_mergeLo_108 : decode cJ31_mergeLo 108 = .ok (.aload 5, 2) := dk_25 5 (dk_at dksJ31_mergeLo_4 16 rfl rfl)
theorem dJ31_mergeLo_110 : decode cJ31_mergeLo 110 = .ok (.iload 8, 2) := dk_21 8 (dk_at dksJ31_mergeLo_4 18 rfl rfl)
theorem dJ31_mergeLo_112 : decode cJ31_mergeLo 112 = .ok (.aload 5, 2) := dk_25 5 (dk_at dksJ31_mergeLo_4 20 rfl rfl)
theorem dJ31_mergeLo_114 : decode cJ31_mergeLo 114 = .ok (.iload 9, 2) := dk_21 9 (dk_at dksJ31_mergeLo_4 22 rfl rfl)
theorem dJ31_mergeLo_116 : decode cJ31_mergeLo 116 = .ok (.iload 4, 2) := dk_21 4 (dk_at dksJ31_mergeLo_5 0 rfl rfl)
theorem dJ31_mergeLo_118 : decode cJ31_mergeLo 118 = .ok (.invokestatic 75, 3) := dk_184 0 75 (dk_at dksJ31_mergeLo_5 2 rfl rfl)
theorem dJ31_mergeLo_121 : decode cJ31_mergeLo 121 = .ok (.aload 5, 2) := dk_25 5 (dk_at dksJ31_mergeLo_5 5 rfl rfl)
theorem dJ31_mergeLo_123 : decode cJ31_mergeLo 123 = .ok (.iload 9, 2) := dk_21 9 (dk_at dksJ31_mergeLo_5 7 rfl rfl)
theorem dJ31_mergeLo_125 : decode cJ31_mergeLo 125 = .ok (.iload 4, 2) := dk_21 4 (dk_at dksJ31_mergeLo_5 9 rfl rfl)
theorem dJ31_mergeLo_127 : decode cJ31_mergeLo 127 = .ok (.iadd, 1) := dk_96 (dk_at dksJ31_mergeLo_5 11 rfl rfl)
theorem dJ31_mergeLo_128 : decode cJ31_mergeLo 128 = .ok (.aload 6, 2) := dk_25 6 (dk_at dksJ31_mergeLo_5 12 rfl rfl)
theorem dJ31_mergeLo_130 : decode cJ31_mergeLo 130 = .ok (.iload 7, 2) := dk_21 7 (dk_at dksJ31_mergeLo_5 14 rfl rfl)
theorem dJ31_mergeLo_132 : decode cJ31_mergeLo 132 = .ok (.aaload, 1) := dk_50 (dk_at dksJ31_mergeLo_5 16 rfl rfl)
theorem dJ31_mergeLo_133 : decode cJ31_mergeLo 133 = .ok (.aastore, 1) := dk_83 (dk_at dksJ31_mergeLo_5 17 rfl rfl)
theorem dJ31_mergeLo_134 : decode cJ31_mergeLo 134 = .ok (.return_, 1) := dk_177 (dk_at dksJ31_mergeLo_5 18 rfl rfl)
theorem dJ31_mergeLo_135 : decode cJ31_mergeLo 135 = .ok (.aload_n 0, 1) := dk_42 (dk_at dksJ31_mergeLo_5 19 rfl rfl)
theorem dJ31_mergeLo_136 : decode cJ31_mergeLo 136 = .ok (.getfield 9, 3) := dk_180 0 9 (dk_at dksJ31_mergeLo_5 20 rfl rfl)
theorem dJ31_mergeLo_139 : decode cJ31_mergeLo 139 = .ok (.istore 10, 2) := dk_54 10 (dk_at dksJ31_mergeLo_6 0 rfl rfl)
theorem dJ31_mergeLo_141 : decode cJ31_mergeLo 141 = .ok (.iconst 0, 1) := dk_3 (dk_at dksJ31_mergeLo_6 2 rfl rfl)
theorem dJ31_mergeLo_142 : decode cJ31_mergeLo 142 = .ok (.istore 11, 2) := dk_54 11 (dk_at dksJ31_mergeLo_6 3 rfl rfl)
theorem dJ31_mergeLo_144 : decode cJ31_mergeLo 144 = .ok (.iconst 0, 1) := dk_3 (dk_at dksJ31_mergeLo_6 5 rfl rfl)
theorem dJ31_mergeLo_145 : decode cJ31_mergeLo 145 = .ok (.istore 12, 2) := dk_54 12 (dk_at dksJ31_mergeLo_6 6 rfl rfl)
theorem dJ31_mergeLo_147 : decode cJ31_mergeLo 147 = .ok (.getstatic 37, 3) := dk_178 0 37 (dk_at dksJ31_mergeLo_6 8 rfl rfl)
theorem dJ31_mergeLo_150 : decode cJ31_mergeLo 150 = .ok (.ifCond .ne 21, 3) := dk_154 0 21 (dk_at dksJ31_mergeLo_6 11 rfl rfl)
theorem dJ31_mergeLo_153 : decode cJ31_mergeLo 153 = .ok (.iload_n 2, 1) := dk_28 (dk_at dksJ31_mergeLo_6 14 rfl rfl)
theorem dJ31_mergeLo_154 : decode cJ31_mergeLo 154 = .ok (.iconst 1, 1) := dk_4 (dk_at dksJ31_mergeLo_6 15 rfl rfl)
theorem dJ31_mergeLo_155 : decode cJ31_mergeLo 155 = .ok (.if_icmp .le 8, 3) := dk_164 0 8 (dk_at dksJ31_mergeLo_6 16 rfl rfl)
theorem dJ31_mergeLo_158 : decode cJ31_mergeLo 158 = .ok (.iload 4, 2) := dk_21 4 (dk_at dksJ31_mergeLo_6 19 rfl rfl)
theorem dJ31_mergeLo_160 : decode cJ31_mergeLo 160 = .ok (.ifCond .gt 11, 3) := dk_157 0 11 (dk_at dksJ31_mergeLo_6 21 rfl rfl)
theorem dJ31_mergeLo_163 : decode cJ31_mergeLo 163 = .ok (.new 41, 3) := dk_187 0 41 (dk_at dksJ31_mergeLo_7 0 rfl rfl)
theorem dJ31_mergeLo_166 : decode cJ31_mergeLo 166 = .ok (.dup, 1) := dk_89 (dk_at dksJ31_mergeLo_7 3 rfl rfl)
theorem dJ31_mergeLo_167 : decode cJ31_mergeLo 167 = .ok (.invokespecial 43, 3) := dk_183 0 43 (dk_at dksJ31_mergeLo_7 4 rfl rfl)
theorem dJ31_mergeLo_170 : decode cJ31_mergeLo 170 = .ok (.athrow, 1) := dk_191 (dk_at dksJ31_mergeLo_7 7 rfl rfl)
theorem dJ31_mergeLo_171 : decode cJ31_mergeLo 171 = .ok (.aload 5, 2) := dk_25 5 (dk_at dksJ31_mergeLo_7 8 rfl rfl)
theorem dJ31_mergeLo_173 : decode cJ31_mergeLo 173 = .ok (.iload 8, 2) := dk_21 8 (dk_at dksJ31_mergeLo_7 10 rfl rfl)
theorem dJ31_mergeLo_175 : decode cJ31_mergeLo 175 = .ok (.aaload, 1) := dk_50 (dk_at dksJ31_mergeLo_7 12 rfl rfl)
theorem dJ31_mergeLo_176 : decode cJ31_mergeLo 176 = .ok (.checkcast 69, 3) := dk_192 0 69 (dk_at dksJ31_mergeLo_7 13 rfl rfl)
theorem dJ31_mergeLo_179 : decode cJ31_mergeLo 179 = .ok (.aload 6, 2) := dk_25 6 (dk_at dksJ31_mergeLo_7 16 rfl rfl)
theorem dJ31_mergeLo_181 : decode cJ31_mergeLo 181 = .ok (.iload 7, 2) := dk_21 7 (dk_at dksJ31_mergeLo_7 18 rfl rfl)
theorem dJ31_mergeLo_183 : decode cJ31_mergeLo 183 = .ok (.aaload, 1) := dk_50 (dk_at dksJ31_mergeLo_7 20 rfl rfl)
theorem dJ31_mergeLo_184 : decode cJ31_mergeLo 184 = .ok (.invokeinterface 71 2, 5) := by decide +kernel
theorem dJ31_mergeLo_189 : decode cJ31_mergeLo 189 = .ok (.ifCond .ge 36, 3) := dk_156 0 36 (dk_at dksJ31_mergeLo_8 5 rfl rfl)
theorem dJ31_mergeLo_192 : decode cJ31_mergeLo 192 = .ok (.aload 5, 2) := dk_25 5 (dk_at dksJ31_mergeLo_8 8 rfl rfl)
theorem dJ31_mergeLo_194 : decode cJ31_mergeLo 194 = .ok (.iload 9, 2) := dk_21 9 (dk_at dksJ31_mergeLo_8 10 rfl rfl)
theorem dJ31_mergeLo_196 : decode cJ31_mergeLo 196 = .ok (.iinc 9 1, 3) := dk_132 9 1 (dk_at dksJ31_mergeLo_8 12 rfl rfl)
theorem dJ31_mergeLo_199 : decode cJ31_mergeLo 199 = .ok (.aload 5, 2) := dk_25 5 (dk_at dksJ31_mergeLo_8 15 rfl rfl)
theorem dJ31_mergeLo_201 : decode cJ31_mergeLo 201 = .ok (.iload 8, 2) := dk_21 8 (dk_at dksJ31_mergeLo_8 17 rfl rfl)
theorem dJ31_mergeLo_203 : decode cJ31_mergeLo 203 = .ok (.iinc 8 1, 3) := dk_132 8 1 (dk_at dksJ31_mergeLo_8 19 rfl rfl)
theorem dJ31_mergeLo_206 : decode cJ31_mergeLo 206 = .ok (.aaload, 1) := dk_50 (dk_at dksJ31_mergeLo_8 22 rfl rfl)
theorem dJ31_mergeLo_207 : decode cJ31_mergeLo 207 = .ok (.aastore, 1) := dk_83 (dk_at dksJ31_mergeLo_8 23 rfl rfl)
theorem dJ31_mergeLo_208 : decode cJ31_mergeLo 208 = .ok (.iinc 12 1, 3) := dk_132 12 1 (dk_at dksJ31_mergeLo_9 0 rfl rfl)
theorem dJ31_mergeLo_211 : decode cJ31_mergeLo 211 = .ok (.iconst 0, 1) := dk_3 (dk_at dksJ31_mergeLo_9 3 rfl rfl)
theorem dJ31_mergeLo_212 : decode cJ31_mergeLo 212 = .ok (.istore 11, 2) := dk_54 11 (dk_at dksJ31_mergeLo_9 4 rfl rfl)
theorem dJ31_mergeLo_214 : decode cJ31_mergeLo 214 = .ok (.iinc 4 (-1), 3) := dk_132 4 255 (dk_at dksJ31_mergeLo_9 6 rfl rfl)
theorem dJ31_mergeLo_217 : decode cJ31_mergeLo 217 = .ok (.iload 4, 2) := dk_21 4 (dk_at dksJ31_mergeLo_9 9 rfl rfl)
theorem dJ31_mergeLo_219 : decode cJ31_mergeLo 219 = .ok (.ifCond .ne 39, 3) := dk_154 0 39 (dk_at dksJ31_mergeLo_9 11 rfl rfl)
theorem dJ31_mergeLo_222 : decode cJ31_mergeLo 222 = .ok (.goto 300, 3) := dk_167 1 44 (dk_at dksJ31_mergeLo_9 14 rfl rfl)
theorem dJ31_mergeLo_225 : decode cJ31_mergeLo 225 = .ok (.aload 5, 2) := dk_25 5 (dk_at dksJ31_mergeLo_9 17 rfl rfl)
theorem dJ31_mergeLo_227 : decode cJ31_mergeLo 227 = .ok (.iload 9, 2) := dk_21 9 (dk_at dksJ31_mergeLo_9 19 rfl rfl)
theorem dJ31_mergeLo_229 : decode cJ31_mergeLo 229 = .ok (.iinc 9 1, 3) := dk_132 9 1 (dk_at dksJ31_mergeLo_9 21 rfl rfl)
theorem dJ31_mergeLo_232 : decode cJ31_mergeLo 232 = .ok (.aload 6, 2) := dk_25 6 (dk_at dksJ31_mergeLo_10 0 rfl rfl)
theorem dJ31_mergeLo_234 : decode cJ31_mergeLo 234 = .ok (.iload 7, 2) := dk_21 7 (dk_at dksJ31_mergeLo_10 2 rfl rfl)
theorem dJ31_mergeLo_236 : decode cJ31_mergeLo 236 = .ok (.iinc 7 1, 3) := dk_132 7 1 (dk_at dksJ31_mergeLo_10 4 rfl rfl)
theorem dJ31_mergeLo_239 : decode cJ31_mergeLo 239 = .ok (.aaload, 1) := dk_50 (dk_at dksJ31_mergeLo_10 7 rfl rfl)
theorem dJ31_mergeLo_240 : decode cJ31_mergeLo 240 = .ok (.aastore, 1) := dk_83 (dk_at dksJ31_mergeLo_10 8 rfl rfl)
theorem dJ31_mergeLo_241 : decode cJ31_mergeLo 241 = .ok (.iinc 11 1, 3) := dk_132 11 1 (dk_at dksJ31_mergeLo_10 9 rfl rfl)
theorem dJ31_mergeLo_244 : decode cJ31_mergeLo 244 = .ok (.iconst 0, 1) := dk_3 (dk_at dksJ31_mergeLo_10 12 rfl rfl)
theorem dJ31_mergeLo_245 : decode cJ31_mergeLo 245 = .ok (.istore 12, 2) := dk_54 12 (dk_at dksJ31_mergeLo_10 13 rfl rfl)
theorem dJ31_mergeLo_247 : decode cJ31_mergeLo 247 = .ok (.iinc 2 (-1), 3) := dk_132 2 255 (dk_at dksJ31_mergeLo_10 15 rfl rfl)
theorem dJ31_mergeLo_250 : decode cJ31_mergeLo 250 = .ok (.iload_n 2, 1) := dk_28 (dk_at dksJ31_mergeLo_10 18 rfl rfl)
theorem dJ31_mergeLo_251 : decode cJ31_mergeLo 251 = .ok (.iconst 1, 1) := dk_4 (dk_at dksJ31_mergeLo_10 19 rfl rfl)
theorem dJ31_mergeLo_252 : decode cJ31_mergeLo 252 = .ok (.if_icmp .ne 6, 3) := dk_160 0 6 (dk_at dksJ31_mergeLo_10 20 rfl rfl)
theorem dJ31_mergeLo_255 : decode cJ31_mergeLo 255 = .ok (.goto 267, 3) := dk_167 1 11 (dk_at dksJ31_mergeLo_11 0 rfl rfl)
theorem dJ31_mergeLo_258 : decode cJ31_mergeLo 258 = .ok (.iload 11, 2) := dk_21 11 (dk_at dksJ31_mergeLo_11 3 rfl rfl)
theorem dJ31_mergeLo_260 : decode cJ31_mergeLo 260 = .ok (.iload 12, 2) := dk_21 12 (dk_at dksJ31_mergeLo_11 5 rfl rfl)
theorem dJ31_mergeLo_262 : decode cJ31_mergeLo 262 = .ok (.ior, 1) := dk_128 (dk_at dksJ31_mergeLo_11 7 rfl rfl)
theorem dJ31_mergeLo_263 : decode cJ31_mergeLo 263 = .ok (.iload 10, 2) := dk_21 10 (dk_at dksJ31_mergeLo_11 8 rfl rfl)
theorem dJ31_mergeLo_265 : decode cJ31_mergeLo 265 = .ok (.if_icmp .lt (-118), 3) := dk_161 255 138 (dk_at dksJ31_mergeLo_11 10 rfl rfl)
theorem dJ31_mergeLo_268 : decode cJ31_mergeLo 268 = .ok (.getstatic 37, 3) := dk_178 0 37 (dk_at dksJ31_mergeLo_11 13 rfl rfl)
theorem dJ31_mergeLo_271 : decode cJ31_mergeLo 271 = .ok (.ifCond .ne 21, 3) := dk_154 0 21 (dk_at dksJ31_mergeLo_11 16 rfl rfl)
theorem dJ31_mergeLo_274 : decode cJ31_mergeLo 274 = .ok (.iload_n 2, 1) := dk_28 (dk_at dksJ31_mergeLo_11 19 rfl rfl)
theorem dJ31_mergeLo_275 : decode cJ31_mergeLo 275 = .ok (.iconst 1, 1) := dk_4 (dk_at dksJ31_mergeLo_11 20 rfl rfl)
theorem dJ31_mergeLo_276 : decode cJ31_mergeLo 276 = .ok (.if_icmp .le 8, 3) := dk_164 0 8 (dk_at dksJ31_mergeLo_11 21 rfl rfl)
theorem dJ31_mergeLo_279 : decode cJ31_mergeLo 279 = .ok (.iload 4, 2) := dk_21 4 (dk_at dksJ31_mergeLo_12 0 rfl rfl)
theorem dJ31_mergeLo_281 : decode cJ31_mergeLo 281 = .ok (.ifCond .gt 11, 3) := dk_157 0 11 (dk_at dksJ31_mergeLo_12 2 rfl rfl)
theorem dJ31_mergeLo_284 : decode cJ31_mergeLo 284 = .ok (.new 41, 3) := dk_187 0 41 (dk_at dksJ31_mergeLo_12 5 rfl rfl)
theorem dJ31_mergeLo_287 : decode cJ31_mergeLo 287 = .ok (.dup, 1) := dk_89 (dk_at dksJ31_mergeLo_12 8 rfl rfl)
theorem dJ31_mergeLo_288 : decode cJ31_mergeLo 288 = .ok (.invokespecial 43, 3) := dk_183 0 43 (dk_at dksJ31_mergeLo_12 9 rfl rfl)
theorem dJ31_mergeLo_291 : decode cJ31_mergeLo 291 = .ok (.athrow, 1) := dk_191 (dk_at dksJ31_mergeLo_12 12 rfl rfl)
theorem dJ31_mergeLo_292 : decode cJ31_mergeLo 292 = .ok (.aload 5, 2) := dk_25 5 (dk_at dksJ31_mergeLo_12 13 rfl rfl)
theorem dJ31_mergeLo_294 : decode cJ31_mergeLo 294 = .ok (.iload 8, 2) := dk_21 8 (dk_at dksJ31_mergeLo_12 15 rfl rfl)
theorem dJ31_mergeLo_296 : decode cJ31_mergeLo 296 = .ok (.aaload, 1) := dk_50 (dk_at dksJ31_mergeLo_12 17 rfl rfl)
theorem dJ31_mergeLo_297 : decode cJ31_mergeLo 297 = .ok (.checkcast 69, 3) := dk_192 0 69 (dk_at dksJ31_mergeLo_12 18 rfl rfl)
theorem dJ31_mergeLo_300 : decode cJ31_mergeLo 300 = .ok (.aload 6, 2) := dk_25 6 (dk_at dksJ31_mergeLo_12 21 rfl rfl)
theorem dJ31_mergeLo_302 : decode cJ31_mergeLo 302 = .ok (.iload 7, 2) := dk_21 7 (dk_at dksJ31_mergeLo_13 0 rfl rfl)
theorem dJ31_mergeLo_304 : decode cJ31_mergeLo 304 = .ok (.iload_n 2, 1) := dk_28 (dk_at dksJ31_mergeLo_13 2 rfl rfl)
theorem dJ31_mergeLo_305 : decode cJ31_mergeLo 305 = .ok (.iconst 0, 1) := dk_3 (dk_at dksJ31_mergeLo_13 3 rfl rfl)
theorem dJ31_mergeLo_306 : decode cJ31_mergeLo 306 = .ok (.invokestatic 89, 3) := dk_184 0 89 (dk_at dksJ31_mergeLo_13 4 rfl rfl)
theorem dJ31_mergeLo_309 : decode cJ31_mergeLo 309 = .ok (.istore 11, 2) := dk_54 11 (dk_at dksJ31_mergeLo_13 7 rfl rfl)
theorem dJ31_mergeLo_311 : decode cJ31_mergeLo 311 = .ok (.iload 11, 2) := dk_21 11 (dk_at dksJ31_mergeLo_13 9 rfl rfl)
theorem dJ31_mergeLo_313 : decode cJ31_mergeLo 313 = .ok (.ifCond .eq 43, 3) := dk_153 0 43 (dk_at dksJ31_mergeLo_13 11 rfl rfl)
theorem dJ31_mergeLo_316 : decode cJ31_mergeLo 316 = .ok (.aload 6, 2) := dk_25 6 (dk_at dksJ31_mergeLo_13 14 rfl rfl)
theorem dJ31_mergeLo_318 : decode cJ31_mergeLo 318 = .ok (.iload 7, 2) := dk_21 7 (dk_at dksJ31_mergeLo_13 16 rfl rfl)
theorem dJ31_mergeLo_320 : decode cJ31_mergeLo 320 = .ok (.aload 5, 2) := dk_25 5 (dk_at dksJ31_mergeLo_13 18 rfl rfl)
theorem dJ31_mergeLo_322 : decode cJ31_mergeLo 322 = .ok (.iload 9, 2) := dk_21 9 (dk_at dksJ31_mergeLo_13 20 rfl rfl)
theorem dJ31_mergeLo_324 : decode cJ31_mergeLo 324 = .ok (.iload 11, 2) := dk_21 11 (dk_at dksJ31_mergeLo_13 22 rfl rfl)
theorem dJ31_mergeLo_326 : decode cJ31_mergeLo 326 = .ok (.invokestatic 75, 3) := dk_184 0 75 (dk_at dksJ31_mergeLo_14 0 rfl rfl)
theorem dJ31_mergeLo_329 : decode cJ31_mergeLo 329 = .ok (.iload 9, 2) := dk_21 9 (dk_at dksJ31_mergeLo_14 3 rfl rfl)
theorem dJ31_mergeLo_331 : decode cJ31_mergeLo 331 = .ok (.iload 11, 2) := dk_21 11 (dk_at dksJ31_mergeLo_14 5 rfl rfl)
theorem dJ31_mergeLo_333 : decode cJ31_mergeLo 333 = .ok (.iadd, 1) := dk_96 (dk_at dksJ31_mergeLo_14 7 rfl rfl)
theorem dJ31_mergeLo_334 : decode cJ31_mergeLo 334 = .ok (.istore 9, 2) := dk_54 9 (dk_at dksJ31_mergeLo_14 8 rfl rfl)
theorem dJ31_mergeLo_336 : decode cJ31_mergeLo 336 = .ok (.iload 7, 2) := dk_21 7 (dk_at dksJ31_mergeLo_14 10 rfl rfl)
theorem dJ31_mergeLo_338 : decode cJ31_mergeLo 338 = .ok (.iload 11, 2) := dk_21 11 (dk_at dksJ31_mergeLo_14 12 rfl rfl)
theorem dJ31_mergeLo_340 : decode cJ31_mergeLo 340 = .ok (.iadd, 1) := dk_96 (dk_at dksJ31_mergeLo_14 14 rfl rfl)
theorem dJ31_mergeLo_341 : decode cJ31_mergeLo 341 = .ok (.istore 7, 2) := dk_54 7 (dk_at dksJ31_mergeLo_14 15 rfl rfl)
theorem dJ31_mergeLo_343 : decode cJ31_mergeLo 343 = .ok (.iload_n 2, 1) := dk_28 (dk_at dksJ31_mergeLo_14 17 rfl rfl)
theorem dJ31_mergeLo_344 : decode cJ31_mergeLo 344 = .ok (.iload 11, 2) := dk_21 11 (dk_at dksJ31_mergeLo_14 18 rfl rfl)
theorem dJ31_mergeLo_346 : decode cJ31_mergeLo 346 = .ok (.isub, 1) := dk_100 (dk_at dksJ31_mergeLo_14 20 rfl rfl)
theorem dJ31_mergeLo_347 : decode cJ31_mergeLo 347 = .ok (.istore_n 2, 1) := dk_61 (dk_at dksJ31_mergeLo_14 21 rfl rfl)
theorem dJ31_mergeLo_348 : decode cJ31_mergeLo 348 = .ok (.iload_n 2, 1) := dk_28 (dk_at dksJ31_mergeLo_14 22 rfl rfl)
theorem dJ31_mergeLo_349 : decode cJ31_mergeLo 349 = .ok (.iconst 1, 1) := dk_4 (dk_at dksJ31_mergeLo_14 23 rfl rfl)
theorem dJ31_mergeLo_350 : decode cJ31_mergeLo 350 = .ok (.if_icmp .gt 6, 3) := dk_163 0 6 (dk_at dksJ31_mergeLo_15 0 rfl rfl)
theorem dJ31_mergeLo_353 : decode cJ31_mergeLo 353 = .ok (.goto 169, 3) := dk_167 0 169 (dk_at dksJ31_mergeLo_15 3 rfl rfl)
theorem dJ31_mergeLo_356 : decode cJ31_mergeLo 356 = .ok (.aload 5, 2) := dk_25 5 (dk_at dksJ31_mergeLo_15 6 rfl rfl)
theorem dJ31_mergeLo_358 : decode cJ31_mergeLo 358 = .ok (.iload 9, 2) := dk_21 9 (dk_at dksJ31_mergeLo_15 8 rfl rfl)
theorem dJ31_mergeLo_360 : decode cJ31_mergeLo 360 = .ok (.iinc 9 1, 3) := dk_132 9 1 (dk_at dksJ31_mergeLo_15 10 rfl rfl)
theorem dJ31_mergeLo_363 : decode cJ31_mergeLo 363 = .ok (.aload 5, 2) := dk_25 5 (dk_at dksJ31_mergeLo_15 13 rfl rfl)
theorem dJ31_mergeLo_365 : decode cJ31_mergeLo 365 = .ok (.iload 8, 2) := dk_21 8 (dk_at dksJ31_mergeLo_15 15 rfl rfl)
theorem dJ31_mergeLo_367 : decode cJ31_mergeLo 367 = .ok (.iinc 8 1, 3) := dk_132 8 1 (dk_at dksJ31_mergeLo_15 17 rfl rfl)
theorem dJ31_mergeLo_370 : decode cJ31_mergeLo 370 = .ok (.aaload, 1) := dk_50 (dk_at dksJ31_mergeLo_15 20 rfl rfl)
theorem dJ31_mergeLo_371 : decode cJ31_mergeLo 371 = .ok (.aastore, 1) := dk_83 (dk_at dksJ31_mergeLo_15 21 rfl rfl)
theorem dJ31_mergeLo_372 : decode cJ31_mergeLo 372 = .ok (.iinc 4 (-1), 3) := dk_132 4 255 (dk_at dksJ31_mergeLo_16 0 rfl rfl)
theorem dJ31_mergeLo_375 : decode cJ31_mergeLo 375 = .ok (.iload 4, 2) := dk_21 4 (dk_at dksJ31_mergeLo_16 3 rfl rfl)
theorem dJ31_mergeLo_377 : decode cJ31_mergeLo 377 = .ok (.ifCond .ne 6, 3) := dk_154 0 6 (dk_at dksJ31_mergeLo_16 5 rfl rfl)
theorem dJ31_mergeLo_380 : decode cJ31_mergeLo 380 = .ok (.goto 142, 3) := dk_167 0 142 (dk_at dksJ31_mergeLo_16 8 rfl rfl)
theorem dJ31_mergeLo_383 : decode cJ31_mergeLo 383 = .ok (.aload 6, 2) := dk_25 6 (dk_at dksJ31_mergeLo_16 11 rfl rfl)
theorem dJ31_mergeLo_385 : decode cJ31_mergeLo 385 = .ok (.iload 7, 2) := dk_21 7 (dk_at dksJ31_mergeLo_16 13 rfl rfl)
theorem dJ31_mergeLo_387 : decode cJ31_mergeLo 387 = .ok (.aaload, 1) := dk_50 (dk_at dksJ31_mergeLo_16 15 rfl rfl)
theorem dJ31_mergeLo_388 : decode cJ31_mergeLo 388 = .ok (.checkcast 69, 3) := dk_192 0 69 (dk_at dksJ31_mergeLo_16 16 rfl rfl)
theorem dJ31_mergeLo_391 : decode cJ31_mergeLo 391 = .ok (.aload 5, 2) := dk_25 5 (dk_at dksJ31_mergeLo_16 19 rfl rfl)
theorem dJ31_mergeLo_393 : decode cJ31_mergeLo 393 = .ok (.iload 8, 2) := dk_21 8 (dk_at dksJ31_mergeLo_16 21 rfl rfl)
theorem dJ31_mergeLo_395 : decode cJ31_mergeLo 395 = .ok (.iload 4, 2) := dk_21 4 (dk_at dksJ31_mergeLo_17 0 rfl rfl)
theorem dJ31_mergeLo_397 : decode cJ31_mergeLo 397 = .ok (.iconst 0, 1) := dk_3 (dk_at dksJ31_mergeLo_17 2 rfl rfl)
theorem dJ31_mergeLo_398 : decode cJ31_mergeLo 398 = .ok (.invokestatic 93, 3) := dk_184 0 93 (dk_at dksJ31_mergeLo_17 3 rfl rfl)
theorem dJ31_mergeLo_401 : decode cJ31_mergeLo 401 = .ok (.istore 12, 2) := dk_54 12 (dk_at dksJ31_mergeLo_17 6 rfl rfl)
theorem dJ31_mergeLo_403 : decode cJ31_mergeLo 403 = .ok (.iload 12, 2) := dk_21 12 (dk_at dksJ31_mergeLo_17 8 rfl rfl)
theorem dJ31_mergeLo_405 : decode cJ31_mergeLo 405 = .ok (.ifCond .eq 45, 3) := dk_153 0 45 (dk_at dksJ31_mergeLo_17 10 rfl rfl)
theorem dJ31_mergeLo_408 : decode cJ31_mergeLo 408 = .ok (.aload 5, 2) := dk_25 5 (dk_at dksJ31_mergeLo_17 13 rfl rfl)
theorem dJ31_mergeLo_410 : decode cJ31_mergeLo 410 = .ok (.iload 8, 2) := dk_21 8 (dk_at dksJ31_mergeLo_17 15 rfl rfl)
theorem dJ31_mergeLo_412 : decode cJ31_mergeLo 412 = .ok (.aload 5, 2) := dk_25 5 (dk_at dksJ31_mergeLo_17 17 rfl rfl)
theorem dJ31_mergeLo_414 : decode cJ31_mergeLo 414 = .ok (.iload 9, 2) := dk_21 9 (dk_at dksJ31_mergeLo_17 19 rfl rfl)
theorem dJ31_mergeLo_416 : decode cJ31_mergeLo 416 = .ok (.iload 12, 2) := dk_21 12 (dk_at dksJ31_mergeLo_17 21 rfl rfl)
theorem dJ31_mergeLo_418 : decode cJ31_mergeLo 418 = .ok (.invokestatic 75, 3) := dk_184 0 75 (dk_at dksJ31_mergeLo_18 0 rfl rfl)
theorem dJ31_mergeLo_421 : decode cJ31_mergeLo 421 = .ok (.iload 9, 2) := dk_21 9 (dk_at dksJ31_mergeLo_18 3 rfl rfl)
theorem dJ31_mergeLo_423 : decode cJ31_mergeLo 423 = .ok (.iload 12, 2) := dk_21 12 (dk_at dksJ31_mergeLo_18 5 rfl rfl)
theorem dJ31_mergeLo_425 : decode cJ31_mergeLo 425 = .ok (.iadd, 1) := dk_96 (dk_at dksJ31_mergeLo_18 7 rfl rfl)
theorem dJ31_mergeLo_426 : decode cJ31_mergeLo 426 = .ok (.istore 9, 2) := dk_54 9 (dk_at dksJ31_mergeLo_18 8 rfl rfl)
theorem dJ31_mergeLo_428 : decode cJ31_mergeLo 428 = .ok (.iload 8, 2) := dk_21 8 (dk_at dksJ31_mergeLo_18 10 rfl rfl)
theorem dJ31_mergeLo_430 : decode cJ31_mergeLo 430 = .ok (.iload 12, 2) := dk_21 12 (dk_at dksJ31_mergeLo_18 12 rfl rfl)
theorem dJ31_mergeLo_432 : decode cJ31_mergeLo 432 = .ok (.iadd, 1) := dk_96 (dk_at dksJ31_mergeLo_18 14 rfl rfl)
theorem dJ31_mergeLo_433 : decode cJ31_mergeLo 433 = .ok (.istore 8, 2) := dk_54 8 (dk_at dksJ31_mergeLo_18 15 rfl rfl)
theorem dJ31_mergeLo_435 : decode cJ31_mergeLo 435 = .ok (.iload 4, 2) := dk_21 4 (dk_at dksJ31_mergeLo_18 17 rfl rfl)
theorem dJ31_mergeLo_437 : decode cJ31_mergeLo 437 = .ok (.iload 12, 2) := dk_21 12 (dk_at dksJ31_mergeLo_18 19 rfl rfl)
theorem dJ31_mergeLo_439 : decode cJ31_mergeLo 439 = .ok (.isub, 1) := dk_100 (dk_at dksJ31_mergeLo_18 21 rfl rfl)
theorem dJ31_mergeLo_440 : decode cJ31_mergeLo 440 = .ok (.istore 4, 2) := dk_54 4 (dk_at dksJ31_mergeLo_18 22 rfl rfl)
theorem dJ31_mergeLo_442 : decode cJ31_mergeLo 442 = .ok (.iload 4, 2) := dk_21 4 (dk_at dksJ31_mergeLo_19 0 rfl rfl)
theorem dJ31_mergeLo_444 : decode cJ31_mergeLo 444 = .ok (.ifCond .ne 6, 3) := dk_154 0 6 (dk_at dksJ31_mergeLo_19 2 rfl rfl)
theorem dJ31_mergeLo_447 : decode cJ31_mergeLo 447 = .ok (.goto 75, 3) := dk_167 0 75 (dk_at dksJ31_mergeLo_19 5 rfl rfl)
theorem dJ31_mergeLo_450 : decode cJ31_mergeLo 450 = .ok (.aload 5, 2) := dk_25 5 (dk_at dksJ31_mergeLo_19 8 rfl rfl)
theorem dJ31_mergeLo_452 : decode cJ31_mergeLo 452 = .ok (.iload 9, 2) := dk_21 9 (dk_at dksJ31_mergeLo_19 10 rfl rfl)
theorem dJ31_mergeLo_454 : decode cJ31_mergeLo 454 = .ok (.iinc 9 1, 3) := dk_132 9 1 (dk_at dksJ31_mergeLo_19 12 rfl rfl)
theorem dJ31_mergeLo_457 : decode cJ31_mergeLo 457 = .ok (.aload 6, 2) := dk_25 6 (dk_at dksJ31_mergeLo_19 15 rfl rfl)
theorem dJ31_mergeLo_459 : decode cJ31_mergeLo 459 = .ok (.iload 7, 2) := dk_21 7 (dk_at dksJ31_mergeLo_19 17 rfl rfl)
theorem dJ31_mergeLo_461 : decode cJ31_mergeLo 461 = .ok (.iinc 7 1, 3) := dk_132 7 1 (dk_at dksJ31_mergeLo_19 19 rfl rfl)
theorem dJ31_mergeLo_464 : decode cJ31_mergeLo 464 = .ok (.aaload, 1) := dk_50 (dk_at dksJ31_mergeLo_19 22 rfl rfl)
theorem dJ31_mergeLo_465 : decode cJ31_mergeLo 465 = .ok (.aastore, 1) := dk_83 (dk_at dksJ31_mergeLo_19 23 rfl rfl)
theorem dJ31_mergeLo_466 : decode cJ31_mergeLo 466 = .ok (.iinc 2 (-1), 3) := dk_132 2 255 (dk_at dksJ31_mergeLo_20 0 rfl rfl)
theorem dJ31_mergeLo_469 : decode cJ31_mergeLo 469 = .ok (.iload_n 2, 1) := dk_28 (dk_at dksJ31_mergeLo_20 3 rfl rfl)
theorem dJ31_mergeLo_470 : decode cJ31_mergeLo 470 = .ok (.iconst 1, 1) := dk_4 (dk_at dksJ31_mergeLo_20 4 rfl rfl)
theorem dJ31_mergeLo_471 : decode cJ31_mergeLo 471 = .ok (.if_icmp .ne 6, 3) := dk_160 0 6 (dk_at dksJ31_mergeLo_20 5 rfl rfl)
theorem dJ31_mergeLo_474 : decode cJ31_mergeLo 474 = .ok (.goto 48, 3) := dk_167 0 48 (dk_at dksJ31_mergeLo_20 8 rfl rfl)
theorem dJ31_mergeLo_477 : decode cJ31_mergeLo 477 = .ok (.iinc 10 (-1), 3) := dk_132 10 255 (dk_at dksJ31_mergeLo_20 11 rfl rfl)
theorem dJ31_mergeLo_480 : decode cJ31_mergeLo 480 = .ok (.iload 11, 2) := dk_21 11 (dk_at dksJ31_mergeLo_20 14 rfl rfl)
theorem dJ31_mergeLo_482 : decode cJ31_mergeLo 482 = .ok (.bipush 7, 2) := dk_16 7 (dk_at dksJ31_mergeLo_20 16 rfl rfl)
theorem dJ31_mergeLo_484 : decode cJ31_mergeLo 484 = .ok (.if_icmp .lt 7, 3) := dk_161 0 7 (dk_at dksJ31_mergeLo_20 18 rfl rfl)
theorem dJ31_mergeLo_487 : decode cJ31_mergeLo 487 = .ok (.iconst 1, 1) := dk_4 (dk_at dksJ31_mergeLo_20 21 rfl rfl)
theorem dJ31_mergeLo_488 : decode cJ31_mergeLo 488 = .ok (.goto 4, 3) := dk_167 0 4 (dk_at dksJ31_mergeLo_21 0 rfl rfl)
theorem dJ31_mergeLo_491 : decode cJ31_mergeLo 491 = .ok (.iconst 0, 1) := dk_3 (dk_at dksJ31_mergeLo_21 3 rfl rfl)
theorem dJ31_mergeLo_492 : decode cJ31_mergeLo 492 = .ok (.iload 12, 2) := dk_21 12 (dk_at dksJ31_mergeLo_21 4 rfl rfl)
theorem dJ31_mergeLo_494 : decode cJ31_mergeLo 494 = .ok (.bipush 7, 2) := dk_16 7 (dk_at dksJ31_mergeLo_21 6 rfl rfl)
theorem dJ31_mergeLo_496 : decode cJ31_mergeLo 496 = .ok (.if_icmp .lt 7, 3) := dk_161 0 7 (dk_at dksJ31_mergeLo_21 8 rfl rfl)
theorem dJ31_mergeLo_499 : decode cJ31_mergeLo 499 = .ok (.iconst 1, 1) := dk_4 (dk_at dksJ31_mergeLo_21 11 rfl rfl)
theorem dJ31_mergeLo_500 : decode cJ31_mergeLo 500 = .ok (.goto 4, 3) := dk_167 0 4 (dk_at dksJ31_mergeLo_21 12 rfl rfl)
theorem dJ31_mergeLo_503 : decode cJ31_mergeLo 503 = .ok (.iconst 0, 1) := dk_3 (dk_at dksJ31_mergeLo_21 15 rfl rfl)
theorem dJ31_mergeLo_504 : decode cJ31_mergeLo 504 = .ok (.ior, 1) := dk_128 (dk_at dksJ31_mergeLo_21 16 rfl rfl)
theorem dJ31_mergeLo_505 : decode cJ31_mergeLo 505 = .ok (.ifCond .ne (-237), 3) := dk_154 255 19 (dk_at dksJ31_mergeLo_21 17 rfl rfl)
theorem dJ31_mergeLo_508 : decode cJ31_mergeLo 508 = .ok (.iload 10, 2) := dk_21 10 (dk_at dksJ31_mergeLo_21 20 rfl rfl)
theorem dJ31_mergeLo_510 : decode cJ31_mergeLo 510 = .ok (.ifCond .ge 6, 3) := dk_156 0 6 (dk_at dksJ31_mergeLo_22 0 rfl rfl)
theorem dJ31_mergeLo_513 : decode cJ31_mergeLo 513 = .ok (.iconst 0, 1) := dk_3 (dk_at dksJ31_mergeLo_22 3 rfl rfl)
theorem dJ31_mergeLo_514 : decode cJ31_mergeLo 514 = .ok (.istore 10, 2) := dk_54 10 (dk_at dksJ31_mergeLo_22 4 rfl rfl)
theorem dJ31_mergeLo_516 : decode cJ31_mergeLo 516 = .ok (.iinc 10 2, 3) := dk_132 10 2 (dk_at dksJ31_mergeLo_22 6 rfl rfl)
theorem dJ31_mergeLo_519 : decode cJ31_mergeLo 519 = .ok (.goto (-378), 3) := dk_167 254 134 (dk_at dksJ31_mergeLo_22 9 rfl rfl)
theorem dJ31_mergeLo_522 : decode cJ31_mergeLo 522 = .ok (.aload_n 0, 1) := dk_42 (dk_at dksJ31_mergeLo_22 12 rfl rfl)
theorem dJ31_mergeLo_523 : decode cJ31_mergeLo 523 = .ok (.iload 10, 2) := dk_21 10 (dk_at dksJ31_mergeLo_22 13 rfl rfl)
theorem dJ31_mergeLo_525 : decode cJ31_mergeLo 525 = .ok (.iconst 1, 1) := dk_4 (dk_at dksJ31_mergeLo_22 15 rfl rfl)
theorem dJ31_mergeLo_526 : decode cJ31_mergeLo 526 = .ok (.if_icmp .ge 7, 3) := dk_162 0 7 (dk_at dksJ31_mergeLo_22 16 rfl rfl)
theorem dJ31_mergeLo_529 : decode cJ31_mergeLo 529 = .ok (.iconst 1, 1) := dk_4 (dk_at dksJ31_mergeLo_22 19 rfl rfl)
theorem dJ31_mergeLo_530 : decode cJ31_mergeLo 530 = .ok (.goto 5, 3) := dk_167 0 5 (dk_at dksJ31_mergeLo_22 20 rfl rfl)
theorem dJ31_mergeLo_533 : decode cJ31_mergeLo 533 = .ok (.iload 10, 2) := dk_21 10 (dk_at dksJ31_mergeLo_23 0 rfl rfl)
theorem dJ31_mergeLo_535 : decode cJ31_mergeLo 535 = .ok (.putfield 9, 3) := dk_181 0 9 (dk_at dksJ31_mergeLo_23 2 rfl rfl)
theorem dJ31_mergeLo_538 : decode cJ31_mergeLo 538 = .ok (.iload_n 2, 1) := dk_28 (dk_at dksJ31_mergeLo_23 5 rfl rfl)
theorem dJ31_mergeLo_539 : decode cJ31_mergeLo 539 = .ok (.iconst 1, 1) := dk_4 (dk_at dksJ31_mergeLo_23 6 rfl rfl)
theorem dJ31_mergeLo_540 : decode cJ31_mergeLo 540 = .ok (.if_icmp .ne 51, 3) := dk_160 0 51 (dk_at dksJ31_mergeLo_23 7 rfl rfl)
theorem dJ31_mergeLo_543 : decode cJ31_mergeLo 543 = .ok (.getstatic 37, 3) := dk_178 0 37 (dk_at dksJ31_mergeLo_23 10 rfl rfl)
theorem dJ31_mergeLo_546 : decode cJ31_mergeLo 546 = .ok (.ifCond .ne 16, 3) := dk_154 0 16 (dk_at dksJ31_mergeLo_23 13 rfl rfl)
theorem dJ31_mergeLo_549 : decode cJ31_mergeLo 549 = .ok (.iload 4, 2) := dk_21 4 (dk_at dksJ31_mergeLo_23 16 rfl rfl)
theorem dJ31_mergeLo_551 : decode cJ31_mergeLo 551 = .ok (.ifCond .gt 11, 3) := dk_157 0 11 (dk_at dksJ31_mergeLo_23 18 rfl rfl)
theorem dJ31_mergeLo_554 : decode cJ31_mergeLo 554 = .ok (.new 41, 3) := dk_187 0 41 (dk_at dksJ31_mergeLo_23 21 rfl rfl)
theorem dJ31_mergeLo_557 : decode cJ31_mergeLo 557 = .ok (.dup, 1) := dk_89 (dk_at dksJ31_mergeLo_24 0 rfl rfl)
theorem dJ31_mergeLo_558 : decode cJ31_mergeLo 558 = .ok (.invokespecial 43, 3) := dk_183 0 43 (dk_at dksJ31_mergeLo_24 1 rfl rfl)
theorem dJ31_mergeLo_561 : decode cJ31_mergeLo 561 = .ok (.athrow, 1) := dk_191 (dk_at dksJ31_mergeLo_24 4 rfl rfl)
theorem dJ31_mergeLo_562 : decode cJ31_mergeLo 562 = .ok (.aload 5, 2) := dk_25 5 (dk_at dksJ31_mergeLo_24 5 rfl rfl)
theorem dJ31_mergeLo_564 : decode cJ31_mergeLo 564 = .ok (.iload 8, 2) := dk_21 8 (dk_at dksJ31_mergeLo_24 7 rfl rfl)
theorem dJ31_mergeLo_566 : decode cJ31_mergeLo 566 = .ok (.aload 5, 2) := dk_25 5 (dk_at dksJ31_mergeLo_24 9 rfl rfl)
theorem dJ31_mergeLo_568 : decode cJ31_mergeLo 568 = .ok (.iload 9, 2) := dk_21 9 (dk_at dksJ31_mergeLo_24 11 rfl rfl)
theorem dJ31_mergeLo_570 : decode cJ31_mergeLo 570 = .ok (.iload 4, 2) := dk_21 4 (dk_at dksJ31_mergeLo_24 13 rfl rfl)
theorem dJ31_mergeLo_572 : decode cJ31_mergeLo 572 = .ok (.invokestatic 75, 3) := dk_184 0 75 (dk_at dksJ31_mergeLo_24 15 rfl rfl)
theorem dJ31_mergeLo_575 : decode cJ31_mergeLo 575 = .ok (.aload 5, 2) := dk_25 5 (dk_at dksJ31_mergeLo_24 18 rfl rfl)
theorem dJ31_mergeLo_577 : decode cJ31_mergeLo 577 = .ok (.iload 9, 2) := dk_21 9 (dk_at dksJ31_mergeLo_24 20 rfl rfl)
theorem dJ31_mergeLo_579 : decode cJ31_mergeLo 579 = .ok (.iload 4, 2) := dk_21 4 (dk_at dksJ31_mergeLo_24 22 rfl rfl)
theorem dJ31_mergeLo_581 : decode cJ31_mergeLo 581 = .ok (.iadd, 1) := dk_96 (dk_at dksJ31_mergeLo_25 0 rfl rfl)
theorem dJ31_mergeLo_582 : decode cJ31_mergeLo 582 = .ok (.aload 6, 2) := dk_25 6 (dk_at dksJ31_mergeLo_25 1 rfl rfl)
theorem dJ31_mergeLo_584 : decode cJ31_mergeLo 584 = .ok (.iload 7, 2) := dk_21 7 (dk_at dksJ31_mergeLo_25 3 rfl rfl)
theorem dJ31_mergeLo_586 : decode cJ31_mergeLo 586 = .ok (.aaload, 1) := dk_50 (dk_at dksJ31_mergeLo_25 5 rfl rfl)
theorem dJ31_mergeLo_587 : decode cJ31_mergeLo 587 = .ok (.aastore, 1) := dk_83 (dk_at dksJ31_mergeLo_25 6 rfl rfl)
theorem dJ31_mergeLo_588 : decode cJ31_mergeLo 588 = .ok (.goto 67, 3) := dk_167 0 67 (dk_at dksJ31_mergeLo_25 7 rfl rfl)
theorem dJ31_mergeLo_591 : decode cJ31_mergeLo 591 = .ok (.iload_n 2, 1) := dk_28 (dk_at dksJ31_mergeLo_25 10 rfl rfl)
theorem dJ31_mergeLo_592 : decode cJ31_mergeLo 592 = .ok (.ifCond .ne 13, 3) := dk_154 0 13 (dk_at dksJ31_mergeLo_25 11 rfl rfl)
theorem dJ31_mergeLo_595 : decode cJ31_mergeLo 595 = .ok (.new 107, 3) := dk_187 0 107 (dk_at dksJ31_mergeLo_25 14 rfl rfl)
theorem dJ31_mergeLo_598 : decode cJ31_mergeLo 598 = .ok (.dup, 1) := dk_89 (dk_at dksJ31_mergeLo_25 17 rfl rfl)
theorem dJ31_mergeLo_599 : decode cJ31_mergeLo 599 = .ok (.ldc 109, 2) := dk_18 109 (dk_at dksJ31_mergeLo_25 18 rfl rfl)
theorem dJ31_mergeLo_601 : decode cJ31_mergeLo 601 = .ok (.invokespecial 111, 3) := dk_183 0 111 (dk_at dksJ31_mergeLo_25 20 rfl rfl)
theorem dJ31_mergeLo_604 : decode cJ31_mergeLo 604 = .ok (.athrow, 1) := dk_191 (dk_at dksJ31_mergeLo_25 23 rfl rfl)
theorem dJ31_mergeLo_605 : decode cJ31_mergeLo 605 = .ok (.getstatic 37, 3) := dk_178 0 37 (dk_at dksJ31_mergeLo_26 0 rfl rfl)
theorem dJ31_mergeLo_608 : decode cJ31_mergeLo 608 = .ok (.ifCond .ne 16, 3) := dk_154 0 16 (dk_at dksJ31_mergeLo_26 3 rfl rfl)
theorem dJ31_mergeLo_611 : decode cJ31_mergeLo 611 = .ok (.iload 4, 2) := dk_21 4 (dk_at dksJ31_mergeLo_26 6 rfl rfl)
theorem dJ31_mergeLo_613 : decode cJ31_mergeLo 613 = .ok (.ifCond .eq 11, 3) := dk_153 0 11 (dk_at dksJ31_mergeLo_26 8 rfl rfl)
theorem dJ31_mergeLo_616 : decode cJ31_mergeLo 616 = .ok (.new 41, 3) := dk_187 0 41 (dk_at dksJ31_mergeLo_26 11 rfl rfl)
theorem dJ31_mergeLo_619 : decode cJ31_mergeLo 619 = .ok (.dup, 1) := dk_89 (dk_at dksJ31_mergeLo_26 14 rfl rfl)
theorem dJ31_mergeLo_620 : decode cJ31_mergeLo 620 = .ok (.invokespecial 43, 3) := dk_183 0 43 (dk_at dksJ31_mergeLo_26 15 rfl rfl)
theorem dJ31_mergeLo_623 : decode cJ31_mergeLo 623 = .ok (.athrow, 1) := dk_191 (dk_at dksJ31_mergeLo_26 18 rfl rfl)
theorem dJ31_mergeLo_624 : decode cJ31_mergeLo 624 = .ok (.getstatic 37, 3) := dk_178 0 37 (dk_at dksJ31_mergeLo_26 19 rfl rfl)
theorem dJ31_mergeLo_627 : decode cJ31_mergeLo 627 = .ok (.ifCond .ne 16, 3) := dk_154 0 16 (dk_at dksJ31_mergeLo_27 0 rfl rfl)
theorem dJ31_mergeLo_630 : decode cJ31_mergeLo 630 = .ok (.iload_n 2, 1) := dk_28 (dk_at dksJ31_mergeLo_27 3 rfl rfl)
theorem dJ31_mergeLo_631 : decode cJ31_mergeLo 631 = .ok (.iconst 1, 1) := dk_4 (dk_at dksJ31_mergeLo_27 4 rfl rfl)
theorem dJ31_mergeLo_632 : decode cJ31_mergeLo 632 = .ok (.if_icmp .gt 11, 3) := dk_163 0 11 (dk_at dksJ31_mergeLo_27 5 rfl rfl)
theorem dJ31_mergeLo_635 : decode cJ31_mergeLo 635 = .ok (.new 41, 3) := dk_187 0 41 (dk_at dksJ31_mergeLo_27 8 rfl rfl)
theorem dJ31_mergeLo_638 : decode cJ31_mergeLo 638 = .ok (.dup, 1) := dk_89 (dk_at dksJ31_mergeLo_27 11 rfl rfl)
theorem dJ31_mergeLo_639 : decode cJ31_mergeLo 639 = .ok (.invokespecial 43, 3) := dk_183 0 43 (dk_at dksJ31_mergeLo_27 12 rfl rfl)
theorem dJ31_mergeLo_642 : decode cJ31_mergeLo 642 = .ok (.athrow, 1) := dk_191 (dk_at dksJ31_mergeLo_27 15 rfl rfl)
theorem dJ31_mergeLo_643 : decode cJ31_mergeLo 643 = .ok (.aload 6, 2) := dk_25 6 (dk_at dksJ31_mergeLo_27 16 rfl rfl)
theorem dJ31_mergeLo_645 : decode cJ31_mergeLo 645 = .ok (.iload 7, 2) := dk_21 7 (dk_at dksJ31_mergeLo_27 18 rfl rfl)
theorem dJ31_mergeLo_647 : decode cJ31_mergeLo 647 = .ok (.aload 5, 2) := dk_25 5 (dk_at dksJ31_mergeLo_27 20 rfl rfl)
theorem dJ31_mergeLo_649 : decode cJ31_mergeLo 649 = .ok (.iload 9, 2) := dk_21 9 (dk_at dksJ31_mergeLo_27 22 rfl rfl)
theorem dJ31_mergeLo_651 : decode cJ31_mergeLo 651 = .ok (.iload_n 2, 1) := dk_28 (dk_at dksJ31_mergeLo_28 0 rfl rfl)
theorem dJ31_mergeLo_652 : decode cJ31_mergeLo 652 = .ok (.invokestatic 75, 3) := dk_184 0 75 (dk_at dksJ31_mergeLo_28 1 rfl rfl)
theorem dJ31_mergeLo_655 : decode cJ31_mergeLo 655 = .ok (.return_, 1) := dk_177 (dk_at dksJ31_mergeLo_28 4 rfl rfl)
theorem c72009 : jtCode 72009 = cJ31_mergeLo := rfl
theorem F72009_0 (d : Nat) (a0 : Nat) (i1 : Int32) (i2 : Int32) (i3 : Int32) (i4 : Int32) (h : AH) : G2 d 72009 0 [.ref a0, .int i1, .int i2, .int i3, .int i4, jno, jno, jno, jno, jno, jno, jno, jno] [] h = if (1 : Int32) = 0 then (if i2 ≤ 0 then (G2 d 72009 22 [.ref a0, .int i1, .int i2, .int i3, .int i4, jno, jno, jno, jno, jno, jno, jno, jno] [] h) else (if i4 ≤ 0 then (G2 d 72009 22 [.ref a0, .int i1, .int i2, .int i3, .int i4, jno, jno, jno, jno, jno, jno, jno, jno] [] h) else (if (i1 + i2) = i3 then (G2 d 72009 30 [.ref a0, .int i1, .int i2, .int i3, .int i4, jno, jno, jno, jno, jno, jno, jno, jno] [] h) else (G2 d 72009 22 [.ref a0, .int i1, .int i2, .int i3, .int i4, jno, jno, jno, jno, jno, jno, jno, jno] [] h)))) else (G2 d 72009 30 [.ref a0, .int i1, .int i2, .int i3, .int i4, jno, jno, jno, jno, jno, jno, jno, jno] [] h) := by
  refine (g_getsIH (x := 1) c72009 dJ31_mergeLo_0 rfl rfl).trans ?_
  refine (g_if_neH (tgt := 30) c72009 dJ31_mergeLo_3 rfl).trans (if_cg ?_ ?_)
  · skip
    refine (g_iload_nH c72009 dJ31_mergeLo_6 rfl).trans ?_
    refine (g_if_leH (tgt := 22) c72009 dJ31_mergeLo_7 rfl).trans (if_cg ?_ ?_)
    · skip
      rfl
    · skip
      refine (g_iloadH c72009 dJ31_mergeLo_10 rfl).trans ?_
      refine (g_if_leH (tgt := 22) c72009 dJ31_mergeLo_12 rfl).trans (if_cg ?_ ?_)
      · skip
        rfl
      · skip
        refine (g_iload_nH c72009 dJ31_mergeLo_15 rfl).trans ?_
        refine (g_iload_nH c72009 dJ31_mergeLo_16 rfl).trans ?_
        refine (g_iaddH c72009 dJ31_mergeLo_17).trans ?_
        refine (g_iload_nH c72009 dJ31_mergeLo_18 rfl).trans ?_
        refine (g_icmp_eqH (tgt := 30) c72009 dJ31_mergeLo_19 rfl).trans (if_cg ?_ ?_)
        · skip
          rfl
        · skip
          rfl
  · skip
    rfl
theorem F72009_30 (d : Nat) (a0 : Nat) (i1 : Int32) (i2 : Int32) (i3 : Int32) (i4 : Int32) (h : AH) : G2 d 72009 30 [.ref a0, .int i1, .int i2, .int i3, .int i4, jno, jno, jno, jno, jno, jno, jno, jno] [] h = zpR (jf (jc h (.ref a0)) [72] 0) (fun r1 => zkR r1 (zcR (M2 d 72002 [.ref a0, .int i2] h) (fun r2 h3 => zkR r2 (zpI (jf (jc h3 (.ref a0)) [72] 3) (fun x4 => zkR r1 (zkR r2 (zcV (M2 d 90001 [r1, .int i1, r2, .int x4, .int i2] h3) (fun h6 => zkR r1 (zkR r1 (zqG h6 r1 [1040, 1041, 1050, 1060, 1071] i3 (fun w7 => zpR w7 (fun r8 => zqA h6 r1 r8 i1 (fun h9 => if (i4 + (-1)) = 0 then (zkR r2 (zkR r1 (zcV (M2 d 90001 [r2, .int x4, r1, .int (i1 + 1), .int i2] h9) (fun h11 => some (.inl none, h11)) ()) ()) ()) else (if i2 = 1 then (zkR r1 (zkR r1 (zcV (M2 d 90001 [r1, .int (i3 + 1), r1, .int (i1 + 1), .int (i4 + (-1))] h9) (fun h13 => zkR r1 (zkR r2 (zqG h13 r2 [1040, 1041, 1050, 1060, 1071] x4 (fun w14 => zpR w14 (fun r15 => zqA h13 r1 r15 ((i1 + 1) + (i4 + (-1))) (fun h16 => some (.inl none, h16)) ()) ()) ()) ()) ()) ()) ()) ()) else (zpI (jf (jc h9 (.ref a0)) [72] 1) (fun x17 => G2 d 72009 141 [.ref a0, .int i1, .int i2, .int i3, .int (i4 + (-1)), r1, r2, .int x4, .int (i3 + 1), .int (i1 + 1), .int x17, jno, jno] [] h9) ()))) ()) ()) ()) ()) ()) ()) ()) ()) ()) ()) ()) ()) () := by
  refine (g_aload_nH c72009 dJ31_mergeLo_30 rfl).trans ?_
  refine (g_getRH c72009 dJ31_mergeLo_31 rfl).trans (rR_cg fun r1 => ?_)
  refine (g_astoreVH (L' := [.ref a0, .int i1, .int i2, .int i3, .int i4, r1, jno, jno, jno, jno, jno, jno, jno]) c72009 dJ31_mergeLo_34 rfl rfl).trans (ckR_cg ?_)
  refine (g_aload_nH c72009 dJ31_mergeLo_36 rfl).trans ?_
  refine (g_iload_nH c72009 dJ31_mergeLo_37 rfl).trans ?_
  refine (g_virtualH (as := [.ref a0, .int i2]) (rest := []) c72009 dJ31_mergeLo_38 rfl rfl rfl rfl rfl).trans ((jback_RH (κx := cX) (fun e h => jthrow_outH rfl)).trans (cR_cg fun r2 h3 => ?_))
  refine (g_astoreVH (L' := [.ref a0, .int i1, .int i2, .int i3, .int i4, r1, r2, jno, jno, jno, jno, jno, jno]) c72009 dJ31_mergeLo_41 rfl rfl).trans (ckR_cg ?_)
  refine (g_aload_nH c72009 dJ31_mergeLo_43 rfl).trans ?_
  refine (g_getIH c72009 dJ31_mergeLo_44 rfl rfl).trans (rI_cg fun x4 => ?_)
  refine (g_istoreH (L' := [.ref a0, .int i1, .int i2, .int i3, .int i4, r1, r2, .int x4, jno, jno, jno, jno, jno]) c72009 dJ31_mergeLo_47 rfl rfl).trans ?_
  refine (g_iload_nH c72009 dJ31_mergeLo_49 rfl).trans ?_
  refine (g_istoreH (L' := [.ref a0, .int i1, .int i2, .int i3, .int i4, r1, r2, .int x4, .int i3, jno, jno, jno, jno]) c72009 dJ31_mergeLo_50 rfl rfl).trans ?_
  refine (g_iload_nH c72009 dJ31_mergeLo_52 rfl).trans ?_
  refine (g_istoreH (L' := [.ref a0, .int i1, .int i2, .int i3, .int i4, r1, r2, .int x4, .int i3, .int i1, jno, jno, jno]) c72009 dJ31_mergeLo_53 rfl rfl).trans ?_
  refine (g_aloadVH c72009 dJ31_mergeLo_55 rfl).trans (ckR_cg ?_)
  refine (g_iload_nH c72009 dJ31_mergeLo_57 rfl).trans ?_
  refine (g_aloadVH c72009 dJ31_mergeLo_58 rfl).trans (ckR_cg ?_)
  refine (g_iloadH c72009 dJ31_mergeLo_60 rfl).trans ?_
  refine (g_iload_nH c72009 dJ31_mergeLo_62 rfl).trans ?_
  refine (g_staticH (as := [r1, .int i1, r2, .int x4, .int i2]) (rest := []) c72009 dJ31_mergeLo_63 rfl rfl rfl rfl rfl).trans ((jback_VH (κx := cX) (fun e h => jthrow_outH rfl)).trans (cV_cg fun h6 => ?_))
  refine (g_aloadVH c72009 dJ31_mergeLo_66 rfl).trans (ckR_cg ?_)
  refine (g_iloadH c72009 dJ31_mergeLo_68 rfl).trans ?_
  refine (g_iincH (c := 1) (L' := [.ref a0, .int i1, .int i2, .int i3, .int i4, r1, r2, .int x4, .int i3, .int (i1 + 1), jno, jno, jno]) c72009 dJ31_mergeLo_70 rfl rfl rfl rfl).trans ?_
  refine (g_aloadVH c72009 dJ31_mergeLo_73 rfl).trans (ckR_cg ?_)
  refine (g_iloadH c72009 dJ31_mergeLo_75 rfl).trans ?_
  refine (g_iincH (c := 1) (L' := [.ref a0, .int i1, .int i2, .int i3, .int i4, r1, r2, .int x4, .int (i3 + 1), .int (i1 + 1), jno, jno, jno]) c72009 dJ31_mergeLo_77 rfl rfl rfl rfl).trans ?_
  refine (g_aaloadH c72009 dJ31_mergeLo_80).trans (aG_cg fun w7 => rR_cg fun r8 => ?_)
  refine (g_aastoreH c72009 dJ31_mergeLo_81).trans (aSr_cg fun h9 => ?_)
  refine (g_iincH (c := (-1)) (L' := [.ref a0, .int i1, .int i2, .int i3, .int (i4 + (-1)), r1, r2, .int x4, .int (i3 + 1), .int (i1 + 1), jno, jno, jno]) c72009 dJ31_mergeLo_82 rfl rfl rfl rfl).trans ?_
  refine (g_iloadH c72009 dJ31_mergeLo_85 rfl).trans ?_
  refine (g_if_neH (tgt := 103) c72009 dJ31_mergeLo_87 rfl).trans (if_cg ?_ ?_)
  · skip
    refine (g_aloadVH c72009 dJ31_mergeLo_90 rfl).trans (ckR_cg ?_)
    refine (g_iloadH c72009 dJ31_mergeLo_92 rfl).trans ?_
    refine (g_aloadVH c72009 dJ31_mergeLo_94 rfl).trans (ckR_cg ?_)
    refine (g_iloadH c72009 dJ31_mergeLo_96 rfl).trans ?_
    refine (g_iload_nH c72009 dJ31_mergeLo_98 rfl).trans ?_
    refine (g_staticH (as := [r2, .int x4, r1, .int (i1 + 1), .int i2]) (rest := []) c72009 dJ31_mergeLo_99 rfl rfl rfl rfl rfl).trans ((jback_VH (κx := cX) (fun e h => jthrow_outH rfl)).trans (cV_cg fun h11 => ?_))
    exact g_returnH c72009 dJ31_mergeLo_102 rfl
  · skip
    refine (g_iload_nH c72009 dJ31_mergeLo_103 rfl).trans ?_
    refine (g_iconstH (x := 1) c72009 dJ31_mergeLo_104 rfl).trans ?_
    refine (g_icmp_neH (tgt := 135) c72009 dJ31_mergeLo_105 rfl).trans (if_cg ?_ ?_)
    · skip
      refine (g_aloadVH c72009 dJ31_mergeLo_108 rfl).trans (ckR_cg ?_)
      refine (g_iloadH c72009 dJ31_mergeLo_110 rfl).trans ?_
      refine (g_aloadVH c72009 dJ31_mergeLo_112 rfl).trans (ckR_cg ?_)
      refine (g_iloadH c72009 dJ31_mergeLo_114 rfl).trans ?_
      refine (g_iloadH c72009 dJ31_mergeLo_116 rfl).trans ?_
      refine (g_staticH (as := [r1, .int (i3 + 1), r1, .int (i1 + 1), .int (i4 + (-1))]) (rest := []) c72009 dJ31_mergeLo_118 rfl rfl rfl rfl rfl).trans ((jback_VH (κx := cX) (fun e h => jthrow_outH rfl)).trans (cV_cg fun h13 => ?_))
      refine (g_aloadVH c72009 dJ31_mergeLo_121 rfl).trans (ckR_cg ?_)
      refine (g_iloadH c72009 dJ31_mergeLo_123 rfl).trans ?_
      refine (g_iloadH c72009 dJ31_mergeLo_125 rfl).trans ?_
      refine (g_iaddH c72009 dJ31_mergeLo_127).trans ?_
      refine (g_aloadVH c72009 dJ31_mergeLo_128 rfl).trans (ckR_cg ?_)
      refine (g_iloadH c72009 dJ31_mergeLo_130 rfl).trans ?_
      refine (g_aaloadH c72009 dJ31_mergeLo_132).trans (aG_cg fun w14 => rR_cg fun r15 => ?_)
      refine (g_aastoreH c72009 dJ31_mergeLo_133).trans (aSr_cg fun h16 => ?_)
      exact g_returnH c72009 dJ31_mergeLo_134 rfl
    · skip
      refine (g_aload_nH c72009 dJ31_mergeLo_135 rfl).trans ?_
      refine (g_getIH c72009 dJ31_mergeLo_136 rfl rfl).trans (rI_cg fun x17 => ?_)
      refine (g_istoreH (L' := [.ref a0, .int i1, .int i2, .int i3, .int (i4 + (-1)), r1, r2, .int x4, .int (i3 + 1), .int (i1 + 1), .int x17, jno, jno]) c72009 dJ31_mergeLo_139 rfl rfl).trans ?_
      rfl
theorem F72009_141 (d : Nat) (a0 : Nat) (i1 : Int32) (i2 : Int32) (i3 : Int32) (i4 : Int32) (v5 : Value) (v6 : Value) (i7 : Int32) (i8 : Int32) (i9 : Int32) (i10 : Int32) (v11 : Value) (v12 : Value) (h : AH) : G2 d 72009 141 [.ref a0, .int i1, .int i2, .int i3, .int i4, v5, v6, .int i7, .int i8, .int i9, .int i10, v11, v12] [] h = G2 d 72009 147 [.ref a0, .int i1, .int i2, .int i3, .int i4, v5, v6, .int i7, .int i8, .int i9, .int i10, .int 0, .int 0] [] h := by
  refine (g_iconstH (x := 0) c72009 dJ31_mergeLo_141 rfl).trans ?_
  refine (g_istoreH (L' := [.ref a0, .int i1, .int i2, .int i3, .int i4, v5, v6, .int i7, .int i8, .int i9, .int i10, .int 0, v12]) c72009 dJ31_mergeLo_142 rfl rfl).trans ?_
  refine (g_iconstH (x := 0) c72009 dJ31_mergeLo_144 rfl).trans ?_
  refine (g_istoreH (L' := [.ref a0, .int i1, .int i2, .int i3, .int i4, v5, v6, .int i7, .int i8, .int i9, .int i10, .int 0, .int 0]) c72009 dJ31_mergeLo_145 rfl rfl).trans ?_
  rfl
theorem F72009_147 (d : Nat) (a0 : Nat) (i1 : Int32) (i2 : Int32) (i3 : Int32) (i4 : Int32) (v5 : Value) (v6 : Value) (i7 : Int32) (i8 : Int32) (i9 : Int32) (i10 : Int32) (i11 : Int32) (i12 : Int32) (h : AH) : G2 d 72009 147 [.ref a0, .int i1, .int i2, .int i3, .int i4, v5, v6, .int i7, .int i8, .int i9, .int i10, .int i11, .int i12] [] h = if (1 : Int32) = 0 then (if i2 ≤ 1 then (G2 d 72009 163 [.ref a0, .int i1, .int i2, .int i3, .int i4, v5, v6, .int i7, .int i8, .int i9, .int i10, .int i11, .int i12] [] h) else (if 0 < i4 then (G2 d 72009 171 [.ref a0, .int i1, .int i2, .int i3, .int i4, v5, v6, .int i7, .int i8, .int i9, .int i10, .int i11, .int i12] [] h) else (G2 d 72009 163 [.ref a0, .int i1, .int i2, .int i3, .int i4, v5, v6, .int i7, .int i8, .int i9, .int i10, .int i11, .int i12] [] h))) else (G2 d 72009 171 [.ref a0, .int i1, .int i2, .int i3, .int i4, v5, v6, .int i7, .int i8, .int i9, .int i10, .int i11, .int i12] [] h) := by
  refine (g_getsIH (x := 1) c72009 dJ31_mergeLo_147 rfl rfl).trans ?_
  refine (g_if_neH (tgt := 171) c72009 dJ31_mergeLo_150 rfl).trans (if_cg ?_ ?_)
  · skip
    refine (g_iload_nH c72009 dJ31_mergeLo_153 rfl).trans ?_
    refine (g_iconstH (x := 1) c72009 dJ31_mergeLo_154 rfl).trans ?_
    refine (g_icmp_leH (tgt := 163) c72009 dJ31_mergeLo_155 rfl).trans (if_cg ?_ ?_)
    · skip
      rfl
    · skip
      refine (g_iloadH c72009 dJ31_mergeLo_158 rfl).trans ?_
      refine (g_if_gtH (tgt := 171) c72009 dJ31_mergeLo_160 rfl).trans (if_cg ?_ ?_)
      · skip
        rfl
      · skip
        rfl
  · skip
    rfl
theorem F72009_171 (d : Nat) (a0 : Nat) (i1 : Int32) (i2 : Int32) (i3 : Int32) (i4 : Int32) (v5 : Value) (v6 : Value) (i7 : Int32) (i8 : Int32) (i9 : Int32) (i10 : Int32) (i11 : Int32) (i12 : Int32) (h : AH) : G2 d 72009 171 [.ref a0, .int i1, .int i2, .int i3, .int i4, v5, v6, .int i7, .int i8, .int i9, .int i10, .int i11, .int i12] [] h = zkR v5 (zqG h v5 [1040, 1041, 1050, 1060, 1071] i8 (fun w1 => zpR w1 (fun r2 => zqK h r2 [24, 49, 50, 62, 150, 162] (zkR v6 (zqG h v6 [1040, 1041, 1050, 1060, 1071] i7 (fun w3 => zpR w3 (fun r4 => zcI (MvH d 9147 [r2, r4] h) (fun x5 h6 => if 0 ≤ x5 then (zkR v5 (zkR v6 (zqG h6 v6 [1040, 1041, 1050, 1060, 1071] i7 (fun w7 => zpR w7 (fun r8 => zqA h6 v5 r8 i9 (fun h9 => if (i2 + (-1)) = 1 then (if 1 ≤ i10 then (G2 d 72009 535 [.ref a0, .int i1, .int (i2 + (-1)), .int i3, .int i4, v5, v6, .int (i7 + 1), .int i8, .int (i9 + 1), .int i10, .int (i11 + 1), .int 0] [.int i10, .ref a0] h9) else (G2 d 72009 535 [.ref a0, .int i1, .int (i2 + (-1)), .int i3, .int i4, v5, v6, .int (i7 + 1), .int i8, .int (i9 + 1), .int i10, .int (i11 + 1), .int 0] [.int 1, .ref a0] h9)) else (if ((i11 + 1) ||| 0) < i10 then (G2 d 72009 147 [.ref a0, .int i1, .int (i2 + (-1)), .int i3, .int i4, v5, v6, .int (i7 + 1), .int i8, .int (i9 + 1), .int i10, .int (i11 + 1), .int 0] [] h9) else (G2 d 72009 268 [.ref a0, .int i1, .int (i2 + (-1)), .int i3, .int i4, v5, v6, .int (i7 + 1), .int i8, .int (i9 + 1), .int i10, .int (i11 + 1), .int 0] [] h9))) ()) ()) ()) ()) ()) else (zkR v5 (zkR v5 (zqG h6 v5 [1040, 1041, 1050, 1060, 1071] i8 (fun w10 => zpR w10 (fun r11 => zqA h6 v5 r11 i9 (fun h12 => if (i4 + (-1)) = 0 then (if 1 ≤ i10 then (G2 d 72009 535 [.ref a0, .int i1, .int i2, .int i3, .int (i4 + (-1)), v5, v6, .int i7, .int (i8 + 1), .int (i9 + 1), .int i10, .int 0, .int (i12 + 1)] [.int i10, .ref a0] h12) else (G2 d 72009 535 [.ref a0, .int i1, .int i2, .int i3, .int (i4 + (-1)), v5, v6, .int i7, .int (i8 + 1), .int (i9 + 1), .int i10, .int 0, .int (i12 + 1)] [.int 1, .ref a0] h12)) else (if (0 ||| (i12 + 1)) < i10 then (G2 d 72009 147 [.ref a0, .int i1, .int i2, .int i3, .int (i4 + (-1)), v5, v6, .int i7, .int (i8 + 1), .int (i9 + 1), .int i10, .int 0, .int (i12 + 1)] [] h12) else (G2 d 72009 268 [.ref a0, .int i1, .int i2, .int i3, .int (i4 + (-1)), v5, v6, .int i7, .int (i8 + 1), .int (i9 + 1), .int i10, .int 0, .int (i12 + 1)] [] h12))) ()) ()) ()) ()) ())) ()) ()) ()) ()) ()) ()) ()) () := by
  refine (g_aloadVH c72009 dJ31_mergeLo_171 rfl).trans (ckR_cg ?_)
  refine (g_iloadH c72009 dJ31_mergeLo_173 rfl).trans ?_
  refine (g_aaloadH c72009 dJ31_mergeLo_175).trans (aG_cg fun w1 => rR_cg fun r2 => ?_)
  refine (g_castH c72009 dJ31_mergeLo_176 rfl).trans (cK_cg ?_)
  refine (g_aloadVH c72009 dJ31_mergeLo_179 rfl).trans (ckR_cg ?_)
  refine (g_iloadH c72009 dJ31_mergeLo_181 rfl).trans ?_
  refine (g_aaloadH c72009 dJ31_mergeLo_183).trans (aG_cg fun w3 => rR_cg fun r4 => ?_)
  refine (g_faceH (as := [r2, r4]) (rest := []) c72009 dJ31_mergeLo_184 rfl rfl rfl rfl rfl).trans ((jback_IH (κx := cX) (fun e h => jthrow_outH rfl)).trans (cI_cg fun x5 h6 => ?_))
  refine (g_if_geH (tgt := 225) c72009 dJ31_mergeLo_189 rfl).trans (if_cg ?_ ?_)
  · skip
    refine (g_aloadVH c72009 dJ31_mergeLo_225 rfl).trans (ckR_cg ?_)
    refine (g_iloadH c72009 dJ31_mergeLo_227 rfl).trans ?_
    refine (g_iincH (c := 1) (L' := [.ref a0, .int i1, .int i2, .int i3, .int i4, v5, v6, .int i7, .int i8, .int (i9 + 1), .int i10, .int i11, .int i12]) c72009 dJ31_mergeLo_229 rfl rfl rfl rfl).trans ?_
    refine (g_aloadVH c72009 dJ31_mergeLo_232 rfl).trans (ckR_cg ?_)
    refine (g_iloadH c72009 dJ31_mergeLo_234 rfl).trans ?_
    refine (g_iincH (c := 1) (L' := [.ref a0, .int i1, .int i2, .int i3, .int i4, v5, v6, .int (i7 + 1), .int i8, .int (i9 + 1), .int i10, .int i11, .int i12]) c72009 dJ31_mergeLo_236 rfl rfl rfl rfl).trans ?_
    refine (g_aaloadH c72009 dJ31_mergeLo_239).trans (aG_cg fun w7 => rR_cg fun r8 => ?_)
    refine (g_aastoreH c72009 dJ31_mergeLo_240).trans (aSr_cg fun h9 => ?_)
    refine (g_iincH (c := 1) (L' := [.ref a0, .int i1, .int i2, .int i3, .int i4, v5, v6, .int (i7 + 1), .int i8, .int (i9 + 1), .int i10, .int (i11 + 1), .int i12]) c72009 dJ31_mergeLo_241 rfl rfl rfl rfl).trans ?_
    refine (g_iconstH (x := 0) c72009 dJ31_mergeLo_244 rfl).trans ?_
    refine (g_istoreH (L' := [.ref a0, .int i1, .int i2, .int i3, .int i4, v5, v6, .int (i7 + 1), .int i8, .int (i9 + 1), .int i10, .int (i11 + 1), .int 0]) c72009 dJ31_mergeLo_245 rfl rfl).trans ?_
    refine (g_iincH (c := (-1)) (L' := [.ref a0, .int i1, .int (i2 + (-1)), .int i3, .int i4, v5, v6, .int (i7 + 1), .int i8, .int (i9 + 1), .int i10, .int (i11 + 1), .int 0]) c72009 dJ31_mergeLo_247 rfl rfl rfl rfl).trans ?_
    refine (g_iload_nH c72009 dJ31_mergeLo_250 rfl).trans ?_
    refine (g_iconstH (x := 1) c72009 dJ31_mergeLo_251 rfl).trans ?_
    refine (g_icmp_neH (tgt := 258) c72009 dJ31_mergeLo_252 rfl).trans (if_cg ?_ ?_)
    · skip
      refine (g_gotoH (tgt := 522) c72009 dJ31_mergeLo_255 rfl).trans ?_
      refine (g_aload_nH c72009 dJ31_mergeLo_522 rfl).trans ?_
      refine (g_iloadH c72009 dJ31_mergeLo_523 rfl).trans ?_
      refine (g_iconstH (x := 1) c72009 dJ31_mergeLo_525 rfl).trans ?_
      refine (g_icmp_geH (tgt := 533) c72009 dJ31_mergeLo_526 rfl).trans (if_cg ?_ ?_)
      · skip
        refine (g_iloadH c72009 dJ31_mergeLo_533 rfl).trans ?_
        rfl
      · skip
        refine (g_iconstH (x := 1) c72009 dJ31_mergeLo_529 rfl).trans ?_
        refine (g_gotoH (tgt := 535) c72009 dJ31_mergeLo_530 rfl).trans ?_
        rfl
    · skip
      refine (g_iloadH c72009 dJ31_mergeLo_258 rfl).trans ?_
      refine (g_iloadH c72009 dJ31_mergeLo_260 rfl).trans ?_
      refine (g_iorH c72009 dJ31_mergeLo_262).trans ?_
      refine (g_iloadH c72009 dJ31_mergeLo_263 rfl).trans ?_
      refine (g_icmp_ltH (tgt := 147) c72009 dJ31_mergeLo_265 rfl).trans (if_cg ?_ ?_)
      · skip
        rfl
      · skip
        rfl
  · skip
    refine (g_aloadVH c72009 dJ31_mergeLo_192 rfl).trans (ckR_cg ?_)
    refine (g_iloadH c72009 dJ31_mergeLo_194 rfl).trans ?_
    refine (g_iincH (c := 1) (L' := [.ref a0, .int i1, .int i2, .int i3, .int i4, v5, v6, .int i7, .int i8, .int (i9 + 1), .int i10, .int i11, .int i12]) c72009 dJ31_mergeLo_196 rfl rfl rfl rfl).trans ?_
    refine (g_aloadVH c72009 dJ31_mergeLo_199 rfl).trans (ckR_cg ?_)
    refine (g_iloadH c72009 dJ31_mergeLo_201 rfl).trans ?_
    refine (g_iincH (c := 1) (L' := [.ref a0, .int i1, .int i2, .int i3, .int i4, v5, v6, .int i7, .int (i8 + 1), .int (i9 + 1), .int i10, .int i11, .int i12]) c72009 dJ31_mergeLo_203 rfl rfl rfl rfl).trans ?_
    refine (g_aaloadH c72009 dJ31_mergeLo_206).trans (aG_cg fun w10 => rR_cg fun r11 => ?_)
    refine (g_aastoreH c72009 dJ31_mergeLo_207).trans (aSr_cg fun h12 => ?_)
    refine (g_iincH (c := 1) (L' := [.ref a0, .int i1, .int i2, .int i3, .int i4, v5, v6, .int i7, .int (i8 + 1), .int (i9 + 1), .int i10, .int i11, .int (i12 + 1)]) c72009 dJ31_mergeLo_208 rfl rfl rfl rfl).trans ?_
    refine (g_iconstH (x := 0) c72009 dJ31_mergeLo_211 rfl).trans ?_
    refine (g_istoreH (L' := [.ref a0, .int i1, .int i2, .int i3, .int i4, v5, v6, .int i7, .int (i8 + 1), .int (i9 + 1), .int i10, .int 0, .int (i12 + 1)]) c72009 dJ31_mergeLo_212 rfl rfl).trans ?_
    refine (g_iincH (c := (-1)) (L' := [.ref a0, .int i1, .int i2, .int i3, .int (i4 + (-1)), v5, v6, .int i7, .int (i8 + 1), .int (i9 + 1), .int i10, .int 0, .int (i12 + 1)]) c72009 dJ31_mergeLo_214 rfl rfl rfl rfl).trans ?_
    refine (g_iloadH c72009 dJ31_mergeLo_217 rfl).trans ?_
    refine (g_if_neH (tgt := 258) c72009 dJ31_mergeLo_219 rfl).trans (if_cg ?_ ?_)
    · skip
      refine (g_gotoH (tgt := 522) c72009 dJ31_mergeLo_222 rfl).trans ?_
      refine (g_aload_nH c72009 dJ31_mergeLo_522 rfl).trans ?_
      refine (g_iloadH c72009 dJ31_mergeLo_523 rfl).trans ?_
      refine (g_iconstH (x := 1) c72009 dJ31_mergeLo_525 rfl).trans ?_
      refine (g_icmp_geH (tgt := 533) c72009 dJ31_mergeLo_526 rfl).trans (if_cg ?_ ?_)
      · skip
        refine (g_iloadH c72009 dJ31_mergeLo_533 rfl).trans ?_
        rfl
      · skip
        refine (g_iconstH (x := 1) c72009 dJ31_mergeLo_529 rfl).trans ?_
        refine (g_gotoH (tgt := 535) c72009 dJ31_mergeLo_530 rfl).trans ?_
        rfl
    · skip
      refine (g_iloadH c72009 dJ31_mergeLo_258 rfl).trans ?_
      refine (g_iloadH c72009 dJ31_mergeLo_260 rfl).trans ?_
      refine (g_iorH c72009 dJ31_mergeLo_262).trans ?_
      refine (g_iloadH c72009 dJ31_mergeLo_263 rfl).trans ?_
      refine (g_icmp_ltH (tgt := 147) c72009 dJ31_mergeLo_265 rfl).trans (if_cg ?_ ?_)
      · skip
        rfl
      · skip
        rfl
theorem F72009_268 (d : Nat) (a0 : Nat) (i1 : Int32) (i2 : Int32) (i3 : Int32) (i4 : Int32) (v5 : Value) (v6 : Value) (i7 : Int32) (i8 : Int32) (i9 : Int32) (i10 : Int32) (i11 : Int32) (i12 : Int32) (h : AH) : G2 d 72009 268 [.ref a0, .int i1, .int i2, .int i3, .int i4, v5, v6, .int i7, .int i8, .int i9, .int i10, .int i11, .int i12] [] h = if (1 : Int32) = 0 then (if i2 ≤ 1 then (G2 d 72009 284 [.ref a0, .int i1, .int i2, .int i3, .int i4, v5, v6, .int i7, .int i8, .int i9, .int i10, .int i11, .int i12] [] h) else (if 0 < i4 then (G2 d 72009 292 [.ref a0, .int i1, .int i2, .int i3, .int i4, v5, v6, .int i7, .int i8, .int i9, .int i10, .int i11, .int i12] [] h) else (G2 d 72009 284 [.ref a0, .int i1, .int i2, .int i3, .int i4, v5, v6, .int i7, .int i8, .int i9, .int i10, .int i11, .int i12] [] h))) else (G2 d 72009 292 [.ref a0, .int i1, .int i2, .int i3, .int i4, v5, v6, .int i7, .int i8, .int i9, .int i10, .int i11, .int i12] [] h) := by
  refine (g_getsIH (x := 1) c72009 dJ31_mergeLo_268 rfl rfl).trans ?_
  refine (g_if_neH (tgt := 292) c72009 dJ31_mergeLo_271 rfl).trans (if_cg ?_ ?_)
  · skip
    refine (g_iload_nH c72009 dJ31_mergeLo_274 rfl).trans ?_
    refine (g_iconstH (x := 1) c72009 dJ31_mergeLo_275 rfl).trans ?_
    refine (g_icmp_leH (tgt := 284) c72009 dJ31_mergeLo_276 rfl).trans (if_cg ?_ ?_)
    · skip
      rfl
    · skip
      refine (g_iloadH c72009 dJ31_mergeLo_279 rfl).trans ?_
      refine (g_if_gtH (tgt := 292) c72009 dJ31_mergeLo_281 rfl).trans (if_cg ?_ ?_)
      · skip
        rfl
      · skip
        rfl
  · skip
    rfl
theorem F72009_292 (d : Nat) (a0 : Nat) (i1 : Int32) (i2 : Int32) (i3 : Int32) (i4 : Int32) (v5 : Value) (v6 : Value) (i7 : Int32) (i8 : Int32) (i9 : Int32) (i10 : Int32) (i11 : Int32) (i12 : Int32) (h : AH) : G2 d 72009 292 [.ref a0, .int i1, .int i2, .int i3, .int i4, v5, v6, .int i7, .int i8, .int i9, .int i10, .int i11, .int i12] [] h = zkR v5 (zqG h v5 [1040, 1041, 1050, 1060, 1071] i8 (fun w1 => zpR w1 (fun r2 => zqK h r2 [24, 49, 50, 62, 150, 162] (zkR v6 (zcI (M2 d 72004 [r2, v6, .int i7, .int i2, .int 0] h) (fun x3 h4 => if x3 = 0 then (G2 d 72009 356 [.ref a0, .int i1, .int i2, .int i3, .int i4, v5, v6, .int i7, .int i8, .int i9, .int i10, .int x3, .int i12] [] h4) else (zkR v6 (zkR v5 (zcV (M2 d 90001 [v6, .int i7, v5, .int i9, .int x3] h4) (fun h6 => if 1 < (i2 - x3) then (G2 d 72009 356 [.ref a0, .int i1, .int (i2 - x3), .int i3, .int i4, v5, v6, .int (i7 + x3), .int i8, .int (i9 + x3), .int i10, .int x3, .int i12] [] h6) else (if 1 ≤ i10 then (G2 d 72009 535 [.ref a0, .int i1, .int (i2 - x3), .int i3, .int i4, v5, v6, .int (i7 + x3), .int i8, .int (i9 + x3), .int i10, .int x3, .int i12] [.int i10, .ref a0] h6) else (G2 d 72009 535 [.ref a0, .int i1, .int (i2 - x3), .int i3, .int i4, v5, v6, .int (i7 + x3), .int i8, .int (i9 + x3), .int i10, .int x3, .int i12] [.int 1, .ref a0] h6))) ()) ()) ())) ()) ()) ()) ()) ()) () := by
  refine (g_aloadVH c72009 dJ31_mergeLo_292 rfl).trans (ckR_cg ?_)
  refine (g_iloadH c72009 dJ31_mergeLo_294 rfl).trans ?_
  refine (g_aaloadH c72009 dJ31_mergeLo_296).trans (aG_cg fun w1 => rR_cg fun r2 => ?_)
  refine (g_castH c72009 dJ31_mergeLo_297 rfl).trans (cK_cg ?_)
  refine (g_aloadVH c72009 dJ31_mergeLo_300 rfl).trans (ckR_cg ?_)
  refine (g_iloadH c72009 dJ31_mergeLo_302 rfl).trans ?_
  refine (g_iload_nH c72009 dJ31_mergeLo_304 rfl).trans ?_
  refine (g_iconstH (x := 0) c72009 dJ31_mergeLo_305 rfl).trans ?_
  refine (g_staticH (as := [r2, v6, .int i7, .int i2, .int 0]) (rest := []) c72009 dJ31_mergeLo_306 rfl rfl rfl rfl rfl).trans ((jback_IH (κx := cX) (fun e h => jthrow_outH rfl)).trans (cI_cg fun x3 h4 => ?_))
  refine (g_istoreH (L' := [.ref a0, .int i1, .int i2, .int i3, .int i4, v5, v6, .int i7, .int i8, .int i9, .int i10, .int x3, .int i12]) c72009 dJ31_mergeLo_309 rfl rfl).trans ?_
  refine (g_iloadH c72009 dJ31_mergeLo_311 rfl).trans ?_
  refine (g_if_eqH (tgt := 356) c72009 dJ31_mergeLo_313 rfl).trans (if_cg ?_ ?_)
  · skip
    rfl
  · skip
    refine (g_aloadVH c72009 dJ31_mergeLo_316 rfl).trans (ckR_cg ?_)
    refine (g_iloadH c72009 dJ31_mergeLo_318 rfl).trans ?_
    refine (g_aloadVH c72009 dJ31_mergeLo_320 rfl).trans (ckR_cg ?_)
    refine (g_iloadH c72009 dJ31_mergeLo_322 rfl).trans ?_
    refine (g_iloadH c72009 dJ31_mergeLo_324 rfl).trans ?_
    refine (g_staticH (as := [v6, .int i7, v5, .int i9, .int x3]) (rest := []) c72009 dJ31_mergeLo_326 rfl rfl rfl rfl rfl).trans ((jback_VH (κx := cX) (fun e h => jthrow_outH rfl)).trans (cV_cg fun h6 => ?_))
    refine (g_iloadH c72009 dJ31_mergeLo_329 rfl).trans ?_
    refine (g_iloadH c72009 dJ31_mergeLo_331 rfl).trans ?_
    refine (g_iaddH c72009 dJ31_mergeLo_333).trans ?_
    refine (g_istoreH (L' := [.ref a0, .int i1, .int i2, .int i3, .int i4, v5, v6, .int i7, .int i8, .int (i9 + x3), .int i10, .int x3, .int i12]) c72009 dJ31_mergeLo_334 rfl rfl).trans ?_
    refine (g_iloadH c72009 dJ31_mergeLo_336 rfl).trans ?_
    refine (g_iloadH c72009 dJ31_mergeLo_338 rfl).trans ?_
    refine (g_iaddH c72009 dJ31_mergeLo_340).trans ?_
    refine (g_istoreH (L' := [.ref a0, .int i1, .int i2, .int i3, .int i4, v5, v6, .int (i7 + x3), .int i8, .int (i9 + x3), .int i10, .int x3, .int i12]) c72009 dJ31_mergeLo_341 rfl rfl).trans ?_
    refine (g_iload_nH c72009 dJ31_mergeLo_343 rfl).trans ?_
    refine (g_iloadH c72009 dJ31_mergeLo_344 rfl).trans ?_
    refine (g_isubH c72009 dJ31_mergeLo_346).trans ?_
    refine (g_istore_nH (L' := [.ref a0, .int i1, .int (i2 - x3), .int i3, .int i4, v5, v6, .int (i7 + x3), .int i8, .int (i9 + x3), .int i10, .int x3, .int i12]) c72009 dJ31_mergeLo_347 rfl rfl).trans ?_
    refine (g_iload_nH c72009 dJ31_mergeLo_348 rfl).trans ?_
    refine (g_iconstH (x := 1) c72009 dJ31_mergeLo_349 rfl).trans ?_
    refine (g_icmp_gtH (tgt := 356) c72009 dJ31_mergeLo_350 rfl).trans (if_cg ?_ ?_)
    · skip
      rfl
    · skip
      refine (g_gotoH (tgt := 522) c72009 dJ31_mergeLo_353 rfl).trans ?_
      refine (g_aload_nH c72009 dJ31_mergeLo_522 rfl).trans ?_
      refine (g_iloadH c72009 dJ31_mergeLo_523 rfl).trans ?_
      refine (g_iconstH (x := 1) c72009 dJ31_mergeLo_525 rfl).trans ?_
      refine (g_icmp_geH (tgt := 533) c72009 dJ31_mergeLo_526 rfl).trans (if_cg ?_ ?_)
      · skip
        refine (g_iloadH c72009 dJ31_mergeLo_533 rfl).trans ?_
        rfl
      · skip
        refine (g_iconstH (x := 1) c72009 dJ31_mergeLo_529 rfl).trans ?_
        refine (g_gotoH (tgt := 535) c72009 dJ31_mergeLo_530 rfl).trans ?_
        rfl
theorem F72009_356 (d : Nat) (a0 : Nat) (i1 : Int32) (i2 : Int32) (i3 : Int32) (i4 : Int32) (v5 : Value) (v6 : Value) (i7 : Int32) (i8 : Int32) (i9 : Int32) (i10 : Int32) (i11 : Int32) (i12 : Int32) (h : AH) : G2 d 72009 356 [.ref a0, .int i1, .int i2, .int i3, .int i4, v5, v6, .int i7, .int i8, .int i9, .int i10, .int i11, .int i12] [] h = zkR v5 (zkR v5 (zqG h v5 [1040, 1041, 1050, 1060, 1071] i8 (fun w1 => zpR w1 (fun r2 => zqA h v5 r2 i9 (fun h3 => if (i4 + (-1)) = 0 then (if 1 ≤ i10 then (G2 d 72009 535 [.ref a0, .int i1, .int i2, .int i3, .int (i4 + (-1)), v5, v6, .int i7, .int (i8 + 1), .int (i9 + 1), .int i10, .int i11, .int i12] [.int i10, .ref a0] h3) else (G2 d 72009 535 [.ref a0, .int i1, .int i2, .int i3, .int (i4 + (-1)), v5, v6, .int i7, .int (i8 + 1), .int (i9 + 1), .int i10, .int i11, .int i12] [.int 1, .ref a0] h3)) else (zkR v6 (zqG h3 v6 [1040, 1041, 1050, 1060, 1071] i7 (fun w4 => zpR w4 (fun r5 => zqK h3 r5 [24, 49, 50, 62, 150, 162] (zkR v5 (zcI (M2 d 72003 [r5, v5, .int (i8 + 1), .int (i4 + (-1)), .int 0] h3) (fun x6 h7 => if x6 = 0 then (G2 d 72009 450 [.ref a0, .int i1, .int i2, .int i3, .int (i4 + (-1)), v5, v6, .int i7, .int (i8 + 1), .int (i9 + 1), .int i10, .int i11, .int x6] [] h7) else (zkR v5 (zkR v5 (zcV (M2 d 90001 [v5, .int (i8 + 1), v5, .int (i9 + 1), .int x6] h7) (fun h9 => if ((i4 + (-1)) - x6) = 0 then (if 1 ≤ i10 then (G2 d 72009 535 [.ref a0, .int i1, .int i2, .int i3, .int ((i4 + (-1)) - x6), v5, v6, .int i7, .int ((i8 + 1) + x6), .int ((i9 + 1) + x6), .int i10, .int i11, .int x6] [.int i10, .ref a0] h9) else (G2 d 72009 535 [.ref a0, .int i1, .int i2, .int i3, .int ((i4 + (-1)) - x6), v5, v6, .int i7, .int ((i8 + 1) + x6), .int ((i9 + 1) + x6), .int i10, .int i11, .int x6] [.int 1, .ref a0] h9)) else (G2 d 72009 450 [.ref a0, .int i1, .int i2, .int i3, .int ((i4 + (-1)) - x6), v5, v6, .int i7, .int ((i8 + 1) + x6), .int ((i9 + 1) + x6), .int i10, .int i11, .int x6] [] h9)) ()) ()) ())) ()) ()) ()) ()) ()) ())) ()) ()) ()) ()) () := by
  refine (g_aloadVH c72009 dJ31_mergeLo_356 rfl).trans (ckR_cg ?_)
  refine (g_iloadH c72009 dJ31_mergeLo_358 rfl).trans ?_
  refine (g_iincH (c := 1) (L' := [.ref a0, .int i1, .int i2, .int i3, .int i4, v5, v6, .int i7, .int i8, .int (i9 + 1), .int i10, .int i11, .int i12]) c72009 dJ31_mergeLo_360 rfl rfl rfl rfl).trans ?_
  refine (g_aloadVH c72009 dJ31_mergeLo_363 rfl).trans (ckR_cg ?_)
  refine (g_iloadH c72009 dJ31_mergeLo_365 rfl).trans ?_
  refine (g_iincH (c := 1) (L' := [.ref a0, .int i1, .int i2, .int i3, .int i4, v5, v6, .int i7, .int (i8 + 1), .int (i9 + 1), .int i10, .int i11, .int i12]) c72009 dJ31_mergeLo_367 rfl rfl rfl rfl).trans ?_
  refine (g_aaloadH c72009 dJ31_mergeLo_370).trans (aG_cg fun w1 => rR_cg fun r2 => ?_)
  refine (g_aastoreH c72009 dJ31_mergeLo_371).trans (aSr_cg fun h3 => ?_)
  refine (g_iincH (c := (-1)) (L' := [.ref a0, .int i1, .int i2, .int i3, .int (i4 + (-1)), v5, v6, .int i7, .int (i8 + 1), .int (i9 + 1), .int i10, .int i11, .int i12]) c72009 dJ31_mergeLo_372 rfl rfl rfl rfl).trans ?_
  refine (g_iloadH c72009 dJ31_mergeLo_375 rfl).trans ?_
  refine (g_if_neH (tgt := 383) c72009 dJ31_mergeLo_377 rfl).trans (if_cg ?_ ?_)
  · skip
    refine (g_gotoH (tgt := 522) c72009 dJ31_mergeLo_380 rfl).trans ?_
    refine (g_aload_nH c72009 dJ31_mergeLo_522 rfl).trans ?_
    refine (g_iloadH c72009 dJ31_mergeLo_523 rfl).trans ?_
    refine (g_iconstH (x := 1) c72009 dJ31_mergeLo_525 rfl).trans ?_
    refine (g_icmp_geH (tgt := 533) c72009 dJ31_mergeLo_526 rfl).trans (if_cg ?_ ?_)
    · skip
      refine (g_iloadH c72009 dJ31_mergeLo_533 rfl).trans ?_
      rfl
    · skip
      refine (g_iconstH (x := 1) c72009 dJ31_mergeLo_529 rfl).trans ?_
      refine (g_gotoH (tgt := 535) c72009 dJ31_mergeLo_530 rfl).trans ?_
      rfl
  · skip
    refine (g_aloadVH c72009 dJ31_mergeLo_383 rfl).trans (ckR_cg ?_)
    refine (g_iloadH c72009 dJ31_mergeLo_385 rfl).trans ?_
    refine (g_aaloadH c72009 dJ31_mergeLo_387).trans (aG_cg fun w4 => rR_cg fun r5 => ?_)
    refine (g_castH c72009 dJ31_mergeLo_388 rfl).trans (cK_cg ?_)
    refine (g_aloadVH c72009 dJ31_mergeLo_391 rfl).trans (ckR_cg ?_)
    refine (g_iloadH c72009 dJ31_mergeLo_393 rfl).trans ?_
    refine (g_iloadH c72009 dJ31_mergeLo_395 rfl).trans ?_
    refine (g_iconstH (x := 0) c72009 dJ31_mergeLo_397 rfl).trans ?_
    refine (g_staticH (as := [r5, v5, .int (i8 + 1), .int (i4 + (-1)), .int 0]) (rest := []) c72009 dJ31_mergeLo_398 rfl rfl rfl rfl rfl).trans ((jback_IH (κx := cX) (fun e h => jthrow_outH rfl)).trans (cI_cg fun x6 h7 => ?_))
    refine (g_istoreH (L' := [.ref a0, .int i1, .int i2, .int i3, .int (i4 + (-1)), v5, v6, .int i7, .int (i8 + 1), .int (i9 + 1), .int i10, .int i11, .int x6]) c72009 dJ31_mergeLo_401 rfl rfl).trans ?_
    refine (g_iloadH c72009 dJ31_mergeLo_403 rfl).trans ?_
    refine (g_if_eqH (tgt := 450) c72009 dJ31_mergeLo_405 rfl).trans (if_cg ?_ ?_)
    · skip
      rfl
    · skip
      refine (g_aloadVH c72009 dJ31_mergeLo_408 rfl).trans (ckR_cg ?_)
      refine (g_iloadH c72009 dJ31_mergeLo_410 rfl).trans ?_
      refine (g_aloadVH c72009 dJ31_mergeLo_412 rfl).trans (ckR_cg ?_)
      refine (g_iloadH c72009 dJ31_mergeLo_414 rfl).trans ?_
      refine (g_iloadH c72009 dJ31_mergeLo_416 rfl).trans ?_
      refine (g_staticH (as := [v5, .int (i8 + 1), v5, .int (i9 + 1), .int x6]) (rest := []) c72009 dJ31_mergeLo_418 rfl rfl rfl rfl rfl).trans ((jback_VH (κx := cX) (fun e h => jthrow_outH rfl)).trans (cV_cg fun h9 => ?_))
      refine (g_iloadH c72009 dJ31_mergeLo_421 rfl).trans ?_
      refine (g_iloadH c72009 dJ31_mergeLo_423 rfl).trans ?_
      refine (g_iaddH c72009 dJ31_mergeLo_425).trans ?_
      refine (g_istoreH (L' := [.ref a0, .int i1, .int i2, .int i3, .int (i4 + (-1)), v5, v6, .int i7, .int (i8 + 1), .int ((i9 + 1) + x6), .int i10, .int i11, .int x6]) c72009 dJ31_mergeLo_426 rfl rfl).trans ?_
      refine (g_iloadH c72009 dJ31_mergeLo_428 rfl).trans ?_
      refine (g_iloadH c72009 dJ31_mergeLo_430 rfl).trans ?_
      refine (g_iaddH c72009 dJ31_mergeLo_432).trans ?_
      refine (g_istoreH (L' := [.ref a0, .int i1, .int i2, .int i3, .int (i4 + (-1)), v5, v6, .int i7, .int ((i8 + 1) + x6), .int ((i9 + 1) + x6), .int i10, .int i11, .int x6]) c72009 dJ31_mergeLo_433 rfl rfl).trans ?_
      refine (g_iloadH c72009 dJ31_mergeLo_435 rfl).trans ?_
      refine (g_iloadH c72009 dJ31_mergeLo_437 rfl).trans ?_
      refine (g_isubH c72009 dJ31_mergeLo_439).trans ?_
      refine (g_istoreH (L' := [.ref a0, .int i1, .int i2, .int i3, .int ((i4 + (-1)) - x6), v5, v6, .int i7, .int ((i8 + 1) + x6), .int ((i9 + 1) + x6), .int i10, .int i11, .int x6]) c72009 dJ31_mergeLo_440 rfl rfl).trans ?_
      refine (g_iloadH c72009 dJ31_mergeLo_442 rfl).trans ?_
      refine (g_if_neH (tgt := 450) c72009 dJ31_mergeLo_444 rfl).trans (if_cg ?_ ?_)
      · skip
        refine (g_gotoH (tgt := 522) c72009 dJ31_mergeLo_447 rfl).trans ?_
        refine (g_aload_nH c72009 dJ31_mergeLo_522 rfl).trans ?_
        refine (g_iloadH c72009 dJ31_mergeLo_523 rfl).trans ?_
        refine (g_iconstH (x := 1) c72009 dJ31_mergeLo_525 rfl).trans ?_
        refine (g_icmp_geH (tgt := 533) c72009 dJ31_mergeLo_526 rfl).trans (if_cg ?_ ?_)
        · skip
          refine (g_iloadH c72009 dJ31_mergeLo_533 rfl).trans ?_
          rfl
        · skip
          refine (g_iconstH (x := 1) c72009 dJ31_mergeLo_529 rfl).trans ?_
          refine (g_gotoH (tgt := 535) c72009 dJ31_mergeLo_530 rfl).trans ?_
          rfl
      · skip
        rfl
theorem F72009_450 (d : Nat) (a0 : Nat) (i1 : Int32) (i2 : Int32) (i3 : Int32) (i4 : Int32) (v5 : Value) (v6 : Value) (i7 : Int32) (i8 : Int32) (i9 : Int32) (i10 : Int32) (i11 : Int32) (i12 : Int32) (h : AH) : G2 d 72009 450 [.ref a0, .int i1, .int i2, .int i3, .int i4, v5, v6, .int i7, .int i8, .int i9, .int i10, .int i11, .int i12] [] h = zkR v5 (zkR v6 (zqG h v6 [1040, 1041, 1050, 1060, 1071] i7 (fun w1 => zpR w1 (fun r2 => zqA h v5 r2 i9 (fun h3 => if (i2 + (-1)) = 1 then (if 1 ≤ i10 then (G2 d 72009 535 [.ref a0, .int i1, .int (i2 + (-1)), .int i3, .int i4, v5, v6, .int (i7 + 1), .int i8, .int (i9 + 1), .int i10, .int i11, .int i12] [.int i10, .ref a0] h3) else (G2 d 72009 535 [.ref a0, .int i1, .int (i2 + (-1)), .int i3, .int i4, v5, v6, .int (i7 + 1), .int i8, .int (i9 + 1), .int i10, .int i11, .int i12] [.int 1, .ref a0] h3)) else (if i11 < 7 then (G2 d 72009 492 [.ref a0, .int i1, .int (i2 + (-1)), .int i3, .int i4, v5, v6, .int (i7 + 1), .int i8, .int (i9 + 1), .int (i10 + (-1)), .int i11, .int i12] [.int 0] h3) else (G2 d 72009 492 [.ref a0, .int i1, .int (i2 + (-1)), .int i3, .int i4, v5, v6, .int (i7 + 1), .int i8, .int (i9 + 1), .int (i10 + (-1)), .int i11, .int i12] [.int 1] h3))) ()) ()) ()) ()) () := by
  refine (g_aloadVH c72009 dJ31_mergeLo_450 rfl).trans (ckR_cg ?_)
  refine (g_iloadH c72009 dJ31_mergeLo_452 rfl).trans ?_
  refine (g_iincH (c := 1) (L' := [.ref a0, .int i1, .int i2, .int i3, .int i4, v5, v6, .int i7, .int i8, .int (i9 + 1), .int i10, .int i11, .int i12]) c72009 dJ31_mergeLo_454 rfl rfl rfl rfl).trans ?_
  refine (g_aloadVH c72009 dJ31_mergeLo_457 rfl).trans (ckR_cg ?_)
  refine (g_iloadH c72009 dJ31_mergeLo_459 rfl).trans ?_
  refine (g_iincH (c := 1) (L' := [.ref a0, .int i1, .int i2, .int i3, .int i4, v5, v6, .int (i7 + 1), .int i8, .int (i9 + 1), .int i10, .int i11, .int i12]) c72009 dJ31_mergeLo_461 rfl rfl rfl rfl).trans ?_
  refine (g_aaloadH c72009 dJ31_mergeLo_464).trans (aG_cg fun w1 => rR_cg fun r2 => ?_)
  refine (g_aastoreH c72009 dJ31_mergeLo_465).trans (aSr_cg fun h3 => ?_)
  refine (g_iincH (c := (-1)) (L' := [.ref a0, .int i1, .int (i2 + (-1)), .int i3, .int i4, v5, v6, .int (i7 + 1), .int i8, .int (i9 + 1), .int i10, .int i11, .int i12]) c72009 dJ31_mergeLo_466 rfl rfl rfl rfl).trans ?_
  refine (g_iload_nH c72009 dJ31_mergeLo_469 rfl).trans ?_
  refine (g_iconstH (x := 1) c72009 dJ31_mergeLo_470 rfl).trans ?_
  refine (g_icmp_neH (tgt := 477) c72009 dJ31_mergeLo_471 rfl).trans (if_cg ?_ ?_)
  · skip
    refine (g_gotoH (tgt := 522) c72009 dJ31_mergeLo_474 rfl).trans ?_
    refine (g_aload_nH c72009 dJ31_mergeLo_522 rfl).trans ?_
    refine (g_iloadH c72009 dJ31_mergeLo_523 rfl).trans ?_
    refine (g_iconstH (x := 1) c72009 dJ31_mergeLo_525 rfl).trans ?_
    refine (g_icmp_geH (tgt := 533) c72009 dJ31_mergeLo_526 rfl).trans (if_cg ?_ ?_)
    · skip
      refine (g_iloadH c72009 dJ31_mergeLo_533 rfl).trans ?_
      rfl
    · skip
      refine (g_iconstH (x := 1) c72009 dJ31_mergeLo_529 rfl).trans ?_
      refine (g_gotoH (tgt := 535) c72009 dJ31_mergeLo_530 rfl).trans ?_
      rfl
  · skip
    refine (g_iincH (c := (-1)) (L' := [.ref a0, .int i1, .int (i2 + (-1)), .int i3, .int i4, v5, v6, .int (i7 + 1), .int i8, .int (i9 + 1), .int (i10 + (-1)), .int i11, .int i12]) c72009 dJ31_mergeLo_477 rfl rfl rfl rfl).trans ?_
    refine (g_iloadH c72009 dJ31_mergeLo_480 rfl).trans ?_
    refine (g_bipushH (x := 7) c72009 dJ31_mergeLo_482 rfl).trans ?_
    refine (g_icmp_ltH (tgt := 491) c72009 dJ31_mergeLo_484 rfl).trans (if_cg ?_ ?_)
    · skip
      refine (g_iconstH (x := 0) c72009 dJ31_mergeLo_491 rfl).trans ?_
      rfl
    · skip
      refine (g_iconstH (x := 1) c72009 dJ31_mergeLo_487 rfl).trans ?_
      refine (g_gotoH (tgt := 492) c72009 dJ31_mergeLo_488 rfl).trans ?_
      rfl
theorem F72009_492 (d : Nat) (a0 : Nat) (i1 : Int32) (i2 : Int32) (i3 : Int32) (i4 : Int32) (v5 : Value) (v6 : Value) (i7 : Int32) (i8 : Int32) (i9 : Int32) (i10 : Int32) (i11 : Int32) (i12 : Int32) (is0 : Int32) (h : AH) : G2 d 72009 492 [.ref a0, .int i1, .int i2, .int i3, .int i4, v5, v6, .int i7, .int i8, .int i9, .int i10, .int i11, .int i12] [.int is0] h = if i12 < 7 then (if (is0 ||| 0) = 0 then (if 0 ≤ i10 then (G2 d 72009 141 [.ref a0, .int i1, .int i2, .int i3, .int i4, v5, v6, .int i7, .int i8, .int i9, .int (i10 + 2), .int i11, .int i12] [] h) else (G2 d 72009 141 [.ref a0, .int i1, .int i2, .int i3, .int i4, v5, v6, .int i7, .int i8, .int i9, .int (0 + 2), .int i11, .int i12] [] h)) else (G2 d 72009 268 [.ref a0, .int i1, .int i2, .int i3, .int i4, v5, v6, .int i7, .int i8, .int i9, .int i10, .int i11, .int i12] [] h)) else (if (is0 ||| 1) = 0 then (if 0 ≤ i10 then (G2 d 72009 141 [.ref a0, .int i1, .int i2, .int i3, .int i4, v5, v6, .int i7, .int i8, .int i9, .int (i10 + 2), .int i11, .int i12] [] h) else (G2 d 72009 141 [.ref a0, .int i1, .int i2, .int i3, .int i4, v5, v6, .int i7, .int i8, .int i9, .int (0 + 2), .int i11, .int i12] [] h)) else (G2 d 72009 268 [.ref a0, .int i1, .int i2, .int i3, .int i4, v5, v6, .int i7, .int i8, .int i9, .int i10, .int i11, .int i12] [] h)) := by
  refine (g_iloadH c72009 dJ31_mergeLo_492 rfl).trans ?_
  refine (g_bipushH (x := 7) c72009 dJ31_mergeLo_494 rfl).trans ?_
  refine (g_icmp_ltH (tgt := 503) c72009 dJ31_mergeLo_496 rfl).trans (if_cg ?_ ?_)
  · skip
    refine (g_iconstH (x := 0) c72009 dJ31_mergeLo_503 rfl).trans ?_
    refine (g_iorH c72009 dJ31_mergeLo_504).trans ?_
    refine (g_if_neH (tgt := 268) c72009 dJ31_mergeLo_505 rfl).trans (if_cg ?_ ?_)
    · skip
      refine (g_iloadH c72009 dJ31_mergeLo_508 rfl).trans ?_
      refine (g_if_geH (tgt := 516) c72009 dJ31_mergeLo_510 rfl).trans (if_cg ?_ ?_)
      · skip
        refine (g_iincH (c := 2) (L' := [.ref a0, .int i1, .int i2, .int i3, .int i4, v5, v6, .int i7, .int i8, .int i9, .int (i10 + 2), .int i11, .int i12]) c72009 dJ31_mergeLo_516 rfl rfl rfl rfl).trans ?_
        refine (g_gotoH (tgt := 141) c72009 dJ31_mergeLo_519 rfl).trans ?_
        rfl
      · skip
        refine (g_iconstH (x := 0) c72009 dJ31_mergeLo_513 rfl).trans ?_
        refine (g_istoreH (L' := [.ref a0, .int i1, .int i2, .int i3, .int i4, v5, v6, .int i7, .int i8, .int i9, .int 0, .int i11, .int i12]) c72009 dJ31_mergeLo_514 rfl rfl).trans ?_
        refine (g_iincH (c := 2) (L' := [.ref a0, .int i1, .int i2, .int i3, .int i4, v5, v6, .int i7, .int i8, .int i9, .int (0 + 2), .int i11, .int i12]) c72009 dJ31_mergeLo_516 rfl rfl rfl rfl).trans ?_
        refine (g_gotoH (tgt := 141) c72009 dJ31_mergeLo_519 rfl).trans ?_
        rfl
    · skip
      rfl
  · skip
    refine (g_iconstH (x := 1) c72009 dJ31_mergeLo_499 rfl).trans ?_
    refine (g_gotoH (tgt := 504) c72009 dJ31_mergeLo_500 rfl).trans ?_
    refine (g_iorH c72009 dJ31_mergeLo_504).trans ?_
    refine (g_if_neH (tgt := 268) c72009 dJ31_mergeLo_505 rfl).trans (if_cg ?_ ?_)
    · skip
      refine (g_iloadH c72009 dJ31_mergeLo_508 rfl).trans ?_
      refine (g_if_geH (tgt := 516) c72009 dJ31_mergeLo_510 rfl).trans (if_cg ?_ ?_)
      · skip
        refine (g_iincH (c := 2) (L' := [.ref a0, .int i1, .int i2, .int i3, .int i4, v5, v6, .int i7, .int i8, .int i9, .int (i10 + 2), .int i11, .int i12]) c72009 dJ31_mergeLo_516 rfl rfl rfl rfl).trans ?_
        refine (g_gotoH (tgt := 141) c72009 dJ31_mergeLo_519 rfl).trans ?_
        rfl
      · skip
        refine (g_iconstH (x := 0) c72009 dJ31_mergeLo_513 rfl).trans ?_
        refine (g_istoreH (L' := [.ref a0, .int i1, .int i2, .int i3, .int i4, v5, v6, .int i7, .int i8, .int i9, .int 0, .int i11, .int i12]) c72009 dJ31_mergeLo_514 rfl rfl).trans ?_
        refine (g_iincH (c := 2) (L' := [.ref a0, .int i1, .int i2, .int i3, .int i4, v5, v6, .int i7, .int i8, .int i9, .int (0 + 2), .int i11, .int i12]) c72009 dJ31_mergeLo_516 rfl rfl rfl rfl).trans ?_
        refine (g_gotoH (tgt := 141) c72009 dJ31_mergeLo_519 rfl).trans ?_
        rfl
    · skip
      rfl
theorem F72009_535 (d : Nat) (a0 : Nat) (i1 : Int32) (i2 : Int32) (i3 : Int32) (i4 : Int32) (v5 : Value) (v6 : Value) (i7 : Int32) (i8 : Int32) (i9 : Int32) (i10 : Int32) (i11 : Int32) (i12 : Int32) (is0 : Int32) (as1 : Nat) (h : AH) : G2 d 72009 535 [.ref a0, .int i1, .int i2, .int i3, .int i4, v5, v6, .int i7, .int i8, .int i9, .int i10, .int i11, .int i12] [.int is0, .ref as1] h = zqF h (.ref as1) [72] 1 0 (.int is0) (fun h1 => if i2 = 1 then (if (1 : Int32) = 0 then (if 0 < i4 then (G2 d 72009 562 [.ref a0, .int i1, .int i2, .int i3, .int i4, v5, v6, .int i7, .int i8, .int i9, .int i10, .int i11, .int i12] [] h1) else (G2 d 72009 554 [.ref a0, .int i1, .int i2, .int i3, .int i4, v5, v6, .int i7, .int i8, .int i9, .int i10, .int i11, .int i12] [] h1)) else (G2 d 72009 562 [.ref a0, .int i1, .int i2, .int i3, .int i4, v5, v6, .int i7, .int i8, .int i9, .int i10, .int i11, .int i12] [] h1)) else (if i2 = 0 then (G2 d 72009 595 [.ref a0, .int i1, .int i2, .int i3, .int i4, v5, v6, .int i7, .int i8, .int i9, .int i10, .int i11, .int i12] [] h1) else (if (1 : Int32) = 0 then (if i4 = 0 then (G2 d 72009 624 [.ref a0, .int i1, .int i2, .int i3, .int i4, v5, v6, .int i7, .int i8, .int i9, .int i10, .int i11, .int i12] [] h1) else (G2 d 72009 616 [.ref a0, .int i1, .int i2, .int i3, .int i4, v5, v6, .int i7, .int i8, .int i9, .int i10, .int i11, .int i12] [] h1)) else (G2 d 72009 624 [.ref a0, .int i1, .int i2, .int i3, .int i4, v5, v6, .int i7, .int i8, .int i9, .int i10, .int i11, .int i12] [] h1)))) () := by
  refine (g_putH c72009 dJ31_mergeLo_535 rfl).trans (pF_cg fun h1 => ?_)
  refine (g_iload_nH c72009 dJ31_mergeLo_538 rfl).trans ?_
  refine (g_iconstH (x := 1) c72009 dJ31_mergeLo_539 rfl).trans ?_
  refine (g_icmp_neH (tgt := 591) c72009 dJ31_mergeLo_540 rfl).trans (if_cg ?_ ?_)
  · skip
    refine (g_getsIH (x := 1) c72009 dJ31_mergeLo_543 rfl rfl).trans ?_
    refine (g_if_neH (tgt := 562) c72009 dJ31_mergeLo_546 rfl).trans (if_cg ?_ ?_)
    · skip
      refine (g_iloadH c72009 dJ31_mergeLo_549 rfl).trans ?_
      refine (g_if_gtH (tgt := 562) c72009 dJ31_mergeLo_551 rfl).trans (if_cg ?_ ?_)
      · skip
        rfl
      · skip
        rfl
    · skip
      rfl
  · skip
    refine (g_iload_nH c72009 dJ31_mergeLo_591 rfl).trans ?_
    refine (g_if_neH (tgt := 605) c72009 dJ31_mergeLo_592 rfl).trans (if_cg ?_ ?_)
    · skip
      rfl
    · skip
      refine (g_getsIH (x := 1) c72009 dJ31_mergeLo_605 rfl rfl).trans ?_
      refine (g_if_neH (tgt := 624) c72009 dJ31_mergeLo_608 rfl).trans (if_cg ?_ ?_)
      · skip
        refine (g_iloadH c72009 dJ31_mergeLo_611 rfl).trans ?_
        refine (g_if_eqH (tgt := 624) c72009 dJ31_mergeLo_613 rfl).trans (if_cg ?_ ?_)
        · skip
          rfl
        · skip
          rfl
      · skip
        rfl
theorem F72009_562 (d : Nat) (a0 : Nat) (i1 : Int32) (i2 : Int32) (i3 : Int32) (i4 : Int32) (v5 : Value) (v6 : Value) (i7 : Int32) (i8 : Int32) (i9 : Int32) (i10 : Int32) (i11 : Int32) (i12 : Int32) (h : AH) : G2 d 72009 562 [.ref a0, .int i1, .int i2, .int i3, .int i4, v5, v6, .int i7, .int i8, .int i9, .int i10, .int i11, .int i12] [] h = zkR v5 (zkR v5 (zcV (M2 d 90001 [v5, .int i8, v5, .int i9, .int i4] h) (fun h2 => zkR v5 (zkR v6 (zqG h2 v6 [1040, 1041, 1050, 1060, 1071] i7 (fun w3 => zpR w3 (fun r4 => zqA h2 v5 r4 (i9 + i4) (fun h5 => some (.inl none, h5)) ()) ()) ()) ()) ()) ()) ()) () := by
  refine (g_aloadVH c72009 dJ31_mergeLo_562 rfl).trans (ckR_cg ?_)
  refine (g_iloadH c72009 dJ31_mergeLo_564 rfl).trans ?_
  refine (g_aloadVH c72009 dJ31_mergeLo_566 rfl).trans (ckR_cg ?_)
  refine (g_iloadH c72009 dJ31_mergeLo_568 rfl).trans ?_
  refine (g_iloadH c72009 dJ31_mergeLo_570 rfl).trans ?_
  refine (g_staticH (as := [v5, .int i8, v5, .int i9, .int i4]) (rest := []) c72009 dJ31_mergeLo_572 rfl rfl rfl rfl rfl).trans ((jback_VH (κx := cX) (fun e h => jthrow_outH rfl)).trans (cV_cg fun h2 => ?_))
  refine (g_aloadVH c72009 dJ31_mergeLo_575 rfl).trans (ckR_cg ?_)
  refine (g_iloadH c72009 dJ31_mergeLo_577 rfl).trans ?_
  refine (g_iloadH c72009 dJ31_mergeLo_579 rfl).trans ?_
  refine (g_iaddH c72009 dJ31_mergeLo_581).trans ?_
  refine (g_aloadVH c72009 dJ31_mergeLo_582 rfl).trans (ckR_cg ?_)
  refine (g_iloadH c72009 dJ31_mergeLo_584 rfl).trans ?_
  refine (g_aaloadH c72009 dJ31_mergeLo_586).trans (aG_cg fun w3 => rR_cg fun r4 => ?_)
  refine (g_aastoreH c72009 dJ31_mergeLo_587).trans (aSr_cg fun h5 => ?_)
  refine (g_gotoH (tgt := 655) c72009 dJ31_mergeLo_588 rfl).trans ?_
  exact g_returnH c72009 dJ31_mergeLo_655 rfl
theorem F72009_624 (d : Nat) (a0 : Nat) (i1 : Int32) (i2 : Int32) (i3 : Int32) (i4 : Int32) (v5 : Value) (v6 : Value) (i7 : Int32) (i8 : Int32) (i9 : Int32) (i10 : Int32) (i11 : Int32) (i12 : Int32) (h : AH) : G2 d 72009 624 [.ref a0, .int i1, .int i2, .int i3, .int i4, v5, v6, .int i7, .int i8, .int i9, .int i10, .int i11, .int i12] [] h = if (1 : Int32) = 0 then (if 1 < i2 then (zkR v6 (zkR v5 (zcV (M2 d 90001 [v6, .int i7, v5, .int i9, .int i2] h) (fun h2 => some (.inl none, h2)) ()) ()) ()) else (G2 d 72009 635 [.ref a0, .int i1, .int i2, .int i3, .int i4, v5, v6, .int i7, .int i8, .int i9, .int i10, .int i11, .int i12] [] h)) else (zkR v6 (zkR v5 (zcV (M2 d 90001 [v6, .int i7, v5, .int i9, .int i2] h) (fun h4 => some (.inl none, h4)) ()) ()) ()) := by
  refine (g_getsIH (x := 1) c72009 dJ31_mergeLo_624 rfl rfl).trans ?_
  refine (g_if_neH (tgt := 643) c72009 dJ31_mergeLo_627 rfl).trans (if_cg ?_ ?_)
  · skip
    refine (g_iload_nH c72009 dJ31_mergeLo_630 rfl).trans ?_
    refine (g_iconstH (x := 1) c72009 dJ31_mergeLo_631 rfl).trans ?_
    refine (g_icmp_gtH (tgt := 643) c72009 dJ31_mergeLo_632 rfl).trans (if_cg ?_ ?_)
    · skip
      refine (g_aloadVH c72009 dJ31_mergeLo_643 rfl).trans (ckR_cg ?_)
      refine (g_iloadH c72009 dJ31_mergeLo_645 rfl).trans ?_
      refine (g_aloadVH c72009 dJ31_mergeLo_647 rfl).trans (ckR_cg ?_)
      refine (g_iloadH c72009 dJ31_mergeLo_649 rfl).trans ?_
      refine (g_iload_nH c72009 dJ31_mergeLo_651 rfl).trans ?_
      refine (g_staticH (as := [v6, .int i7, v5, .int i9, .int i2]) (rest := []) c72009 dJ31_mergeLo_652 rfl rfl rfl rfl rfl).trans ((jback_VH (κx := cX) (fun e h => jthrow_outH rfl)).trans (cV_cg fun h2 => ?_))
      exact g_returnH c72009 dJ31_mergeLo_655 rfl
    · skip
      rfl
  · skip
    refine (g_aloadVH c72009 dJ31_mergeLo_643 rfl).trans (ckR_cg ?_)
    refine (g_iloadH c72009 dJ31_mergeLo_645 rfl).trans ?_
    refine (g_aloadVH c72009 dJ31_mergeLo_647 rfl).trans (ckR_cg ?_)
    refine (g_iloadH c72009 dJ31_mergeLo_649 rfl).trans ?_
    refine (g_iload_nH c72009 dJ31_mergeLo_651 rfl).trans ?_
    refine (g_staticH (as := [v6, .int i7, v5, .int i9, .int i2]) (rest := []) c72009 dJ31_mergeLo_652 rfl rfl rfl rfl rfl).trans ((jback_VH (κx := cX) (fun e h => jthrow_outH rfl)).trans (cV_cg fun h4 => ?_))
    exact g_returnH c72009 dJ31_mergeLo_655 rfl
theorem Y72009 {d : Nat} {a0 : Nat} {i1 : Int32} {i2 : Int32} {i3 : Int32} {i4 : Int32} (h : AH) (hr : jrecv 72009 [.ref a0, .int i1, .int i2, .int i3, .int i4] h = true) : M2 (d + 1) 72009 [.ref a0, .int i1, .int i2, .int i3, .int i4] h = G2 d 72009 0 [.ref a0, .int i1, .int i2, .int i3, .int i4, jno, jno, jno, jno, jno, jno, jno, jno] [] h := M2_eq rfl rfl hr rfl
/-! java/util/ComparableTimSort.minRunLength(I)I -/
abbrev cJ31_minRunLength : ByteArray := prog_74_method_6_code
def dkwJ31_minRunLength_1 : List UInt8 := [161, 0, 16, 27, 26, 4, 126, 128, 60, 26, 4, 122, 59, 167, 255, 240, 26, 27, 96, 172]
abbrev dktJ31_minRunLength_1 : List UInt8 := dkwJ31_minRunLength_1 ++ []
def dkwJ31_minRunLength_0 : List UInt8 := [178, 0, 37, 154, 0, 15, 26, 156, 0, 11, 187, 0, 41, 89, 183, 0, 43, 191, 3, 60, 26, 16, 32]
abbrev dktJ31_minRunLength_0 : List UInt8 := dkwJ31_minRunLength_0 ++ dktJ31_minRunLength_1
theorem dksJ31_minRunLength_0 : cJ31_minRunLength.data.toList.drop 0 = dktJ31_minRunLength_0 := by decide +kernel
theorem dksJ31_minRunLength_1 : cJ31_minRunLength.data.toList.drop 23 = dktJ31_minRunLength_1 := dk_seg dksJ31_minRunLength_0 23 rfl rfl
theorem dJ31_minRunLength_0 : decode cJ31_minRunLength 0 = .ok (.getstatic 37, 3) := dk_178 0 37 (dk_at dksJ31_minRunLength_0 0 rfl rfl)
theorem dJ31_minRunLength_3 : decode cJ31_minRunLength 3 = .ok (.ifCond .ne 15, 3) := dk_154 0 15 (dk_at dksJ31_minRunLength_0 3 rfl rfl)
theorem dJ31_minRunLength_6 : decode cJ31_minRunLength 6 = .ok (.iload_n 0, 1) := dk_26 (dk_at dksJ31_minRunLength_0 6 rfl rfl)
theorem dJ31_minRunLength_7 : decode cJ31_minRunLength 7 = .ok (.ifCond .ge 11, 3) := dk_156 0 11 (dk_at dksJ31_minRunLength_0 7 rfl rfl)
theorem dJ31_minRunLength_10 : decode cJ31_minRunLength 10 = .ok (.new 41, 3) := dk_187 0 41 (dk_at dksJ31_minRunLength_0 10 rfl rfl)
theorem dJ31_minRunLength_13 : decode cJ31_minRunLength 13 = .ok (.dup, 1) := dk_89 (dk_at dksJ31_minRunLength_0 13 rfl rfl)
theorem dJ31_minRunLength_14 : decode cJ31_minRunLength 14 = .ok (.invokespecial 43, 3) := dk_183 0 43 (dk_at dksJ31_minRunLength_0 14 rfl rfl)
theorem dJ31_minRunLength_17 : decode cJ31_minRunLength 17 = .ok (.athrow, 1) := dk_191 (dk_at dksJ31_minRunLength_0 17 rfl rfl)
theorem dJ31_minRunLength_18 : decode cJ31_minRunLength 18 = .ok (.iconst 0, 1) := dk_3 (dk_at dksJ31_minRunLength_0 18 rfl rfl)
theorem dJ31_minRunLength_19 : decode cJ31_minRunLength 19 = .ok (.istore_n 1, 1) := dk_60 (dk_at dksJ31_minRunLength_0 19 rfl rfl)
theorem dJ31_minRunLength_20 : decode cJ31_minRunLength 20 = .ok (.iload_n 0, 1) := dk_26 (dk_at dksJ31_minRunLength_0 20 rfl rfl)
theorem dJ31_minRunLength_21 : decode cJ31_minRunLength 21 = .ok (.bipush 32, 2) := dk_16 32 (dk_at dksJ31_minRunLength_0 21 rfl rfl)
theorem dJ31_minRunLength_23 : decode cJ31_minRunLength 23 = .ok (.if_icmp .lt 16, 3) := dk_161 0 16 (dk_at dksJ31_minRunLength_1 0 rfl rfl)
theorem dJ31_minRunLength_26 : decode cJ31_minRunLength 26 = .ok (.iload_n 1, 1) := dk_27 (dk_at dksJ31_minRunLength_1 3 rfl rfl)
theorem dJ31_minRunLength_27 : decode cJ31_minRunLength 27 = .ok (.iload_n 0, 1) := dk_26 (dk_at dksJ31_minRunLength_1 4 rfl rfl)
theorem dJ31_minRunLength_28 : decode cJ31_minRunLength 28 = .ok (.iconst 1, 1) := dk_4 (dk_at dksJ31_minRunLength_1 5 rfl rfl)
theorem dJ31_minRunLength_29 : decode cJ31_minRunLength 29 = .ok (.iand, 1) := dk_126 (dk_at dksJ31_minRunLength_1 6 rfl rfl)
theorem dJ31_minRunLength_30 : decode cJ31_minRunLength 30 = .ok (.ior, 1) := dk_128 (dk_at dksJ31_minRunLength_1 7 rfl rfl)
theorem dJ31_minRunLength_31 : decode cJ31_minRunLength 31 = .ok (.istore_n 1, 1) := dk_60 (dk_at dksJ31_minRunLength_1 8 rfl rfl)
theorem dJ31_minRunLength_32 : decode cJ31_minRunLength 32 = .ok (.iload_n 0, 1) := dk_26 (dk_at dksJ31_minRunLength_1 9 rfl rfl)
theorem dJ31_minRunLength_33 : decode cJ31_minRunLength 33 = .ok (.iconst 1, 1) := dk_4 (dk_at dksJ31_minRunLength_1 10 rfl rfl)
theorem dJ31_minRunLength_34 : decode cJ31_minRunLength 34 = .ok (.ishr, 1) := dk_122 (dk_at dksJ31_minRunLength_1 11 rfl rfl)
theorem dJ31_minRunLength_35 : decode cJ31_minRunLength 35 = .ok (.istore_n 0, 1) := dk_59 (dk_at dksJ31_minRunLength_1 12 rfl rfl)
theorem dJ31_minRunLength_36 : decode cJ31_minRunLength 36 = .ok (.goto (-16), 3) := dk_167 255 240 (dk_at dksJ31_minRunLength_1 13 rfl rfl)
theorem dJ31_minRunLength_39 : decode cJ31_minRunLength 39 = .ok (.iload_n 0, 1) := dk_26 (dk_at dksJ31_minRunLength_1 16 rfl rfl)
theorem dJ31_minRunLength_40 : decode cJ31_minRunLength 40 = .ok (.iload_n 1, 1) := dk_27 (dk_at dksJ31_minRunLength_1 17 rfl rfl)
theorem dJ31_minRunLength_41 : decode cJ31_minRunLength 41 = .ok (.iadd, 1) := dk_96 (dk_at dksJ31_minRunLength_1 18 rfl rfl)
theorem dJ31_minRunLength_42 : decode cJ31_minRunLength 42 = .ok (.ireturn, 1) := dk_172 (dk_at dksJ31_minRunLength_1 19 rfl rfl)
theorem c72010 : jtCode 72010 = cJ31_minRunLength := rfl
theorem F72010_0 (d : Nat) (i0 : Int32) (h : AH) : G2 d 72010 0 [.int i0, jno] [] h = if (1 : Int32) = 0 then (if 0 ≤ i0 then (G2 d 72010 20 [.int i0, .int 0] [] h) else (G2 d 72010 10 [.int i0, jno] [] h)) else (G2 d 72010 20 [.int i0, .int 0] [] h) := by
  refine (g_getsIH (x := 1) c72010 dJ31_minRunLength_0 rfl rfl).trans ?_
  refine (g_if_neH (tgt := 18) c72010 dJ31_minRunLength_3 rfl).trans (if_cg ?_ ?_)
  · skip
    refine (g_iload_nH c72010 dJ31_minRunLength_6 rfl).trans ?_
    refine (g_if_geH (tgt := 18) c72010 dJ31_minRunLength_7 rfl).trans (if_cg ?_ ?_)
    · skip
      refine (g_iconstH (x := 0) c72010 dJ31_minRunLength_18 rfl).trans ?_
      refine (g_istore_nH (L' := [.int i0, .int 0]) c72010 dJ31_minRunLength_19 rfl rfl).trans ?_
      rfl
    · skip
      rfl
  · skip
    refine (g_iconstH (x := 0) c72010 dJ31_minRunLength_18 rfl).trans ?_
    refine (g_istore_nH (L' := [.int i0, .int 0]) c72010 dJ31_minRunLength_19 rfl rfl).trans ?_
    rfl
theorem F72010_20 (d : Nat) (i0 : Int32) (i1 : Int32) (h : AH) : G2 d 72010 20 [.int i0, .int i1] [] h = if i0 < 32 then (some (.inl (some (.int (i0 + i1))), h)) else (G2 d 72010 20 [.int (i0 >>> ((1 : Int32) &&& 31)), .int (i1 ||| (i0 &&& 1))] [] h) := by
  refine (g_iload_nH c72010 dJ31_minRunLength_20 rfl).trans ?_
  refine (g_bipushH (x := 32) c72010 dJ31_minRunLength_21 rfl).trans ?_
  refine (g_icmp_ltH (tgt := 39) c72010 dJ31_minRunLength_23 rfl).trans (if_cg ?_ ?_)
  · skip
    refine (g_iload_nH c72010 dJ31_minRunLength_39 rfl).trans ?_
    refine (g_iload_nH c72010 dJ31_minRunLength_40 rfl).trans ?_
    refine (g_iaddH c72010 dJ31_minRunLength_41).trans ?_
    exact g_ireturnH c72010 dJ31_minRunLength_42 rfl
  · skip
    refine (g_iload_nH c72010 dJ31_minRunLength_26 rfl).trans ?_
    refine (g_iload_nH c72010 dJ31_minRunLength_27 rfl).trans ?_
    refine (g_iconstH (x := 1) c72010 dJ31_minRunLength_28 rfl).trans ?_
    refine (g_iandH c72010 dJ31_minRunLength_29).trans ?_
    refine (g_iorH c72010 dJ31_minRunLength_30).trans ?_
    refine (g_istore_nH (L' := [.int i0, .int (i1 ||| (i0 &&& 1))]) c72010 dJ31_minRunLength_31 rfl rfl).trans ?_
    refine (g_iload_nH c72010 dJ31_minRunLength_32 rfl).trans ?_
    refine (g_iconstH (x := 1) c72010 dJ31_minRunLength_33 rfl).trans ?_
    refine (g_ishrH c72010 dJ31_minRunLength_34).trans ?_
    refine (g_istore_nH (L' := [.int (i0 >>> ((1 : Int32) &&& 31)), .int (i1 ||| (i0 &&& 1))]) c72010 dJ31_minRunLength_35 rfl rfl).trans ?_
    refine (g_gotoH (tgt := 20) c72010 dJ31_minRunLength_36 rfl).trans ?_
    rfl
theorem Y72010 {d : Nat} {i0 : Int32} (h : AH) : M2 (d + 1) 72010 [.int i0] h = G2 d 72010 0 [.int i0, jno] [] h := M2_eq rfl rfl rfl rfl
/-! java/util/ComparableTimSort.pushRun(II)V -/
abbrev cJ31_pushRun : ByteArray := prog_74_method_7_code
def dkwJ31_pushRun_1 : List UInt8 := [180, 0, 13, 4, 96, 181, 0, 13, 177]
abbrev dktJ31_pushRun_1 : List UInt8 := dkwJ31_pushRun_1 ++ []
def dkwJ31_pushRun_0 : List UInt8 := [42, 180, 0, 30, 42, 180, 0, 13, 27, 79, 42, 180, 0, 34, 42, 180, 0, 13, 28, 79, 42, 89]
abbrev dktJ31_pushRun_0 : List UInt8 := dkwJ31_pushRun_0 ++ dktJ31_pushRun_1
theorem dksJ31_pushRun_0 : cJ31_pushRun.data.toList.drop 0 = dktJ31_pushRun_0 := by decide +kernel
theorem dksJ31_pushRun_1 : cJ31_pushRun.data.toList.drop 22 = dktJ31_pushRun_1 := dk_seg dksJ31_pushRun_0 22 rfl rfl
theorem dJ31_pushRun_0 : decode cJ31_pushRun 0 = .ok (.aload_n 0, 1) := dk_42 (dk_at dksJ31_pushRun_0 0 rfl rfl)
theorem dJ31_pushRun_1 : decode cJ31_pushRun 1 = .ok (.getfield 30, 3) := dk_180 0 30 (dk_at dksJ31_pushRun_0 1 rfl rfl)
theorem dJ31_pushRun_4 : decode cJ31_pushRun 4 = .ok (.aload_n 0, 1) := dk_42 (dk_at dksJ31_pushRun_0 4 rfl rfl)
theorem dJ31_pushRun_5 : decode cJ31_pushRun 5 = .ok (.getfield 13, 3) := dk_180 0 13 (dk_at dksJ31_pushRun_0 5 rfl rfl)
theorem dJ31_pushRun_8 : decode cJ31_pushRun 8 = .ok (.iload_n 1, 1) := dk_27 (dk_at dksJ31_pushRun_0 8 rfl rfl)
theorem dJ31_pushRun_9 : decode cJ31_pushRun 9 = .ok (.iastore, 1) := dk_79 (dk_at dksJ31_pushRun_0 9 rfl rfl)
theorem dJ31_pushRun_10 : decode cJ31_pushRun 10 = .ok (.aload_n 0, 1) := dk_42 (dk_at dksJ31_pushRun_0 10 rfl rfl)
theorem dJ31_pushRun_11 : decode cJ31_pushRun 11 = .ok (.getfield 34, 3) := dk_180 0 34 (dk_at dksJ31_pushRun_0 11 rfl rfl)
theorem dJ31_pushRun_14 : decode cJ31_pushRun 14 = .ok (.aload_n 0, 1) := dk_42 (dk_at dksJ31_pushRun_0 14 rfl rfl)
theorem dJ31_pushRun_15 : decode cJ31_pushRun 15 = .ok (.getfield 13, 3) := dk_180 0 13 (dk_at dksJ31_pushRun_0 15 rfl rfl)
theorem dJ31_pushRun_18 : decode cJ31_pushRun 18 = .ok (.iload_n 2, 1) := dk_28 (dk_at dksJ31_pushRun_0 18 rfl rfl)
theorem dJ31_pushRun_19 : decode cJ31_pushRun 19 = .ok (.iastore, 1) := dk_79 (dk_at dksJ31_pushRun_0 19 rfl rfl)
theorem dJ31_pushRun_20 : decode cJ31_pushRun 20 = .ok (.aload_n 0, 1) := dk_42 (dk_at dksJ31_pushRun_0 20 rfl rfl)
theorem dJ31_pushRun_21 : decode cJ31_pushRun 21 = .ok (.dup, 1) := dk_89 (dk_at dksJ31_pushRun_0 21 rfl rfl)
theorem dJ31_pushRun_22 : decode cJ31_pushRun 22 = .ok (.getfield 13, 3) := dk_180 0 13 (dk_at dksJ31_pushRun_1 0 rfl rfl)
theorem dJ31_pushRun_25 : decode cJ31_pushRun 25 = .ok (.iconst 1, 1) := dk_4 (dk_at dksJ31_pushRun_1 3 rfl rfl)
theorem dJ31_pushRun_26 : decode cJ31_pushRun 26 = .ok (.iadd, 1) := dk_96 (dk_at dksJ31_pushRun_1 4 rfl rfl)
theorem dJ31_pushRun_27 : decode cJ31_pushRun 27 = .ok (.putfield 13, 3) := dk_181 0 13 (dk_at dksJ31_pushRun_1 5 rfl rfl)
theorem dJ31_pushRun_30 : decode cJ31_pushRun 30 = .ok (.return_, 1) := dk_177 (dk_at dksJ31_pushRun_1 8 rfl rfl)
theorem c72011 : jtCode 72011 = cJ31_pushRun := rfl
theorem F72011_0 (d : Nat) (a0 : Nat) (i1 : Int32) (i2 : Int32) (h : AH) : G2 d 72011 0 [.ref a0, .int i1, .int i2] [] h = zpR (jf (jc h (.ref a0)) [72] 6) (fun r1 => zpI (jf (jc h (.ref a0)) [72] 5) (fun x2 => zqS h r1 [1000] x2 (.int i1) (fun h3 => zpR (jf (jc h3 (.ref a0)) [72] 7) (fun r4 => zpI (jf (jc h3 (.ref a0)) [72] 5) (fun x5 => zqS h3 r4 [1000] x5 (.int i2) (fun h6 => zpI (jf (jc h6 (.ref a0)) [72] 5) (fun x7 => zqF h6 (.ref a0) [72] 5 0 (.int (x7 + 1)) (fun h8 => some (.inl none, h8)) ()) ()) ()) ()) ()) ()) ()) () := by
  refine (g_aload_nH c72011 dJ31_pushRun_0 rfl).trans ?_
  refine (g_getRH c72011 dJ31_pushRun_1 rfl).trans (rR_cg fun r1 => ?_)
  refine (g_aload_nH c72011 dJ31_pushRun_4 rfl).trans ?_
  refine (g_getIH c72011 dJ31_pushRun_5 rfl rfl).trans (rI_cg fun x2 => ?_)
  refine (g_iload_nH c72011 dJ31_pushRun_8 rfl).trans ?_
  refine (g_iastoreH c72011 dJ31_pushRun_9).trans (aS_cg fun h3 => ?_)
  refine (g_aload_nH c72011 dJ31_pushRun_10 rfl).trans ?_
  refine (g_getRH c72011 dJ31_pushRun_11 rfl).trans (rR_cg fun r4 => ?_)
  refine (g_aload_nH c72011 dJ31_pushRun_14 rfl).trans ?_
  refine (g_getIH c72011 dJ31_pushRun_15 rfl rfl).trans (rI_cg fun x5 => ?_)
  refine (g_iload_nH c72011 dJ31_pushRun_18 rfl).trans ?_
  refine (g_iastoreH c72011 dJ31_pushRun_19).trans (aS_cg fun h6 => ?_)
  refine (g_aload_nH c72011 dJ31_pushRun_20 rfl).trans ?_
  refine (g_dup_rH c72011 dJ31_pushRun_21).trans ?_
  refine (g_getIH c72011 dJ31_pushRun_22 rfl rfl).trans (rI_cg fun x7 => ?_)
  refine (g_iconstH (x := 1) c72011 dJ31_pushRun_25 rfl).trans ?_
  refine (g_iaddH c72011 dJ31_pushRun_26).trans ?_
  refine (g_putH c72011 dJ31_pushRun_27 rfl).trans (pF_cg fun h8 => ?_)
  exact g_returnH c72011 dJ31_pushRun_30 rfl
theorem Y72011 {d : Nat} {a0 : Nat} {i1 : Int32} {i2 : Int32} (h : AH) (hr : jrecv 72011 [.ref a0, .int i1, .int i2] h = true) : M2 (d + 1) 72011 [.ref a0, .int i1, .int i2] h = G2 d 72011 0 [.ref a0, .int i1, .int i2] [] h := M2_eq rfl rfl hr rfl
/-! java/util/ComparableTimSort.reverseRange([Ljava/lang/Object;II)V -/
abbrev cJ31_reverseRange : ByteArray := prog_74_method_5_code
def dkwJ31_reverseRange_1 : List UInt8 := [132, 2, 255, 45, 83, 167, 255, 231, 177]
abbrev dktJ31_reverseRange_1 : List UInt8 := dkwJ31_reverseRange_1 ++ []
def dkwJ31_reverseRange_0 : List UInt8 := [132, 2, 255, 27, 28, 162, 0, 26, 42, 27, 50, 78, 42, 27, 132, 1, 1, 42, 28, 50, 83, 42, 28]
abbrev dktJ31_reverseRange_0 : List UInt8 := dkwJ31_reverseRange_0 ++ dktJ31_reverseRange_1
theorem dksJ31_reverseRange_0 : cJ31_reverseRange.data.toList.drop 0 = dktJ31_reverseRange_0 := by decide +kernel
theorem dksJ31_reverseRange_1 : cJ31_reverseRange.data.toList.drop 23 = dktJ31_reverseRange_1 := dk_seg dksJ31_reverseRange_0 23 rfl rfl
theorem dJ31_reverseRange_0 : decode cJ31_reverseRange 0 = .ok (.iinc 2 (-1), 3) := dk_132 2 255 (dk_at dksJ31_reverseRange_0 0 rfl rfl)
theorem dJ31_reverseRange_3 : decode cJ31_reverseRange 3 = .ok (.iload_n 1, 1) := dk_27 (dk_at dksJ31_reverseRange_0 3 rfl rfl)
theorem dJ31_reverseRange_4 : decode cJ31_reverseRange 4 = .ok (.iload_n 2, 1) := dk_28 (dk_at dksJ31_reverseRange_0 4 rfl rfl)
theorem dJ31_reverseRange_5 : decode cJ31_reverseRange 5 = .ok (.if_icmp .ge 26, 3) := dk_162 0 26 (dk_at dksJ31_reverseRange_0 5 rfl rfl)
theorem dJ31_reverseRange_8 : decode cJ31_reverseRange 8 = .ok (.aload_n 0, 1) := dk_42 (dk_at dksJ31_reverseRange_0 8 rfl rfl)
theorem dJ31_reverseRange_9 : decode cJ31_reverseRange 9 = .ok (.iload_n 1, 1) := dk_27 (dk_at dksJ31_reverseRange_0 9 rfl rfl)
theorem dJ31_reverseRange_10 : decode cJ31_reverseRange 10 = .ok (.aaload, 1) := dk_50 (dk_at dksJ31_reverseRange_0 10 rfl rfl)
theorem dJ31_reverseRange_11 : decode cJ31_reverseRange 11 = .ok (.astore_n 3, 1) := dk_78 (dk_at dksJ31_reverseRange_0 11 rfl rfl)
theorem dJ31_reverseRange_12 : decode cJ31_reverseRange 12 = .ok (.aload_n 0, 1) := dk_42 (dk_at dksJ31_reverseRange_0 12 rfl rfl)
theorem dJ31_reverseRange_13 : decode cJ31_reverseRange 13 = .ok (.iload_n 1, 1) := dk_27 (dk_at dksJ31_reverseRange_0 13 rfl rfl)
theorem dJ31_reverseRange_14 : decode cJ31_reverseRange 14 = .ok (.iinc 1 1, 3) := dk_132 1 1 (dk_at dksJ31_reverseRange_0 14 rfl rfl)
theorem dJ31_reverseRange_17 : decode cJ31_reverseRange 17 = .ok (.aload_n 0, 1) := dk_42 (dk_at dksJ31_reverseRange_0 17 rfl rfl)
theorem dJ31_reverseRange_18 : decode cJ31_reverseRange 18 = .ok (.iload_n 2, 1) := dk_28 (dk_at dksJ31_reverseRange_0 18 rfl rfl)
theorem dJ31_reverseRange_19 : decode cJ31_reverseRange 19 = .ok (.aaload, 1) := dk_50 (dk_at dksJ31_reverseRange_0 19 rfl rfl)
theorem dJ31_reverseRange_20 : decode cJ31_reverseRange 20 = .ok (.aastore, 1) := dk_83 (dk_at dksJ31_reverseRange_0 20 rfl rfl)
theorem dJ31_reverseRange_21 : decode cJ31_reverseRange 21 = .ok (.aload_n 0, 1) := dk_42 (dk_at dksJ31_reverseRange_0 21 rfl rfl)
theorem dJ31_reverseRange_22 : decode cJ31_reverseRange 22 = .ok (.iload_n 2, 1) := dk_28 (dk_at dksJ31_reverseRange_0 22 rfl rfl)
theorem dJ31_reverseRange_23 : decode cJ31_reverseRange 23 = .ok (.iinc 2 (-1), 3) := dk_132 2 255 (dk_at dksJ31_reverseRange_1 0 rfl rfl)
theorem dJ31_reverseRange_26 : decode cJ31_reverseRange 26 = .ok (.aload_n 3, 1) := dk_45 (dk_at dksJ31_reverseRange_1 3 rfl rfl)
theorem dJ31_reverseRange_27 : decode cJ31_reverseRange 27 = .ok (.aastore, 1) := dk_83 (dk_at dksJ31_reverseRange_1 4 rfl rfl)
theorem dJ31_reverseRange_28 : decode cJ31_reverseRange 28 = .ok (.goto (-25), 3) := dk_167 255 231 (dk_at dksJ31_reverseRange_1 5 rfl rfl)
theorem dJ31_reverseRange_31 : decode cJ31_reverseRange 31 = .ok (.return_, 1) := dk_177 (dk_at dksJ31_reverseRange_1 8 rfl rfl)
theorem c72012 : jtCode 72012 = cJ31_reverseRange := rfl
theorem F72012_0 (d : Nat) (v0 : Value) (i1 : Int32) (i2 : Int32) (h : AH) : G2 d 72012 0 [v0, .int i1, .int i2, jno] [] h = G2 d 72012 3 [v0, .int i1, .int (i2 + (-1)), jno] [] h := by
  refine (g_iincH (c := (-1)) (L' := [v0, .int i1, .int (i2 + (-1)), jno]) c72012 dJ31_reverseRange_0 rfl rfl rfl rfl).trans ?_
  rfl
theorem F72012_3 (d : Nat) (v0 : Value) (i1 : Int32) (i2 : Int32) (v3 : Value) (h : AH) : G2 d 72012 3 [v0, .int i1, .int i2, v3] [] h = if i2 ≤ i1 then (some (.inl none, h)) else (zkR v0 (zqG h v0 [1040, 1041, 1050, 1060, 1071] i1 (fun w1 => zpR w1 (fun r2 => zkR r2 (zkR v0 (zkR v0 (zqG h v0 [1040, 1041, 1050, 1060, 1071] i2 (fun w3 => zpR w3 (fun r4 => zqA h v0 r4 i1 (fun h5 => zkR v0 (zkR r2 (zqA h5 v0 r2 i2 (fun h6 => G2 d 72012 3 [v0, .int (i1 + 1), .int (i2 + (-1)), r2] [] h6) ()) ()) ()) ()) ()) ()) ()) ()) ()) ()) ()) ()) := by
  refine (g_iload_nH c72012 dJ31_reverseRange_3 rfl).trans ?_
  refine (g_iload_nH c72012 dJ31_reverseRange_4 rfl).trans ?_
  refine (g_icmp_geH (tgt := 31) c72012 dJ31_reverseRange_5 rfl).trans (if_cg ?_ ?_)
  · skip
    exact g_returnH c72012 dJ31_reverseRange_31 rfl
  · skip
    refine (g_aload_nVH c72012 dJ31_reverseRange_8 rfl).trans (ckR_cg ?_)
    refine (g_iload_nH c72012 dJ31_reverseRange_9 rfl).trans ?_
    refine (g_aaloadH c72012 dJ31_reverseRange_10).trans (aG_cg fun w1 => rR_cg fun r2 => ?_)
    refine (g_astore_nVH (L' := [v0, .int i1, .int i2, r2]) c72012 dJ31_reverseRange_11 rfl rfl).trans (ckR_cg ?_)
    refine (g_aload_nVH c72012 dJ31_reverseRange_12 rfl).trans (ckR_cg ?_)
    refine (g_iload_nH c72012 dJ31_reverseRange_13 rfl).trans ?_
    refine (g_iincH (c := 1) (L' := [v0, .int (i1 + 1), .int i2, r2]) c72012 dJ31_reverseRange_14 rfl rfl rfl rfl).trans ?_
    refine (g_aload_nVH c72012 dJ31_reverseRange_17 rfl).trans (ckR_cg ?_)
    refine (g_iload_nH c72012 dJ31_reverseRange_18 rfl).trans ?_
    refine (g_aaloadH c72012 dJ31_reverseRange_19).trans (aG_cg fun w3 => rR_cg fun r4 => ?_)
    refine (g_aastoreH c72012 dJ31_reverseRange_20).trans (aSr_cg fun h5 => ?_)
    refine (g_aload_nVH c72012 dJ31_reverseRange_21 rfl).trans (ckR_cg ?_)
    refine (g_iload_nH c72012 dJ31_reverseRange_22 rfl).trans ?_
    refine (g_iincH (c := (-1)) (L' := [v0, .int (i1 + 1), .int (i2 + (-1)), r2]) c72012 dJ31_reverseRange_23 rfl rfl rfl rfl).trans ?_
    refine (g_aload_nVH c72012 dJ31_reverseRange_26 rfl).trans (ckR_cg ?_)
    refine (g_aastoreH c72012 dJ31_reverseRange_27).trans (aSr_cg fun h6 => ?_)
    refine (g_gotoH (tgt := 3) c72012 dJ31_reverseRange_28 rfl).trans ?_
    rfl
theorem Y72012 {d : Nat} {v0 : Value} {i1 : Int32} {i2 : Int32} (h : AH) (hv0 : isR v0 = true) : M2 (d + 1) 72012 [v0, .int i1, .int i2] h = G2 d 72012 0 [v0, .int i1, .int i2, jno] [] h := M2_eq rfl rfl rfl (by simp only [jent, jargL_R hv0, jargL]; rfl)
/-! java/util/ComparableTimSort.sort([Ljava/lang/Object;II[Ljava/lang/Object;II)V -/
abbrev cJ31_sort : ByteArray := prog_74_method_2_code
def dkwJ31_sort_9 : List UInt8 := [187, 0, 41, 89, 183, 0, 43, 191, 177]
abbrev dktJ31_sort_9 : List UInt8 := dkwJ31_sort_9 ++ []
def dkwJ31_sort_8 : List UInt8 := [183, 0, 43, 191, 25, 7, 182, 0, 66, 178, 0, 37, 154, 0, 20, 25, 7, 180, 0, 13, 4, 159, 0, 11]
abbrev dktJ31_sort_8 : List UInt8 := dkwJ31_sort_8 ++ dktJ31_sort_9
def dkwJ31_sort_7 : List UInt8 := [100, 54, 6, 21, 6, 154, 255, 181, 178, 0, 37, 154, 0, 16, 27, 28, 159, 0, 11, 187, 0, 41, 89]
abbrev dktJ31_sort_7 : List UInt8 := dkwJ31_sort_7 ++ dktJ31_sort_8
def dkwJ31_sort_6 : List UInt8 := [54, 9, 25, 7, 27, 21, 9, 182, 0, 59, 25, 7, 182, 0, 63, 27, 21, 9, 96, 60, 21, 6, 21, 9]
abbrev dktJ31_sort_6 : List UInt8 := dkwJ31_sort_6 ++ dktJ31_sort_7
def dkwJ31_sort_5 : List UInt8 := [21, 6, 167, 0, 5, 21, 8, 54, 10, 42, 27, 27, 21, 10, 96, 27, 21, 9, 96, 184, 0, 48, 21, 10]
abbrev dktJ31_sort_5 : List UInt8 := dkwJ31_sort_5 ++ dktJ31_sort_6
def dkwJ31_sort_4 : List UInt8 := [54, 8, 42, 27, 28, 184, 0, 44, 54, 9, 21, 9, 21, 8, 162, 0, 36, 21, 6, 21, 8, 163, 0, 8]
abbrev dktJ31_sort_4 : List UInt8 := dkwJ31_sort_4 ++ dktJ31_sort_5
def dkwJ31_sort_3 : List UInt8 := [184, 0, 48, 177, 187, 0, 7, 89, 42, 45, 21, 4, 21, 5, 183, 0, 52, 58, 7, 21, 6, 184, 0, 55]
abbrev dktJ31_sort_3 : List UInt8 := dkwJ31_sort_3 ++ dktJ31_sort_4
def dkwJ31_sort_2 : List UInt8 := [21, 6, 16, 32, 162, 0, 22, 42, 27, 28, 184, 0, 44, 54, 7, 42, 27, 28, 27, 21, 7, 96]
abbrev dktJ31_sort_2 : List UInt8 := dkwJ31_sort_2 ++ dktJ31_sort_3
def dkwJ31_sort_1 : List UInt8 := [164, 0, 11, 187, 0, 41, 89, 183, 0, 43, 191, 28, 27, 100, 54, 6, 21, 6, 5, 162, 0, 4, 177]
abbrev dktJ31_sort_1 : List UInt8 := dkwJ31_sort_1 ++ dktJ31_sort_2
def dkwJ31_sort_0 : List UInt8 := [178, 0, 37, 154, 0, 30, 42, 198, 0, 18, 27, 155, 0, 14, 27, 28, 163, 0, 9, 28, 42, 190]
abbrev dktJ31_sort_0 : List UInt8 := dkwJ31_sort_0 ++ dktJ31_sort_1
theorem dksJ31_sort_0 : cJ31_sort.data.toList.drop 0 = dktJ31_sort_0 := by decide +kernel
theorem dksJ31_sort_1 : cJ31_sort.data.toList.drop 22 = dktJ31_sort_1 := dk_seg dksJ31_sort_0 22 rfl rfl
theorem dksJ31_sort_2 : cJ31_sort.data.toList.drop 45 = dktJ31_sort_2 := dk_seg dksJ31_sort_1 23 rfl rfl
theorem dksJ31_sort_3 : cJ31_sort.data.toList.drop 67 = dktJ31_sort_3 := dk_seg dksJ31_sort_2 22 rfl rfl
theorem dksJ31_sort_4 : cJ31_sort.data.toList.drop 91 = dktJ31_sort_4 := dk_seg dksJ31_sort_3 24 rfl rfl
theorem dksJ31_sort_5 : cJ31_sort.data.toList.drop 115 = dktJ31_sort_5 := dk_seg dksJ31_sort_4 24 rfl rfl
theorem dksJ31_sort_6 : cJ31_sort.data.toList.drop 139 = dktJ31_sort_6 := dk_seg dksJ31_sort_5 24 rfl rfl
theorem dksJ31_sort_7 : cJ31_sort.data.toList.drop 163 = dktJ31_sort_7 := dk_seg dksJ31_sort_6 24 rfl rfl
theorem dksJ31_sort_8 : cJ31_sort.data.toList.drop 186 = dktJ31_sort_8 := dk_seg dksJ31_sort_7 23 rfl rfl
theorem dksJ31_sort_9 : cJ31_sort.data.toList.drop 210 = dktJ31_sort_9 := dk_seg dksJ31_sort_8 24 rfl rfl
theorem dJ31_sort_0 : decode cJ31_sort 0 = .ok (.getstatic 37, 3) := dk_178 0 37 (dk_at dksJ31_sort_0 0 rfl rfl)
theorem dJ31_sort_3 : decode cJ31_sort 3 = .ok (.ifCond .ne 30, 3) := dk_154 0 30 (dk_at dksJ31_sort_0 3 rfl rfl)
theorem dJ31_sort_6 : decode cJ31_sort 6 = .ok (.aload_n 0, 1) := dk_42 (dk_at dksJ31_sort_0 6 rfl rfl)
theorem dJ31_sort_7 : decode cJ31_sort 7 = .ok (.ifnull 18, 3) := dk_198 0 18 (dk_at dksJ31_sort_0 7 rfl rfl)
theorem dJ31_sort_10 : decode cJ31_sort 10 = .ok (.iload_n 1, 1) := dk_27 (dk_at dksJ31_sort_0 10 rfl rfl)
theorem dJ31_sort_11 : decode cJ31_sort 11 = .ok (.ifCond .lt 14, 3) := dk_155 0 14 (dk_at dksJ31_sort_0 11 rfl rfl)
theorem dJ31_sort_14 : decode cJ31_sort 14 = .ok (.iload_n 1, 1) := dk_27 (dk_at dksJ31_sort_0 14 rfl rfl)
theorem dJ31_sort_15 : decode cJ31_sort 15 = .ok (.iload_n 2, 1) := dk_28 (dk_at dksJ31_sort_0 15 rfl rfl)
theorem dJ31_sort_16 : decode cJ31_sort 16 = .ok (.if_icmp .gt 9, 3) := dk_163 0 9 (dk_at dksJ31_sort_0 16 rfl rfl)
theorem dJ31_sort_19 : decode cJ31_sort 19 = .ok (.iload_n 2, 1) := dk_28 (dk_at dksJ31_sort_0 19 rfl rfl)
theorem dJ31_sort_20 : decode cJ31_sort 20 = .ok (.aload_n 0, 1) := dk_42 (dk_at dksJ31_sort_0 20 rfl rfl)
theorem dJ31_sort_21 : decode cJ31_sort 21 = .ok (.arraylength, 1) := dk_190 (dk_at dksJ31_sort_0 21 rfl rfl)
theorem dJ31_sort_22 : decode cJ31_sort 22 = .ok (.if_icmp .le 11, 3) := dk_164 0 11 (dk_at dksJ31_sort_1 0 rfl rfl)
theorem dJ31_sort_25 : decode cJ31_sort 25 = .ok (.new 41, 3) := dk_187 0 41 (dk_at dksJ31_sort_1 3 rfl rfl)
theorem dJ31_sort_28 : decode cJ31_sort 28 = .ok (.dup, 1) := dk_89 (dk_at dksJ31_sort_1 6 rfl rfl)
theorem dJ31_sort_29 : decode cJ31_sort 29 = .ok (.invokespecial 43, 3) := dk_183 0 43 (dk_at dksJ31_sort_1 7 rfl rfl)
theorem dJ31_sort_32 : decode cJ31_sort 32 = .ok (.athrow, 1) := dk_191 (dk_at dksJ31_sort_1 10 rfl rfl)
theorem dJ31_sort_33 : decode cJ31_sort 33 = .ok (.iload_n 2, 1) := dk_28 (dk_at dksJ31_sort_1 11 rfl rfl)
theorem dJ31_sort_34 : decode cJ31_sort 34 = .ok (.iload_n 1, 1) := dk_27 (dk_at dksJ31_sort_1 12 rfl rfl)
theorem dJ31_sort_35 : decode cJ31_sort 35 = .ok (.isub, 1) := dk_100 (dk_at dksJ31_sort_1 13 rfl rfl)
theorem dJ31_sort_36 : decode cJ31_sort 36 = .ok (.istore 6, 2) := dk_54 6 (dk_at dksJ31_sort_1 14 rfl rfl)
theorem dJ31_sort_38 : decode cJ31_sort 38 = .ok (.iload 6, 2) := dk_21 6 (dk_at dksJ31_sort_1 16 rfl rfl)
theorem dJ31_sort_40 : decode cJ31_sort 40 = .ok (.iconst 2, 1) := dk_5 (dk_at dksJ31_sort_1 18 rfl rfl)
theorem dJ31_sort_41 : decode cJ31_sort 41 = .ok (.if_icmp .ge 4, 3) := dk_162 0 4 (dk_at dksJ31_sort_1 19 rfl rfl)
theorem dJ31_sort_44 : decode cJ31_sort 44 = .ok (.return_, 1) := dk_177 (dk_at dksJ31_sort_1 22 rfl rfl)
theorem dJ31_sort_45 : decode cJ31_sort 45 = .ok (.iload 6, 2) := dk_21 6 (dk_at dksJ31_sort_2 0 rfl rfl)
theorem dJ31_sort_47 : decode cJ31_sort 47 = .ok (.bipush 32, 2) := dk_16 32 (dk_at dksJ31_sort_2 2 rfl rfl)
theorem dJ31_sort_49 : decode cJ31_sort 49 = .ok (.if_icmp .ge 22, 3) := dk_162 0 22 (dk_at dksJ31_sort_2 4 rfl rfl)
theorem dJ31_sort_52 : decode cJ31_sort 52 = .ok (.aload_n 0, 1) := dk_42 (dk_at dksJ31_sort_2 7 rfl rfl)
theorem dJ31_sort_53 : decode cJ31_sort 53 = .ok (.iload_n 1, 1) := dk_27 (dk_at dksJ31_sort_2 8 rfl rfl)
theorem dJ31_sort_54 : decode cJ31_sort 54 = .ok (.iload_n 2, 1) := dk_28 (dk_at dksJ31_sort_2 9 rfl rfl)
theorem dJ31_sort_55 : decode cJ31_sort 55 = .ok (.invokestatic 44, 3) := dk_184 0 44 (dk_at dksJ31_sort_2 10 rfl rfl)
theorem dJ31_sort_58 : decode cJ31_sort 58 = .ok (.istore 7, 2) := dk_54 7 (dk_at dksJ31_sort_2 13 rfl rfl)
theorem dJ31_sort_60 : decode cJ31_sort 60 = .ok (.aload_n 0, 1) := dk_42 (dk_at dksJ31_sort_2 15 rfl rfl)
theorem dJ31_sort_61 : decode cJ31_sort 61 = .ok (.iload_n 1, 1) := dk_27 (dk_at dksJ31_sort_2 16 rfl rfl)
theorem dJ31_sort_62 : decode cJ31_sort 62 = .ok (.iload_n 2, 1) := dk_28 (dk_at dksJ31_sort_2 17 rfl rfl)
theorem dJ31_sort_63 : decode cJ31_sort 63 = .ok (.iload_n 1, 1) := dk_27 (dk_at dksJ31_sort_2 18 rfl rfl)
theorem dJ31_sort_64 : decode cJ31_sort 64 = .ok (.iload 7, 2) := dk_21 7 (dk_at dksJ31_sort_2 19 rfl rfl)
theorem dJ31_sort_66 : decode cJ31_sort 66 = .ok (.iadd, 1) := dk_96 (dk_at dksJ31_sort_2 21 rfl rfl)
theorem dJ31_sort_67 : decode cJ31_sort 67 = .ok (.invokestatic 48, 3) := dk_184 0 48 (dk_at dksJ31_sort_3 0 rfl rfl)
theorem dJ31_sort_70 : decode cJ31_sort 70 = .ok (.return_, 1) := dk_177 (dk_at dksJ31_sort_3 3 rfl rfl)
theorem dJ31_sort_71 : decode cJ31_sort 71 = .ok (.new 7, 3) := dk_187 0 7 (dk_at dksJ31_sort_3 4 rfl rfl)
theorem dJ31_sort_74 : decode cJ31_sort 74 = .ok (.dup, 1) := dk_89 (dk_at dksJ31_sort_3 7 rfl rfl)
theorem dJ31_sort_75 : decode cJ31_sort 75 = .ok (.aload_n 0, 1) := dk_42 (dk_at dksJ31_sort_3 8 rfl rfl)
theorem dJ31_sort_76 : decode cJ31_sort 76 = .ok (.aload_n 3, 1) := dk_45 (dk_at dksJ31_sort_3 9 rfl rfl)
theorem dJ31_sort_77 : decode cJ31_sort 77 = .ok (.iload 4, 2) := dk_21 4 (dk_at dksJ31_sort_3 10 rfl rfl)
theorem dJ31_sort_79 : decode cJ31_sort 79 = .ok (.iload 5, 2) := dk_21 5 (dk_at dksJ31_sort_3 12 rfl rfl)
theorem dJ31_sort_81 : decode cJ31_sort 81 = .ok (.invokespecial 52, 3) := dk_183 0 52 (dk_at dksJ31_sort_3 14 rfl rfl)
theorem dJ31_sort_84 : decode cJ31_sort 84 = .ok (.astore 7, 2) := dk_58 7 (dk_at dksJ31_sort_3 17 rfl rfl)
theorem dJ31_sort_86 : decode cJ31_sort 86 = .ok (.iload 6, 2) := dk_21 6 (dk_at dksJ31_sort_3 19 rfl rfl)
theorem dJ31_sort_88 : decode cJ31_sort 88 = .ok (.invokestatic 55, 3) := dk_184 0 55 (dk_at dksJ31_sort_3 21 rfl rfl)
theorem dJ31_sort_91 : decode cJ31_sort 91 = .ok (.istore 8, 2) := dk_54 8 (dk_at dksJ31_sort_4 0 rfl rfl)
theorem dJ31_sort_93 : decode cJ31_sort 93 = .ok (.aload_n 0, 1) := dk_42 (dk_at dksJ31_sort_4 2 rfl rfl)
theorem dJ31_sort_94 : decode cJ31_sort 94 = .ok (.iload_n 1, 1) := dk_27 (dk_at dksJ31_sort_4 3 rfl rfl)
theorem dJ31_sort_95 : decode cJ31_sort 95 = .ok (.iload_n 2, 1) := dk_28 (dk_at dksJ31_sort_4 4 rfl rfl)
theorem dJ31_sort_96 : decode cJ31_sort 96 = .ok (.invokestatic 44, 3) := dk_184 0 44 (dk_at dksJ31_sort_4 5 rfl rfl)
theorem dJ31_sort_99 : decode cJ31_sort 99 = .ok (.istore 9, 2) := dk_54 9 (dk_at dksJ31_sort_4 8 rfl rfl)
theorem dJ31_sort_101 : decode cJ31_sort 101 = .ok (.iload 9, 2) := dk_21 9 (dk_at dksJ31_sort_4 10 rfl rfl)
theorem dJ31_sort_103 : decode cJ31_sort 103 = .ok (.iload 8, 2) := dk_21 8 (dk_at dksJ31_sort_4 12 rfl rfl)
theorem dJ31_sort_105 : decode cJ31_sort 105 = .ok (.if_icmp .ge 36, 3) := dk_162 0 36 (dk_at dksJ31_sort_4 14 rfl rfl)
theorem dJ31_sort_108 : decode cJ31_sort 108 = .ok (.iload 6, 2) := dk_21 6 (dk_at dksJ31_sort_4 17 rfl rfl)
theorem dJ31_sort_110 : decode cJ31_sort 110 = .ok (.iload 8, 2) := dk_21 8 (dk_at dksJ31_sort_4 19 rfl rfl)
theorem dJ31_sort_112 : decode cJ31_sort 112 = .ok (.if_icmp .gt 8, 3) := dk_163 0 8 (dk_at dksJ31_sort_4 21 rfl rfl)
theorem dJ31_sort_115 : decode cJ31_sort 115 = .ok (.iload 6, 2) := dk_21 6 (dk_at dksJ31_sort_5 0 rfl rfl)
theorem dJ31_sort_117 : decode cJ31_sort 117 = .ok (.goto 5, 3) := dk_167 0 5 (dk_at dksJ31_sort_5 2 rfl rfl)
theorem dJ31_sort_120 : decode cJ31_sort 120 = .ok (.iload 8, 2) := dk_21 8 (dk_at dksJ31_sort_5 5 rfl rfl)
theorem dJ31_sort_122 : decode cJ31_sort 122 = .ok (.istore 10, 2) := dk_54 10 (dk_at dksJ31_sort_5 7 rfl rfl)
theorem dJ31_sort_124 : decode cJ31_sort 124 = .ok (.aload_n 0, 1) := dk_42 (dk_at dksJ31_sort_5 9 rfl rfl)
theorem dJ31_sort_125 : decode cJ31_sort 125 = .ok (.iload_n 1, 1) := dk_27 (dk_at dksJ31_sort_5 10 rfl rfl)
theorem dJ31_sort_126 : decode cJ31_sort 126 = .ok (.iload_n 1, 1) := dk_27 (dk_at dksJ31_sort_5 11 rfl rfl)
theorem dJ31_sort_127 : decode cJ31_sort 127 = .ok (.iload 10, 2) := dk_21 10 (dk_at dksJ31_sort_5 12 rfl rfl)
theorem dJ31_sort_129 : decode cJ31_sort 129 = .ok (.iadd, 1) := dk_96 (dk_at dksJ31_sort_5 14 rfl rfl)
theorem dJ31_sort_130 : decode cJ31_sort 130 = .ok (.iload_n 1, 1) := dk_27 (dk_at dksJ31_sort_5 15 rfl rfl)
theorem dJ31_sort_131 : decode cJ31_sort 131 = .ok (.iload 9, 2) := dk_21 9 (dk_at dksJ31_sort_5 16 rfl rfl)
theorem dJ31_sort_133 : decode cJ31_sort 133 = .ok (.iadd, 1) := dk_96 (dk_at dksJ31_sort_5 18 rfl rfl)
theorem dJ31_sort_134 : decode cJ31_sort 134 = .ok (.invokestatic 48, 3) := dk_184 0 48 (dk_at dksJ31_sort_5 19 rfl rfl)
theorem dJ31_sort_137 : decode cJ31_sort 137 = .ok (.iload 10, 2) := dk_21 10 (dk_at dksJ31_sort_5 22 rfl rfl)
theorem dJ31_sort_139 : decode cJ31_sort 139 = .ok (.istore 9, 2) := dk_54 9 (dk_at dksJ31_sort_6 0 rfl rfl)
theorem dJ31_sort_141 : decode cJ31_sort 141 = .ok (.aload 7, 2) := dk_25 7 (dk_at dksJ31_sort_6 2 rfl rfl)
theorem dJ31_sort_143 : decode cJ31_sort 143 = .ok (.iload_n 1, 1) := dk_27 (dk_at dksJ31_sort_6 4 rfl rfl)
theorem dJ31_sort_144 : decode cJ31_sort 144 = .ok (.iload 9, 2) := dk_21 9 (dk_at dksJ31_sort_6 5 rfl rfl)
theorem dJ31_sort_146 : decode cJ31_sort 146 = .ok (.invokevirtual 59, 3) := dk_182 0 59 (dk_at dksJ31_sort_6 7 rfl rfl)
theorem dJ31_sort_149 : decode cJ31_sort 149 = .ok (.aload 7, 2) := dk_25 7 (dk_at dksJ31_sort_6 10 rfl rfl)
theorem dJ31_sort_151 : decode cJ31_sort 151 = .ok (.invokevirtual 63, 3) := dk_182 0 63 (dk_at dksJ31_sort_6 12 rfl rfl)
theorem dJ31_sort_154 : decode cJ31_sort 154 = .ok (.iload_n 1, 1) := dk_27 (dk_at dksJ31_sort_6 15 rfl rfl)
theorem dJ31_sort_155 : decode cJ31_sort 155 = .ok (.iload 9, 2) := dk_21 9 (dk_at dksJ31_sort_6 16 rfl rfl)
theorem dJ31_sort_157 : decode cJ31_sort 157 = .ok (.iadd, 1) := dk_96 (dk_at dksJ31_sort_6 18 rfl rfl)
theorem dJ31_sort_158 : decode cJ31_sort 158 = .ok (.istore_n 1, 1) := dk_60 (dk_at dksJ31_sort_6 19 rfl rfl)
theorem dJ31_sort_159 : decode cJ31_sort 159 = .ok (.iload 6, 2) := dk_21 6 (dk_at dksJ31_sort_6 20 rfl rfl)
theorem dJ31_sort_161 : decode cJ31_sort 161 = .ok (.iload 9, 2) := dk_21 9 (dk_at dksJ31_sort_6 22 rfl rfl)
theorem dJ31_sort_163 : decode cJ31_sort 163 = .ok (.isub, 1) := dk_100 (dk_at dksJ31_sort_7 0 rfl rfl)
theorem dJ31_sort_164 : decode cJ31_sort 164 = .ok (.istore 6, 2) := dk_54 6 (dk_at dksJ31_sort_7 1 rfl rfl)
theorem dJ31_sort_166 : decode cJ31_sort 166 = .ok (.iload 6, 2) := dk_21 6 (dk_at dksJ31_sort_7 3 rfl rfl)
theorem dJ31_sort_168 : decode cJ31_sort 168 = .ok (.ifCond .ne (-75), 3) := dk_154 255 181 (dk_at dksJ31_sort_7 5 rfl rfl)
theorem dJ31_sort_171 : decode cJ31_sort 171 = .ok (.getstatic 37, 3) := dk_178 0 37 (dk_at dksJ31_sort_7 8 rfl rfl)
theorem dJ31_sort_174 : decode cJ31_sort 174 = .ok (.ifCond .ne 16, 3) := dk_154 0 16 (dk_at dksJ31_sort_7 11 rfl rfl)
theorem dJ31_sort_177 : decode cJ31_sort 177 = .ok (.iload_n 1, 1) := dk_27 (dk_at dksJ31_sort_7 14 rfl rfl)
theorem dJ31_sort_178 : decode cJ31_sort 178 = .ok (.iload_n 2, 1) := dk_28 (dk_at dksJ31_sort_7 15 rfl rfl)
theorem dJ31_sort_179 : decode cJ31_sort 179 = .ok (.if_icmp .eq 11, 3) := dk_159 0 11 (dk_at dksJ31_sort_7 16 rfl rfl)
theorem dJ31_sort_182 : decode cJ31_sort 182 = .ok (.new 41, 3) := dk_187 0 41 (dk_at dksJ31_sort_7 19 rfl rfl)
theorem dJ31_sort_185 : decode cJ31_sort 185 = .ok (.dup, 1) := dk_89 (dk_at dksJ31_sort_7 22 rfl rfl)
theorem dJ31_sort_186 : decode cJ31_sort 186 = .ok (.invokespecial 43, 3) := dk_183 0 43 (dk_at dksJ31_sort_8 0 rfl rfl)
theorem dJ31_sort_189 : decode cJ31_sort 189 = .ok (.athrow, 1) := dk_191 (dk_at dksJ31_sort_8 3 rfl rfl)
theorem dJ31_sort_190 : decode cJ31_sort 190 = .ok (.aload 7, 2) := dk_25 7 (dk_at dksJ31_sort_8 4 rfl rfl)
theorem dJ31_sort_192 : decode cJ31_sort 192 = .ok (.invokevirtual 66, 3) := dk_182 0 66 (dk_at dksJ31_sort_8 6 rfl rfl)
theorem dJ31_sort_195 : decode cJ31_sort 195 = .ok (.getstatic 37, 3) := dk_178 0 37 (dk_at dksJ31_sort_8 9 rfl rfl)
theorem dJ31_sort_198 : decode cJ31_sort 198 = .ok (.ifCond .ne 20, 3) := dk_154 0 20 (dk_at dksJ31_sort_8 12 rfl rfl)
theorem dJ31_sort_201 : decode cJ31_sort 201 = .ok (.aload 7, 2) := dk_25 7 (dk_at dksJ31_sort_8 15 rfl rfl)
theorem dJ31_sort_203 : decode cJ31_sort 203 = .ok (.getfield 13, 3) := dk_180 0 13 (dk_at dksJ31_sort_8 17 rfl rfl)
theorem dJ31_sort_206 : decode cJ31_sort 206 = .ok (.iconst 1, 1) := dk_4 (dk_at dksJ31_sort_8 20 rfl rfl)
theorem dJ31_sort_207 : decode cJ31_sort 207 = .ok (.if_icmp .eq 11, 3) := dk_159 0 11 (dk_at dksJ31_sort_8 21 rfl rfl)
theorem dJ31_sort_210 : decode cJ31_sort 210 = .ok (.new 41, 3) := dk_187 0 41 (dk_at dksJ31_sort_9 0 rfl rfl)
theorem dJ31_sort_213 : decode cJ31_sort 213 = .ok (.dup, 1) := dk_89 (dk_at dksJ31_sort_9 3 rfl rfl)
theorem dJ31_sort_214 : decode cJ31_sort 214 = .ok (.invokespecial 43, 3) := dk_183 0 43 (dk_at dksJ31_sort_9 4 rfl rfl)
theorem dJ31_sort_217 : decode cJ31_sort 217 = .ok (.athrow, 1) := dk_191 (dk_at dksJ31_sort_9 7 rfl rfl)
theorem dJ31_sort_218 : decode cJ31_sort 218 = .ok (.return_, 1) := dk_177 (dk_at dksJ31_sort_9 8 rfl rfl)
theorem c72013 : jtCode 72013 = cJ31_sort := rfl
theorem F72013_0 (d : Nat) (v0 : Value) (i1 : Int32) (i2 : Int32) (v3 : Value) (i4 : Int32) (i5 : Int32) (h : AH) : G2 d 72013 0 [v0, .int i1, .int i2, v3, .int i4, .int i5, jno, jno, jno, jno, jno] [] h = if (1 : Int32) = 0 then (zkR v0 (zkR v0 (if (v0 : Value) = .null then (G2 d 72013 25 [v0, .int i1, .int i2, v3, .int i4, .int i5, jno, jno, jno, jno, jno] [] h) else (if i1 < 0 then (G2 d 72013 25 [v0, .int i1, .int i2, v3, .int i4, .int i5, jno, jno, jno, jno, jno] [] h) else (if i2 < i1 then (G2 d 72013 25 [v0, .int i1, .int i2, v3, .int i4, .int i5, jno, jno, jno, jno, jno] [] h) else (zkR v0 (zqL h v0 (fun x1 => if i2 ≤ x1 then (G2 d 72013 33 [v0, .int i1, .int i2, v3, .int i4, .int i5, jno, jno, jno, jno, jno] [] h) else (G2 d 72013 25 [v0, .int i1, .int i2, v3, .int i4, .int i5, jno, jno, jno, jno, jno] [] h)) ()) ())))) ()) ()) else (G2 d 72013 33 [v0, .int i1, .int i2, v3, .int i4, .int i5, jno, jno, jno, jno, jno] [] h) := by
  refine (g_getsIH (x := 1) c72013 dJ31_sort_0 rfl rfl).trans ?_
  refine (g_if_neH (tgt := 33) c72013 dJ31_sort_3 rfl).trans (if_cg ?_ ?_)
  · skip
    refine (g_aload_nVH c72013 dJ31_sort_6 rfl).trans (ckR_cg ?_)
    refine (g_ifnullH (tgt := 25) c72013 dJ31_sort_7 rfl).trans (ckR_cg (if_cg ?_ ?_))
    · skip
      rfl
    · skip
      refine (g_iload_nH c72013 dJ31_sort_10 rfl).trans ?_
      refine (g_if_ltH (tgt := 25) c72013 dJ31_sort_11 rfl).trans (if_cg ?_ ?_)
      · skip
        rfl
      · skip
        refine (g_iload_nH c72013 dJ31_sort_14 rfl).trans ?_
        refine (g_iload_nH c72013 dJ31_sort_15 rfl).trans ?_
        refine (g_icmp_gtH (tgt := 25) c72013 dJ31_sort_16 rfl).trans (if_cg ?_ ?_)
        · skip
          rfl
        · skip
          refine (g_iload_nH c72013 dJ31_sort_19 rfl).trans ?_
          refine (g_aload_nVH c72013 dJ31_sort_20 rfl).trans (ckR_cg ?_)
          refine (g_alenH c72013 dJ31_sort_21).trans (aL_cg fun x1 => ?_)
          refine (g_icmp_leH (tgt := 33) c72013 dJ31_sort_22 rfl).trans (if_cg ?_ ?_)
          · skip
            rfl
          · skip
            rfl
  · skip
    rfl
theorem F72013_33 (d : Nat) (v0 : Value) (i1 : Int32) (i2 : Int32) (v3 : Value) (i4 : Int32) (i5 : Int32) (h : AH) : G2 d 72013 33 [v0, .int i1, .int i2, v3, .int i4, .int i5, jno, jno, jno, jno, jno] [] h = if 2 ≤ (i2 - i1) then (if 32 ≤ (i2 - i1) then (zqH (jpush h (72, 8, jL [.null, .int 0, .null, .int 0, .int 0, .int 0, .null, .null])) (fun h1 => zkR v0 (zkR v3 (zcV (M2 d 72900 [.ref h.1, v0, v3, .int i4, .int i5] h1) (fun h3 => zcI (M2 d 72010 [.int (i2 - i1)] h3) (fun x4 h5 => G2 d 72013 93 [v0, .int i1, .int i2, v3, .int i4, .int i5, .int (i2 - i1), .ref h.1, .int x4, jno, jno] [] h5) ()) ()) ()) ()) ()) else (zkR v0 (zcI (M2 d 72001 [v0, .int i1, .int i2] h) (fun x6 h7 => zkR v0 (zcV (M2 d 72000 [v0, .int i1, .int i2, .int (i1 + x6)] h7) (fun h9 => some (.inl none, h9)) ()) ()) ()) ())) else (some (.inl none, h)) := by
  refine (g_iload_nH c72013 dJ31_sort_33 rfl).trans ?_
  refine (g_iload_nH c72013 dJ31_sort_34 rfl).trans ?_
  refine (g_isubH c72013 dJ31_sort_35).trans ?_
  refine (g_istoreH (L' := [v0, .int i1, .int i2, v3, .int i4, .int i5, .int (i2 - i1), jno, jno, jno, jno]) c72013 dJ31_sort_36 rfl rfl).trans ?_
  refine (g_iloadH c72013 dJ31_sort_38 rfl).trans ?_
  refine (g_iconstH (x := 2) c72013 dJ31_sort_40 rfl).trans ?_
  refine (g_icmp_geH (tgt := 45) c72013 dJ31_sort_41 rfl).trans (if_cg ?_ ?_)
  · skip
    refine (g_iloadH c72013 dJ31_sort_45 rfl).trans ?_
    refine (g_bipushH (x := 32) c72013 dJ31_sort_47 rfl).trans ?_
    refine (g_icmp_geH (tgt := 71) c72013 dJ31_sort_49 rfl).trans (if_cg ?_ ?_)
    · skip
      refine (g_newH (l := [.null, .int 0, .null, .int 0, .int 0, .int 0, .null, .null]) c72013 dJ31_sort_71 rfl rfl).trans ?_
      refine nmZ ?_
      generalize jpush h (72, 8, jL [.null, .int 0, .null, .int 0, .int 0, .int 0, .null, .null]) = h1
      refine (g_dup_rH c72013 dJ31_sort_74).trans ?_
      refine (g_aload_nVH c72013 dJ31_sort_75 rfl).trans (ckR_cg ?_)
      refine (g_aload_nVH c72013 dJ31_sort_76 rfl).trans (ckR_cg ?_)
      refine (g_iloadH c72013 dJ31_sort_77 rfl).trans ?_
      refine (g_iloadH c72013 dJ31_sort_79 rfl).trans ?_
      refine (g_specialH (as := [.ref h.1, v0, v3, .int i4, .int i5]) (rest := [.ref h.1]) c72013 dJ31_sort_81 rfl rfl rfl rfl rfl).trans ((jback_VH (κx := cX) (fun e h => jthrow_outH rfl)).trans (cV_cg fun h3 => ?_))
      refine (g_astoreH (L' := [v0, .int i1, .int i2, v3, .int i4, .int i5, .int (i2 - i1), .ref h.1, jno, jno, jno]) c72013 dJ31_sort_84 rfl rfl).trans ?_
      refine (g_iloadH c72013 dJ31_sort_86 rfl).trans ?_
      refine (g_staticH (as := [.int (i2 - i1)]) (rest := []) c72013 dJ31_sort_88 rfl rfl rfl rfl rfl).trans ((jback_IH (κx := cX) (fun e h => jthrow_outH rfl)).trans (cI_cg fun x4 h5 => ?_))
      refine (g_istoreH (L' := [v0, .int i1, .int i2, v3, .int i4, .int i5, .int (i2 - i1), .ref h.1, .int x4, jno, jno]) c72013 dJ31_sort_91 rfl rfl).trans ?_
      rfl
    · skip
      refine (g_aload_nVH c72013 dJ31_sort_52 rfl).trans (ckR_cg ?_)
      refine (g_iload_nH c72013 dJ31_sort_53 rfl).trans ?_
      refine (g_iload_nH c72013 dJ31_sort_54 rfl).trans ?_
      refine (g_staticH (as := [v0, .int i1, .int i2]) (rest := []) c72013 dJ31_sort_55 rfl rfl rfl rfl rfl).trans ((jback_IH (κx := cX) (fun e h => jthrow_outH rfl)).trans (cI_cg fun x6 h7 => ?_))
      refine (g_istoreH (L' := [v0, .int i1, .int i2, v3, .int i4, .int i5, .int (i2 - i1), .int x6, jno, jno, jno]) c72013 dJ31_sort_58 rfl rfl).trans ?_
      refine (g_aload_nVH c72013 dJ31_sort_60 rfl).trans (ckR_cg ?_)
      refine (g_iload_nH c72013 dJ31_sort_61 rfl).trans ?_
      refine (g_iload_nH c72013 dJ31_sort_62 rfl).trans ?_
      refine (g_iload_nH c72013 dJ31_sort_63 rfl).trans ?_
      refine (g_iloadH c72013 dJ31_sort_64 rfl).trans ?_
      refine (g_iaddH c72013 dJ31_sort_66).trans ?_
      refine (g_staticH (as := [v0, .int i1, .int i2, .int (i1 + x6)]) (rest := []) c72013 dJ31_sort_67 rfl rfl rfl rfl rfl).trans ((jback_VH (κx := cX) (fun e h => jthrow_outH rfl)).trans (cV_cg fun h9 => ?_))
      exact g_returnH c72013 dJ31_sort_70 rfl
  · skip
    exact g_returnH c72013 dJ31_sort_44 rfl
theorem F72013_93 (d : Nat) (v0 : Value) (i1 : Int32) (i2 : Int32) (v3 : Value) (i4 : Int32) (i5 : Int32) (i6 : Int32) (a7 : Nat) (i8 : Int32) (v9 : Value) (v10 : Value) (h : AH) : G2 d 72013 93 [v0, .int i1, .int i2, v3, .int i4, .int i5, .int i6, .ref a7, .int i8, v9, v10] [] h = zkR v0 (zcI (M2 d 72001 [v0, .int i1, .int i2] h) (fun x1 h2 => if i8 ≤ x1 then (G2 d 72013 141 [v0, .int i1, .int i2, v3, .int i4, .int i5, .int i6, .ref a7, .int i8, .int x1, v10] [] h2) else (if i8 < i6 then (zkR v0 (zcV (M2 d 72000 [v0, .int i1, .int (i1 + i8), .int (i1 + x1)] h2) (fun h4 => G2 d 72013 141 [v0, .int i1, .int i2, v3, .int i4, .int i5, .int i6, .ref a7, .int i8, .int i8, .int i8] [] h4) ()) ()) else (zkR v0 (zcV (M2 d 72000 [v0, .int i1, .int (i1 + i6), .int (i1 + x1)] h2) (fun h6 => G2 d 72013 141 [v0, .int i1, .int i2, v3, .int i4, .int i5, .int i6, .ref a7, .int i8, .int i6, .int i6] [] h6) ()) ()))) ()) () := by
  refine (g_aload_nVH c72013 dJ31_sort_93 rfl).trans (ckR_cg ?_)
  refine (g_iload_nH c72013 dJ31_sort_94 rfl).trans ?_
  refine (g_iload_nH c72013 dJ31_sort_95 rfl).trans ?_
  refine (g_staticH (as := [v0, .int i1, .int i2]) (rest := []) c72013 dJ31_sort_96 rfl rfl rfl rfl rfl).trans ((jback_IH (κx := cX) (fun e h => jthrow_outH rfl)).trans (cI_cg fun x1 h2 => ?_))
  refine (g_istoreH (L' := [v0, .int i1, .int i2, v3, .int i4, .int i5, .int i6, .ref a7, .int i8, .int x1, v10]) c72013 dJ31_sort_99 rfl rfl).trans ?_
  refine (g_iloadH c72013 dJ31_sort_101 rfl).trans ?_
  refine (g_iloadH c72013 dJ31_sort_103 rfl).trans ?_
  refine (g_icmp_geH (tgt := 141) c72013 dJ31_sort_105 rfl).trans (if_cg ?_ ?_)
  · skip
    rfl
  · skip
    refine (g_iloadH c72013 dJ31_sort_108 rfl).trans ?_
    refine (g_iloadH c72013 dJ31_sort_110 rfl).trans ?_
    refine (g_icmp_gtH (tgt := 120) c72013 dJ31_sort_112 rfl).trans (if_cg ?_ ?_)
    · skip
      refine (g_iloadH c72013 dJ31_sort_120 rfl).trans ?_
      refine (g_istoreH (L' := [v0, .int i1, .int i2, v3, .int i4, .int i5, .int i6, .ref a7, .int i8, .int x1, .int i8]) c72013 dJ31_sort_122 rfl rfl).trans ?_
      refine (g_aload_nVH c72013 dJ31_sort_124 rfl).trans (ckR_cg ?_)
      refine (g_iload_nH c72013 dJ31_sort_125 rfl).trans ?_
      refine (g_iload_nH c72013 dJ31_sort_126 rfl).trans ?_
      refine (g_iloadH c72013 dJ31_sort_127 rfl).trans ?_
      refine (g_iaddH c72013 dJ31_sort_129).trans ?_
      refine (g_iload_nH c72013 dJ31_sort_130 rfl).trans ?_
      refine (g_iloadH c72013 dJ31_sort_131 rfl).trans ?_
      refine (g_iaddH c72013 dJ31_sort_133).trans ?_
      refine (g_staticH (as := [v0, .int i1, .int (i1 + i8), .int (i1 + x1)]) (rest := []) c72013 dJ31_sort_134 rfl rfl rfl rfl rfl).trans ((jback_VH (κx := cX) (fun e h => jthrow_outH rfl)).trans (cV_cg fun h4 => ?_))
      refine (g_iloadH c72013 dJ31_sort_137 rfl).trans ?_
      refine (g_istoreH (L' := [v0, .int i1, .int i2, v3, .int i4, .int i5, .int i6, .ref a7, .int i8, .int i8, .int i8]) c72013 dJ31_sort_139 rfl rfl).trans ?_
      rfl
    · skip
      refine (g_iloadH c72013 dJ31_sort_115 rfl).trans ?_
      refine (g_gotoH (tgt := 122) c72013 dJ31_sort_117 rfl).trans ?_
      refine (g_istoreH (L' := [v0, .int i1, .int i2, v3, .int i4, .int i5, .int i6, .ref a7, .int i8, .int x1, .int i6]) c72013 dJ31_sort_122 rfl rfl).trans ?_
      refine (g_aload_nVH c72013 dJ31_sort_124 rfl).trans (ckR_cg ?_)
      refine (g_iload_nH c72013 dJ31_sort_125 rfl).trans ?_
      refine (g_iload_nH c72013 dJ31_sort_126 rfl).trans ?_
      refine (g_iloadH c72013 dJ31_sort_127 rfl).trans ?_
      refine (g_iaddH c72013 dJ31_sort_129).trans ?_
      refine (g_iload_nH c72013 dJ31_sort_130 rfl).trans ?_
      refine (g_iloadH c72013 dJ31_sort_131 rfl).trans ?_
      refine (g_iaddH c72013 dJ31_sort_133).trans ?_
      refine (g_staticH (as := [v0, .int i1, .int (i1 + i6), .int (i1 + x1)]) (rest := []) c72013 dJ31_sort_134 rfl rfl rfl rfl rfl).trans ((jback_VH (κx := cX) (fun e h => jthrow_outH rfl)).trans (cV_cg fun h6 => ?_))
      refine (g_iloadH c72013 dJ31_sort_137 rfl).trans ?_
      refine (g_istoreH (L' := [v0, .int i1, .int i2, v3, .int i4, .int i5, .int i6, .ref a7, .int i8, .int i6, .int i6]) c72013 dJ31_sort_139 rfl rfl).trans ?_
      rfl
theorem F72013_141 (d : Nat) (v0 : Value) (i1 : Int32) (i2 : Int32) (v3 : Value) (i4 : Int32) (i5 : Int32) (i6 : Int32) (a7 : Nat) (i8 : Int32) (i9 : Int32) (v10 : Value) (h : AH) : G2 d 72013 141 [v0, .int i1, .int i2, v3, .int i4, .int i5, .int i6, .ref a7, .int i8, .int i9, v10] [] h = zcV (M2 d 72011 [.ref a7, .int i1, .int i9] h) (fun h2 => zcV (M2 d 72006 [.ref a7] h2) (fun h4 => if (i6 - i9) = 0 then (if (1 : Int32) = 0 then (if (i1 + i9) = i2 then (zcV (M2 d 72007 [.ref a7] h4) (fun h6 => if (1 : Int32) = 0 then (zpI (jf (jc h6 (.ref a7)) [72] 5) (fun x7 => if x7 = 1 then (some (.inl none, h6)) else (G2 d 72013 210 [v0, .int (i1 + i9), .int i2, v3, .int i4, .int i5, .int (i6 - i9), .ref a7, .int i8, .int i9, v10] [] h6)) ()) else (some (.inl none, h6))) ()) else (G2 d 72013 182 [v0, .int (i1 + i9), .int i2, v3, .int i4, .int i5, .int (i6 - i9), .ref a7, .int i8, .int i9, v10] [] h4)) else (zcV (M2 d 72007 [.ref a7] h4) (fun h9 => if (1 : Int32) = 0 then (zpI (jf (jc h9 (.ref a7)) [72] 5) (fun x10 => if x10 = 1 then (some (.inl none, h9)) else (G2 d 72013 210 [v0, .int (i1 + i9), .int i2, v3, .int i4, .int i5, .int (i6 - i9), .ref a7, .int i8, .int i9, v10] [] h9)) ()) else (some (.inl none, h9))) ())) else (G2 d 72013 93 [v0, .int (i1 + i9), .int i2, v3, .int i4, .int i5, .int (i6 - i9), .ref a7, .int i8, .int i9, v10] [] h4)) ()) () := by
  refine (g_aloadH c72013 dJ31_sort_141 rfl).trans ?_
  refine (g_iload_nH c72013 dJ31_sort_143 rfl).trans ?_
  refine (g_iloadH c72013 dJ31_sort_144 rfl).trans ?_
  refine (g_virtualH (as := [.ref a7, .int i1, .int i9]) (rest := []) c72013 dJ31_sort_146 rfl rfl rfl rfl rfl).trans ((jback_VH (κx := cX) (fun e h => jthrow_outH rfl)).trans (cV_cg fun h2 => ?_))
  refine (g_aloadH c72013 dJ31_sort_149 rfl).trans ?_
  refine (g_virtualH (as := [.ref a7]) (rest := []) c72013 dJ31_sort_151 rfl rfl rfl rfl rfl).trans ((jback_VH (κx := cX) (fun e h => jthrow_outH rfl)).trans (cV_cg fun h4 => ?_))
  refine (g_iload_nH c72013 dJ31_sort_154 rfl).trans ?_
  refine (g_iloadH c72013 dJ31_sort_155 rfl).trans ?_
  refine (g_iaddH c72013 dJ31_sort_157).trans ?_
  refine (g_istore_nH (L' := [v0, .int (i1 + i9), .int i2, v3, .int i4, .int i5, .int i6, .ref a7, .int i8, .int i9, v10]) c72013 dJ31_sort_158 rfl rfl).trans ?_
  refine (g_iloadH c72013 dJ31_sort_159 rfl).trans ?_
  refine (g_iloadH c72013 dJ31_sort_161 rfl).trans ?_
  refine (g_isubH c72013 dJ31_sort_163).trans ?_
  refine (g_istoreH (L' := [v0, .int (i1 + i9), .int i2, v3, .int i4, .int i5, .int (i6 - i9), .ref a7, .int i8, .int i9, v10]) c72013 dJ31_sort_164 rfl rfl).trans ?_
  refine (g_iloadH c72013 dJ31_sort_166 rfl).trans ?_
  refine (g_if_neH (tgt := 93) c72013 dJ31_sort_168 rfl).trans (if_cg ?_ ?_)
  · skip
    refine (g_getsIH (x := 1) c72013 dJ31_sort_171 rfl rfl).trans ?_
    refine (g_if_neH (tgt := 190) c72013 dJ31_sort_174 rfl).trans (if_cg ?_ ?_)
    · skip
      refine (g_iload_nH c72013 dJ31_sort_177 rfl).trans ?_
      refine (g_iload_nH c72013 dJ31_sort_178 rfl).trans ?_
      refine (g_icmp_eqH (tgt := 190) c72013 dJ31_sort_179 rfl).trans (if_cg ?_ ?_)
      · skip
        refine (g_aloadH c72013 dJ31_sort_190 rfl).trans ?_
        refine (g_virtualH (as := [.ref a7]) (rest := []) c72013 dJ31_sort_192 rfl rfl rfl rfl rfl).trans ((jback_VH (κx := cX) (fun e h => jthrow_outH rfl)).trans (cV_cg fun h6 => ?_))
        refine (g_getsIH (x := 1) c72013 dJ31_sort_195 rfl rfl).trans ?_
        refine (g_if_neH (tgt := 218) c72013 dJ31_sort_198 rfl).trans (if_cg ?_ ?_)
        · skip
          refine (g_aloadH c72013 dJ31_sort_201 rfl).trans ?_
          refine (g_getIH c72013 dJ31_sort_203 rfl rfl).trans (rI_cg fun x7 => ?_)
          refine (g_iconstH (x := 1) c72013 dJ31_sort_206 rfl).trans ?_
          refine (g_icmp_eqH (tgt := 218) c72013 dJ31_sort_207 rfl).trans (if_cg ?_ ?_)
          · skip
            exact g_returnH c72013 dJ31_sort_218 rfl
          · skip
            rfl
        · skip
          exact g_returnH c72013 dJ31_sort_218 rfl
      · skip
        rfl
    · skip
      refine (g_aloadH c72013 dJ31_sort_190 rfl).trans ?_
      refine (g_virtualH (as := [.ref a7]) (rest := []) c72013 dJ31_sort_192 rfl rfl rfl rfl rfl).trans ((jback_VH (κx := cX) (fun e h => jthrow_outH rfl)).trans (cV_cg fun h9 => ?_))
      refine (g_getsIH (x := 1) c72013 dJ31_sort_195 rfl rfl).trans ?_
      refine (g_if_neH (tgt := 218) c72013 dJ31_sort_198 rfl).trans (if_cg ?_ ?_)
      · skip
        refine (g_aloadH c72013 dJ31_sort_201 rfl).trans ?_
        refine (g_getIH c72013 dJ31_sort_203 rfl rfl).trans (rI_cg fun x10 => ?_)
        refine (g_iconstH (x := 1) c72013 dJ31_sort_206 rfl).trans ?_
        refine (g_icmp_eqH (tgt := 218) c72013 dJ31_sort_207 rfl).trans (if_cg ?_ ?_)
        · skip
          exact g_returnH c72013 dJ31_sort_218 rfl
        · skip
          rfl
      · skip
        exact g_returnH c72013 dJ31_sort_218 rfl
  · skip
    rfl
theorem Y72013 {d : Nat} {v0 : Value} {i1 : Int32} {i2 : Int32} {v3 : Value} {i4 : Int32} {i5 : Int32} (h : AH) (hv0 : isR v0 = true) (hv3 : isR v3 = true) : M2 (d + 1) 72013 [v0, .int i1, .int i2, v3, .int i4, .int i5] h = G2 d 72013 0 [v0, .int i1, .int i2, v3, .int i4, .int i5, jno, jno, jno, jno, jno] [] h := M2_eq rfl rfl rfl (by simp only [jent, jargL_R hv0, jargL_R hv3, jargL]; rfl)
/-! java/util/ComparableTimSort.<init>([Ljava/lang/Object;[Ljava/lang/Object;II)V -/
abbrev cJ31_init : ByteArray := prog_74_method_1_code
def dkwJ31_init_6 : List UInt8 := [16, 49, 54, 7, 42, 21, 7, 188, 10, 181, 0, 30, 42, 21, 7, 188, 10, 181, 0, 34, 177]
abbrev dktJ31_init_6 : List UInt8 := dkwJ31_init_6 ++ []
def dkwJ31_init_5 : List UInt8 := [17, 6, 6, 162, 0, 8, 16, 10, 167, 0, 17, 21, 5, 18, 29, 162, 0, 8, 16, 24, 167, 0, 5]
abbrev dktJ31_init_5 : List UInt8 := dkwJ31_init_5 ++ dktJ31_init_6
def dkwJ31_init_4 : List UInt8 := [181, 0, 23, 42, 21, 4, 181, 0, 26, 21, 5, 16, 120, 162, 0, 7, 8, 167, 0, 30, 21, 5]
abbrev dktJ31_init_4 : List UInt8 := dkwJ31_init_4 ++ dktJ31_init_5
def dkwJ31_init_3 : List UInt8 := [181, 0, 20, 42, 3, 181, 0, 23, 42, 21, 6, 181, 0, 26, 167, 0, 19, 42, 44, 181, 0, 20, 42, 29]
abbrev dktJ31_init_3 : List UInt8 := dkwJ31_init_3 ++ dktJ31_init_4
def dkwJ31_init_2 : List UInt8 := [21, 4, 21, 6, 161, 0, 12, 29, 21, 6, 96, 44, 190, 164, 0, 26, 42, 21, 6, 189, 0, 2]
abbrev dktJ31_init_2 : List UInt8 := dkwJ31_init_2 ++ dktJ31_init_3
def dkwJ31_init_1 : List UInt8 := [21, 5, 17, 2, 0, 162, 0, 10, 21, 5, 4, 124, 167, 0, 6, 17, 1, 0, 54, 6, 44, 198, 0, 19]
abbrev dktJ31_init_1 : List UInt8 := dkwJ31_init_1 ++ dktJ31_init_2
def dkwJ31_init_0 : List UInt8 := [42, 183, 0, 1, 42, 16, 7, 181, 0, 9, 42, 3, 181, 0, 13, 42, 43, 181, 0, 16, 43, 190, 54, 5]
abbrev dktJ31_init_0 : List UInt8 := dkwJ31_init_0 ++ dktJ31_init_1
theorem dksJ31_init_0 : cJ31_init.data.toList.drop 0 = dktJ31_init_0 := by decide +kernel
theorem dksJ31_init_1 : cJ31_init.data.toList.drop 24 = dktJ31_init_1 := dk_seg dksJ31_init_0 24 rfl rfl
theorem dksJ31_init_2 : cJ31_init.data.toList.drop 48 = dktJ31_init_2 := dk_seg dksJ31_init_1 24 rfl rfl
theorem dksJ31_init_3 : cJ31_init.data.toList.drop 70 = dktJ31_init_3 := dk_seg dksJ31_init_2 22 rfl rfl
theorem dksJ31_init_4 : cJ31_init.data.toList.drop 94 = dktJ31_init_4 := dk_seg dksJ31_init_3 24 rfl rfl
theorem dksJ31_init_5 : cJ31_init.data.toList.drop 116 = dktJ31_init_5 := dk_seg dksJ31_init_4 22 rfl rfl
theorem dksJ31_init_6 : cJ31_init.data.toList.drop 139 = dktJ31_init_6 := dk_seg dksJ31_init_5 23 rfl rfl
theorem dJ31_init_0 : decode cJ31_init 0 = .ok (.aload_n 0, 1) := dk_42 (dk_at dksJ31_init_0 0 rfl rfl)
theorem dJ31_init_1 : decode cJ31_init 1 = .ok (.invokespecial 1, 3) := dk_183 0 1 (dk_at dksJ31_init_0 1 rfl rfl)
theorem dJ31_init_4 : decode cJ31_init 4 = .ok (.aload_n 0, 1) := dk_42 (dk_at dksJ31_init_0 4 rfl rfl)
theorem dJ31_init_5 : decode cJ31_init 5 = .ok (.bipush 7, 2) := dk_16 7 (dk_at dksJ31_init_0 5 rfl rfl)
theorem dJ31_init_7 : decode cJ31_init 7 = .ok (.putfield 9, 3) := dk_181 0 9 (dk_at dksJ31_init_0 7 rfl rfl)
theorem dJ31_init_10 : decode cJ31_init 10 = .ok (.aload_n 0, 1) := dk_42 (dk_at dksJ31_init_0 10 rfl rfl)
theorem dJ31_init_11 : decode cJ31_init 11 = .ok (.iconst 0, 1) := dk_3 (dk_at dksJ31_init_0 11 rfl rfl)
theorem dJ31_init_12 : decode cJ31_init 12 = .ok (.putfield 13, 3) := dk_181 0 13 (dk_at dksJ31_init_0 12 rfl rfl)
theorem dJ31_init_15 : decode cJ31_init 15 = .ok (.aload_n 0, 1) := dk_42 (dk_at dksJ31_init_0 15 rfl rfl)
theorem dJ31_init_16 : decode cJ31_init 16 = .ok (.aload_n 1, 1) := dk_43 (dk_at dksJ31_init_0 16 rfl rfl)
theorem dJ31_init_17 : decode cJ31_init 17 = .ok (.putfield 16, 3) := dk_181 0 16 (dk_at dksJ31_init_0 17 rfl rfl)
theorem dJ31_init_20 : decode cJ31_init 20 = .ok (.aload_n 1, 1) := dk_43 (dk_at dksJ31_init_0 20 rfl rfl)
theorem dJ31_init_21 : decode cJ31_init 21 = .ok (.arraylength, 1) := dk_190 (dk_at dksJ31_init_0 21 rfl rfl)
theorem dJ31_init_22 : decode cJ31_init 22 = .ok (.istore 5, 2) := dk_54 5 (dk_at dksJ31_init_0 22 rfl rfl)
theorem dJ31_init_24 : decode cJ31_init 24 = .ok (.iload 5, 2) := dk_21 5 (dk_at dksJ31_init_1 0 rfl rfl)
theorem dJ31_init_26 : decode cJ31_init 26 = .ok (.sipush 512, 3) := dk_17 2 0 (dk_at dksJ31_init_1 2 rfl rfl)
theorem dJ31_init_29 : decode cJ31_init 29 = .ok (.if_icmp .ge 10, 3) := dk_162 0 10 (dk_at dksJ31_init_1 5 rfl rfl)
theorem dJ31_init_32 : decode cJ31_init 32 = .ok (.iload 5, 2) := dk_21 5 (dk_at dksJ31_init_1 8 rfl rfl)
theorem dJ31_init_34 : decode cJ31_init 34 = .ok (.iconst 1, 1) := dk_4 (dk_at dksJ31_init_1 10 rfl rfl)
theorem dJ31_init_35 : decode cJ31_init 35 = .ok (.iushr, 1) := dk_124 (dk_at dksJ31_init_1 11 rfl rfl)
theorem dJ31_init_36 : decode cJ31_init 36 = .ok (.goto 6, 3) := dk_167 0 6 (dk_at dksJ31_init_1 12 rfl rfl)
theorem dJ31_init_39 : decode cJ31_init 39 = .ok (.sipush 256, 3) := dk_17 1 0 (dk_at dksJ31_init_1 15 rfl rfl)
theorem dJ31_init_42 : decode cJ31_init 42 = .ok (.istore 6, 2) := dk_54 6 (dk_at dksJ31_init_1 18 rfl rfl)
theorem dJ31_init_44 : decode cJ31_init 44 = .ok (.aload_n 2, 1) := dk_44 (dk_at dksJ31_init_1 20 rfl rfl)
theorem dJ31_init_45 : decode cJ31_init 45 = .ok (.ifnull 19, 3) := dk_198 0 19 (dk_at dksJ31_init_1 21 rfl rfl)
theorem dJ31_init_48 : decode cJ31_init 48 = .ok (.iload 4, 2) := dk_21 4 (dk_at dksJ31_init_2 0 rfl rfl)
theorem dJ31_init_50 : decode cJ31_init 50 = .ok (.iload 6, 2) := dk_21 6 (dk_at dksJ31_init_2 2 rfl rfl)
theorem dJ31_init_52 : decode cJ31_init 52 = .ok (.if_icmp .lt 12, 3) := dk_161 0 12 (dk_at dksJ31_init_2 4 rfl rfl)
theorem dJ31_init_55 : decode cJ31_init 55 = .ok (.iload_n 3, 1) := dk_29 (dk_at dksJ31_init_2 7 rfl rfl)
theorem dJ31_init_56 : decode cJ31_init 56 = .ok (.iload 6, 2) := dk_21 6 (dk_at dksJ31_init_2 8 rfl rfl)
theorem dJ31_init_58 : decode cJ31_init 58 = .ok (.iadd, 1) := dk_96 (dk_at dksJ31_init_2 10 rfl rfl)
theorem dJ31_init_59 : decode cJ31_init 59 = .ok (.aload_n 2, 1) := dk_44 (dk_at dksJ31_init_2 11 rfl rfl)
theorem dJ31_init_60 : decode cJ31_init 60 = .ok (.arraylength, 1) := dk_190 (dk_at dksJ31_init_2 12 rfl rfl)
theorem dJ31_init_61 : decode cJ31_init 61 = .ok (.if_icmp .le 26, 3) := dk_164 0 26 (dk_at dksJ31_init_2 13 rfl rfl)
theorem dJ31_init_64 : decode cJ31_init 64 = .ok (.aload_n 0, 1) := dk_42 (dk_at dksJ31_init_2 16 rfl rfl)
theorem dJ31_init_65 : decode cJ31_init 65 = .ok (.iload 6, 2) := dk_21 6 (dk_at dksJ31_init_2 17 rfl rfl)
theorem dJ31_init_67 : decode cJ31_init 67 = .ok (.anewarray 2, 3) := dk_189 0 2 (dk_at dksJ31_init_2 19 rfl rfl)
theorem dJ31_init_70 : decode cJ31_init 70 = .ok (.putfield 20, 3) := dk_181 0 20 (dk_at dksJ31_init_3 0 rfl rfl)
theorem dJ31_init_73 : decode cJ31_init 73 = .ok (.aload_n 0, 1) := dk_42 (dk_at dksJ31_init_3 3 rfl rfl)
theorem dJ31_init_74 : decode cJ31_init 74 = .ok (.iconst 0, 1) := dk_3 (dk_at dksJ31_init_3 4 rfl rfl)
theorem dJ31_init_75 : decode cJ31_init 75 = .ok (.putfield 23, 3) := dk_181 0 23 (dk_at dksJ31_init_3 5 rfl rfl)
theorem dJ31_init_78 : decode cJ31_init 78 = .ok (.aload_n 0, 1) := dk_42 (dk_at dksJ31_init_3 8 rfl rfl)
theorem dJ31_init_79 : decode cJ31_init 79 = .ok (.iload 6, 2) := dk_21 6 (dk_at dksJ31_init_3 9 rfl rfl)
theorem dJ31_init_81 : decode cJ31_init 81 = .ok (.putfield 26, 3) := dk_181 0 26 (dk_at dksJ31_init_3 11 rfl rfl)
theorem dJ31_init_84 : decode cJ31_init 84 = .ok (.goto 19, 3) := dk_167 0 19 (dk_at dksJ31_init_3 14 rfl rfl)
theorem dJ31_init_87 : decode cJ31_init 87 = .ok (.aload_n 0, 1) := dk_42 (dk_at dksJ31_init_3 17 rfl rfl)
theorem dJ31_init_88 : decode cJ31_init 88 = .ok (.aload_n 2, 1) := dk_44 (dk_at dksJ31_init_3 18 rfl rfl)
theorem dJ31_init_89 : decode cJ31_init 89 = .ok (.putfield 20, 3) := dk_181 0 20 (dk_at dksJ31_init_3 19 rfl rfl)
theorem dJ31_init_92 : decode cJ31_init 92 = .ok (.aload_n 0, 1) := dk_42 (dk_at dksJ31_init_3 22 rfl rfl)
theorem dJ31_init_93 : decode cJ31_init 93 = .ok (.iload_n 3, 1) := dk_29 (dk_at dksJ31_init_3 23 rfl rfl)
theorem dJ31_init_94 : decode cJ31_init 94 = .ok (.putfield 23, 3) := dk_181 0 23 (dk_at dksJ31_init_4 0 rfl rfl)
theorem dJ31_init_97 : decode cJ31_init 97 = .ok (.aload_n 0, 1) := dk_42 (dk_at dksJ31_init_4 3 rfl rfl)
theorem dJ31_init_98 : decode cJ31_init 98 = .ok (.iload 4, 2) := dk_21 4 (dk_at dksJ31_init_4 4 rfl rfl)
theorem dJ31_init_100 : decode cJ31_init 100 = .ok (.putfield 26, 3) := dk_181 0 26 (dk_at dksJ31_init_4 6 rfl rfl)
theorem dJ31_init_103 : decode cJ31_init 103 = .ok (.iload 5, 2) := dk_21 5 (dk_at dksJ31_init_4 9 rfl rfl)
theorem dJ31_init_105 : decode cJ31_init 105 = .ok (.bipush 120, 2) := dk_16 120 (dk_at dksJ31_init_4 11 rfl rfl)
theorem dJ31_init_107 : decode cJ31_init 107 = .ok (.if_icmp .ge 7, 3) := dk_162 0 7 (dk_at dksJ31_init_4 13 rfl rfl)
theorem dJ31_init_110 : decode cJ31_init 110 = .ok (.iconst 5, 1) := dk_8 (dk_at dksJ31_init_4 16 rfl rfl)
theorem dJ31_init_111 : decode cJ31_init 111 = .ok (.goto 30, 3) := dk_167 0 30 (dk_at dksJ31_init_4 17 rfl rfl)
theorem dJ31_init_114 : decode cJ31_init 114 = .ok (.iload 5, 2) := dk_21 5 (dk_at dksJ31_init_4 20 rfl rfl)
theorem dJ31_init_116 : decode cJ31_init 116 = .ok (.sipush 1542, 3) := dk_17 6 6 (dk_at dksJ31_init_5 0 rfl rfl)
theorem dJ31_init_119 : decode cJ31_init 119 = .ok (.if_icmp .ge 8, 3) := dk_162 0 8 (dk_at dksJ31_init_5 3 rfl rfl)
theorem dJ31_init_122 : decode cJ31_init 122 = .ok (.bipush 10, 2) := dk_16 10 (dk_at dksJ31_init_5 6 rfl rfl)
theorem dJ31_init_124 : decode cJ31_init 124 = .ok (.goto 17, 3) := dk_167 0 17 (dk_at dksJ31_init_5 8 rfl rfl)
theorem dJ31_init_127 : decode cJ31_init 127 = .ok (.iload 5, 2) := dk_21 5 (dk_at dksJ31_init_5 11 rfl rfl)
theorem dJ31_init_129 : decode cJ31_init 129 = .ok (.ldc 29, 2) := dk_18 29 (dk_at dksJ31_init_5 13 rfl rfl)
theorem dJ31_init_131 : decode cJ31_init 131 = .ok (.if_icmp .ge 8, 3) := dk_162 0 8 (dk_at dksJ31_init_5 15 rfl rfl)
theorem dJ31_init_134 : decode cJ31_init 134 = .ok (.bipush 24, 2) := dk_16 24 (dk_at dksJ31_init_5 18 rfl rfl)
theorem dJ31_init_136 : decode cJ31_init 136 = .ok (.goto 5, 3) := dk_167 0 5 (dk_at dksJ31_init_5 20 rfl rfl)
theorem dJ31_init_139 : decode cJ31_init 139 = .ok (.bipush 49, 2) := dk_16 49 (dk_at dksJ31_init_6 0 rfl rfl)
theorem dJ31_init_141 : decode cJ31_init 141 = .ok (.istore 7, 2) := dk_54 7 (dk_at dksJ31_init_6 2 rfl rfl)
theorem dJ31_init_143 : decode cJ31_init 143 = .ok (.aload_n 0, 1) := dk_42 (dk_at dksJ31_init_6 4 rfl rfl)
theorem dJ31_init_144 : decode cJ31_init 144 = .ok (.iload 7, 2) := dk_21 7 (dk_at dksJ31_init_6 5 rfl rfl)
theorem dJ31_init_146 : decode cJ31_init 146 = .ok (.newarray .int, 2) := dk_188_10 (dk_at dksJ31_init_6 7 rfl rfl)
theorem dJ31_init_148 : decode cJ31_init 148 = .ok (.putfield 30, 3) := dk_181 0 30 (dk_at dksJ31_init_6 9 rfl rfl)
theorem dJ31_init_151 : decode cJ31_init 151 = .ok (.aload_n 0, 1) := dk_42 (dk_at dksJ31_init_6 12 rfl rfl)
theorem dJ31_init_152 : decode cJ31_init 152 = .ok (.iload 7, 2) := dk_21 7 (dk_at dksJ31_init_6 13 rfl rfl)
theorem dJ31_init_154 : decode cJ31_init 154 = .ok (.newarray .int, 2) := dk_188_10 (dk_at dksJ31_init_6 15 rfl rfl)
theorem dJ31_init_156 : decode cJ31_init 156 = .ok (.putfield 34, 3) := dk_181 0 34 (dk_at dksJ31_init_6 17 rfl rfl)
theorem dJ31_init_159 : decode cJ31_init 159 = .ok (.return_, 1) := dk_177 (dk_at dksJ31_init_6 20 rfl rfl)
theorem c72900 : jtCode 72900 = cJ31_init := rfl
theorem F72900_0 (d : Nat) (a0 : Nat) (v1 : Value) (v2 : Value) (i3 : Int32) (i4 : Int32) (h : AH) : G2 d 72900 0 [.ref a0, v1, v2, .int i3, .int i4, jno, jno, jno] [] h = zcV (M2 d 90000 [.ref a0] h) (fun h2 => zqF h2 (.ref a0) [72] 1 0 (.int 7) (fun h3 => zqF h3 (.ref a0) [72] 5 0 (.int 0) (fun h4 => zkR v1 (zqF h4 (.ref a0) [72] 0 2 v1 (fun h5 => zkR v1 (zqL h5 v1 (fun x6 => if 512 ≤ x6 then (G2 d 72900 42 [.ref a0, v1, v2, .int i3, .int i4, .int x6, jno, jno] [.int 256] h5) else (G2 d 72900 42 [.ref a0, v1, v2, .int i3, .int i4, .int x6, jno, jno] [.int ((x6.toUInt32 >>> ((1 : Int32).toUInt32 &&& Int32.toUInt32 31)).toInt32)] h5)) ()) ()) ()) ()) ()) ()) () := by
  refine (g_aload_nH c72900 dJ31_init_0 rfl).trans ?_
  refine (g_specialH (as := [.ref a0]) (rest := []) c72900 dJ31_init_1 rfl rfl rfl rfl rfl).trans ((jback_VH (κx := cX) (fun e h => jthrow_outH rfl)).trans (cV_cg fun h2 => ?_))
  refine (g_aload_nH c72900 dJ31_init_4 rfl).trans ?_
  refine (g_bipushH (x := 7) c72900 dJ31_init_5 rfl).trans ?_
  refine (g_putH c72900 dJ31_init_7 rfl).trans (pF_cg fun h3 => ?_)
  refine (g_aload_nH c72900 dJ31_init_10 rfl).trans ?_
  refine (g_iconstH (x := 0) c72900 dJ31_init_11 rfl).trans ?_
  refine (g_putH c72900 dJ31_init_12 rfl).trans (pF_cg fun h4 => ?_)
  refine (g_aload_nH c72900 dJ31_init_15 rfl).trans ?_
  refine (g_aload_nVH c72900 dJ31_init_16 rfl).trans (ckR_cg ?_)
  refine (g_putFH c72900 dJ31_init_17 rfl rfl).trans (pF_cg fun h5 => ?_)
  refine (g_aload_nVH c72900 dJ31_init_20 rfl).trans (ckR_cg ?_)
  refine (g_alenH c72900 dJ31_init_21).trans (aL_cg fun x6 => ?_)
  refine (g_istoreH (L' := [.ref a0, v1, v2, .int i3, .int i4, .int x6, jno, jno]) c72900 dJ31_init_22 rfl rfl).trans ?_
  refine (g_iloadH c72900 dJ31_init_24 rfl).trans ?_
  refine (g_sipushH (x := 512) c72900 dJ31_init_26 rfl).trans ?_
  refine (g_icmp_geH (tgt := 39) c72900 dJ31_init_29 rfl).trans (if_cg ?_ ?_)
  · skip
    refine (g_sipushH (x := 256) c72900 dJ31_init_39 rfl).trans ?_
    rfl
  · skip
    refine (g_iloadH c72900 dJ31_init_32 rfl).trans ?_
    refine (g_iconstH (x := 1) c72900 dJ31_init_34 rfl).trans ?_
    refine (g_iushrH c72900 dJ31_init_35).trans ?_
    refine (g_gotoH (tgt := 42) c72900 dJ31_init_36 rfl).trans ?_
    rfl
theorem F72900_42 (d : Nat) (a0 : Nat) (v1 : Value) (v2 : Value) (i3 : Int32) (i4 : Int32) (i5 : Int32) (is0 : Int32) (h : AH) : G2 d 72900 42 [.ref a0, v1, v2, .int i3, .int i4, .int i5, jno, jno] [.int is0] h = zkR v2 (zkR v2 (if (v2 : Value) = .null then (zqN is0 (zqH (jpush h (1040, is0.toNatClampNeg, fun _ => .null)) (fun h1 => zqF h1 (.ref a0) [72] 2 2 (.ref h.1) (fun h2 => zqF h2 (.ref a0) [72] 3 0 (.int 0) (fun h3 => zqF h3 (.ref a0) [72] 4 0 (.int is0) (fun h4 => G2 d 72900 103 [.ref a0, v1, v2, .int i3, .int i4, .int i5, .int is0, jno] [] h4) ()) ()) ()) ()) ()) else (if i4 < is0 then (zqN is0 (zqH (jpush h (1040, is0.toNatClampNeg, fun _ => .null)) (fun h5 => zqF h5 (.ref a0) [72] 2 2 (.ref h.1) (fun h6 => zqF h6 (.ref a0) [72] 3 0 (.int 0) (fun h7 => zqF h7 (.ref a0) [72] 4 0 (.int is0) (fun h8 => G2 d 72900 103 [.ref a0, v1, v2, .int i3, .int i4, .int i5, .int is0, jno] [] h8) ()) ()) ()) ()) ()) else (zkR v2 (zqL h v2 (fun x9 => if (i3 + is0) ≤ x9 then (zkR v2 (zqF h (.ref a0) [72] 2 2 v2 (fun h10 => zqF h10 (.ref a0) [72] 3 0 (.int i3) (fun h11 => zqF h11 (.ref a0) [72] 4 0 (.int i4) (fun h12 => G2 d 72900 103 [.ref a0, v1, v2, .int i3, .int i4, .int i5, .int is0, jno] [] h12) ()) ()) ()) ()) else (zqN is0 (zqH (jpush h (1040, is0.toNatClampNeg, fun _ => .null)) (fun h13 => zqF h13 (.ref a0) [72] 2 2 (.ref h.1) (fun h14 => zqF h14 (.ref a0) [72] 3 0 (.int 0) (fun h15 => zqF h15 (.ref a0) [72] 4 0 (.int is0) (fun h16 => G2 d 72900 103 [.ref a0, v1, v2, .int i3, .int i4, .int i5, .int is0, jno] [] h16) ()) ()) ()) ()) ())) ()) ()))) ()) () := by
  refine (g_istoreH (L' := [.ref a0, v1, v2, .int i3, .int i4, .int i5, .int is0, jno]) c72900 dJ31_init_42 rfl rfl).trans ?_
  refine (g_aload_nVH c72900 dJ31_init_44 rfl).trans (ckR_cg ?_)
  refine (g_ifnullH (tgt := 64) c72900 dJ31_init_45 rfl).trans (ckR_cg (if_cg ?_ ?_))
  · skip
    refine (g_aload_nH c72900 dJ31_init_64 rfl).trans ?_
    refine (g_iloadH c72900 dJ31_init_65 rfl).trans ?_
    refine (g_newRH (t := 1040) c72900 dJ31_init_67 rfl rfl).trans (nA_cg ?_)
    refine nmZ ?_
    generalize jpush h (1040, is0.toNatClampNeg, fun _ => .null) = h1
    refine (g_putH c72900 dJ31_init_70 rfl).trans (pF_cg fun h2 => ?_)
    refine (g_aload_nH c72900 dJ31_init_73 rfl).trans ?_
    refine (g_iconstH (x := 0) c72900 dJ31_init_74 rfl).trans ?_
    refine (g_putH c72900 dJ31_init_75 rfl).trans (pF_cg fun h3 => ?_)
    refine (g_aload_nH c72900 dJ31_init_78 rfl).trans ?_
    refine (g_iloadH c72900 dJ31_init_79 rfl).trans ?_
    refine (g_putH c72900 dJ31_init_81 rfl).trans (pF_cg fun h4 => ?_)
    refine (g_gotoH (tgt := 103) c72900 dJ31_init_84 rfl).trans ?_
    rfl
  · skip
    refine (g_iloadH c72900 dJ31_init_48 rfl).trans ?_
    refine (g_iloadH c72900 dJ31_init_50 rfl).trans ?_
    refine (g_icmp_ltH (tgt := 64) c72900 dJ31_init_52 rfl).trans (if_cg ?_ ?_)
    · skip
      refine (g_aload_nH c72900 dJ31_init_64 rfl).trans ?_
      refine (g_iloadH c72900 dJ31_init_65 rfl).trans ?_
      refine (g_newRH (t := 1040) c72900 dJ31_init_67 rfl rfl).trans (nA_cg ?_)
      refine nmZ ?_
      generalize jpush h (1040, is0.toNatClampNeg, fun _ => .null) = h5
      refine (g_putH c72900 dJ31_init_70 rfl).trans (pF_cg fun h6 => ?_)
      refine (g_aload_nH c72900 dJ31_init_73 rfl).trans ?_
      refine (g_iconstH (x := 0) c72900 dJ31_init_74 rfl).trans ?_
      refine (g_putH c72900 dJ31_init_75 rfl).trans (pF_cg fun h7 => ?_)
      refine (g_aload_nH c72900 dJ31_init_78 rfl).trans ?_
      refine (g_iloadH c72900 dJ31_init_79 rfl).trans ?_
      refine (g_putH c72900 dJ31_init_81 rfl).trans (pF_cg fun h8 => ?_)
      refine (g_gotoH (tgt := 103) c72900 dJ31_init_84 rfl).trans ?_
      rfl
    · skip
      refine (g_iload_nH c72900 dJ31_init_55 rfl).trans ?_
      refine (g_iloadH c72900 dJ31_init_56 rfl).trans ?_
      refine (g_iaddH c72900 dJ31_init_58).trans ?_
      refine (g_aload_nVH c72900 dJ31_init_59 rfl).trans (ckR_cg ?_)
      refine (g_alenH c72900 dJ31_init_60).trans (aL_cg fun x9 => ?_)
      refine (g_icmp_leH (tgt := 87) c72900 dJ31_init_61 rfl).trans (if_cg ?_ ?_)
      · skip
        refine (g_aload_nH c72900 dJ31_init_87 rfl).trans ?_
        refine (g_aload_nVH c72900 dJ31_init_88 rfl).trans (ckR_cg ?_)
        refine (g_putH c72900 dJ31_init_89 rfl).trans (pF_cg fun h10 => ?_)
        refine (g_aload_nH c72900 dJ31_init_92 rfl).trans ?_
        refine (g_iload_nH c72900 dJ31_init_93 rfl).trans ?_
        refine (g_putH c72900 dJ31_init_94 rfl).trans (pF_cg fun h11 => ?_)
        refine (g_aload_nH c72900 dJ31_init_97 rfl).trans ?_
        refine (g_iloadH c72900 dJ31_init_98 rfl).trans ?_
        refine (g_putH c72900 dJ31_init_100 rfl).trans (pF_cg fun h12 => ?_)
        rfl
      · skip
        refine (g_aload_nH c72900 dJ31_init_64 rfl).trans ?_
        refine (g_iloadH c72900 dJ31_init_65 rfl).trans ?_
        refine (g_newRH (t := 1040) c72900 dJ31_init_67 rfl rfl).trans (nA_cg ?_)
        refine nmZ ?_
        generalize jpush h (1040, is0.toNatClampNeg, fun _ => .null) = h13
        refine (g_putH c72900 dJ31_init_70 rfl).trans (pF_cg fun h14 => ?_)
        refine (g_aload_nH c72900 dJ31_init_73 rfl).trans ?_
        refine (g_iconstH (x := 0) c72900 dJ31_init_74 rfl).trans ?_
        refine (g_putH c72900 dJ31_init_75 rfl).trans (pF_cg fun h15 => ?_)
        refine (g_aload_nH c72900 dJ31_init_78 rfl).trans ?_
        refine (g_iloadH c72900 dJ31_init_79 rfl).trans ?_
        refine (g_putH c72900 dJ31_init_81 rfl).trans (pF_cg fun h16 => ?_)
        refine (g_gotoH (tgt := 103) c72900 dJ31_init_84 rfl).trans ?_
        rfl
theorem F72900_103 (d : Nat) (a0 : Nat) (v1 : Value) (v2 : Value) (i3 : Int32) (i4 : Int32) (i5 : Int32) (i6 : Int32) (h : AH) : G2 d 72900 103 [.ref a0, v1, v2, .int i3, .int i4, .int i5, .int i6, jno] [] h = if 120 ≤ i5 then (if 1542 ≤ i5 then (if 119151 ≤ i5 then (zqN 49 (zqH (jpush h (1000, (49 : Int32).toNatClampNeg, fun _ => .int 0)) (fun h1 => zqF h1 (.ref a0) [72] 6 2 (.ref h.1) (fun h2 => zqN 49 (zqH (jpush h2 (1000, (49 : Int32).toNatClampNeg, fun _ => .int 0)) (fun h3 => zqF h3 (.ref a0) [72] 7 2 (.ref h2.1) (fun h4 => some (.inl none, h4)) ()) ()) ()) ()) ()) ()) else (zqN 24 (zqH (jpush h (1000, (24 : Int32).toNatClampNeg, fun _ => .int 0)) (fun h5 => zqF h5 (.ref a0) [72] 6 2 (.ref h.1) (fun h6 => zqN 24 (zqH (jpush h6 (1000, (24 : Int32).toNatClampNeg, fun _ => .int 0)) (fun h7 => zqF h7 (.ref a0) [72] 7 2 (.ref h6.1) (fun h8 => some (.inl none, h8)) ()) ()) ()) ()) ()) ())) else (zqN 10 (zqH (jpush h (1000, (10 : Int32).toNatClampNeg, fun _ => .int 0)) (fun h9 => zqF h9 (.ref a0) [72] 6 2 (.ref h.1) (fun h10 => zqN 10 (zqH (jpush h10 (1000, (10 : Int32).toNatClampNeg, fun _ => .int 0)) (fun h11 => zqF h11 (.ref a0) [72] 7 2 (.ref h10.1) (fun h12 => some (.inl none, h12)) ()) ()) ()) ()) ()) ())) else (zqN 5 (zqH (jpush h (1000, (5 : Int32).toNatClampNeg, fun _ => .int 0)) (fun h13 => zqF h13 (.ref a0) [72] 6 2 (.ref h.1) (fun h14 => zqN 5 (zqH (jpush h14 (1000, (5 : Int32).toNatClampNeg, fun _ => .int 0)) (fun h15 => zqF h15 (.ref a0) [72] 7 2 (.ref h14.1) (fun h16 => some (.inl none, h16)) ()) ()) ()) ()) ()) ()) := by
  refine (g_iloadH c72900 dJ31_init_103 rfl).trans ?_
  refine (g_bipushH (x := 120) c72900 dJ31_init_105 rfl).trans ?_
  refine (g_icmp_geH (tgt := 114) c72900 dJ31_init_107 rfl).trans (if_cg ?_ ?_)
  · skip
    refine (g_iloadH c72900 dJ31_init_114 rfl).trans ?_
    refine (g_sipushH (x := 1542) c72900 dJ31_init_116 rfl).trans ?_
    refine (g_icmp_geH (tgt := 127) c72900 dJ31_init_119 rfl).trans (if_cg ?_ ?_)
    · skip
      refine (g_iloadH c72900 dJ31_init_127 rfl).trans ?_
      refine (g_ldcIH (x := 119151) c72900 dJ31_init_129 rfl rfl).trans ?_
      refine (g_icmp_geH (tgt := 139) c72900 dJ31_init_131 rfl).trans (if_cg ?_ ?_)
      · skip
        refine (g_bipushH (x := 49) c72900 dJ31_init_139 rfl).trans ?_
        refine (g_istoreH (L' := [.ref a0, v1, v2, .int i3, .int i4, .int i5, .int i6, .int 49]) c72900 dJ31_init_141 rfl rfl).trans ?_
        refine (g_aload_nH c72900 dJ31_init_143 rfl).trans ?_
        refine (g_iloadH c72900 dJ31_init_144 rfl).trans ?_
        refine (g_newIH c72900 dJ31_init_146).trans (nA_cg ?_)
        refine nmZ ?_
        generalize jpush h (1000, (49 : Int32).toNatClampNeg, fun _ => .int 0) = h1
        refine (g_putFH c72900 dJ31_init_148 rfl rfl).trans (pF_cg fun h2 => ?_)
        refine (g_aload_nH c72900 dJ31_init_151 rfl).trans ?_
        refine (g_iloadH c72900 dJ31_init_152 rfl).trans ?_
        refine (g_newIH c72900 dJ31_init_154).trans (nA_cg ?_)
        refine nmZ ?_
        generalize jpush h2 (1000, (49 : Int32).toNatClampNeg, fun _ => .int 0) = h3
        refine (g_putFH c72900 dJ31_init_156 rfl rfl).trans (pF_cg fun h4 => ?_)
        exact g_returnH c72900 dJ31_init_159 rfl
      · skip
        refine (g_bipushH (x := 24) c72900 dJ31_init_134 rfl).trans ?_
        refine (g_gotoH (tgt := 141) c72900 dJ31_init_136 rfl).trans ?_
        refine (g_istoreH (L' := [.ref a0, v1, v2, .int i3, .int i4, .int i5, .int i6, .int 24]) c72900 dJ31_init_141 rfl rfl).trans ?_
        refine (g_aload_nH c72900 dJ31_init_143 rfl).trans ?_
        refine (g_iloadH c72900 dJ31_init_144 rfl).trans ?_
        refine (g_newIH c72900 dJ31_init_146).trans (nA_cg ?_)
        refine nmZ ?_
        generalize jpush h (1000, (24 : Int32).toNatClampNeg, fun _ => .int 0) = h5
        refine (g_putFH c72900 dJ31_init_148 rfl rfl).trans (pF_cg fun h6 => ?_)
        refine (g_aload_nH c72900 dJ31_init_151 rfl).trans ?_
        refine (g_iloadH c72900 dJ31_init_152 rfl).trans ?_
        refine (g_newIH c72900 dJ31_init_154).trans (nA_cg ?_)
        refine nmZ ?_
        generalize jpush h6 (1000, (24 : Int32).toNatClampNeg, fun _ => .int 0) = h7
        refine (g_putFH c72900 dJ31_init_156 rfl rfl).trans (pF_cg fun h8 => ?_)
        exact g_returnH c72900 dJ31_init_159 rfl
    · skip
      refine (g_bipushH (x := 10) c72900 dJ31_init_122 rfl).trans ?_
      refine (g_gotoH (tgt := 141) c72900 dJ31_init_124 rfl).trans ?_
      refine (g_istoreH (L' := [.ref a0, v1, v2, .int i3, .int i4, .int i5, .int i6, .int 10]) c72900 dJ31_init_141 rfl rfl).trans ?_
      refine (g_aload_nH c72900 dJ31_init_143 rfl).trans ?_
      refine (g_iloadH c72900 dJ31_init_144 rfl).trans ?_
      refine (g_newIH c72900 dJ31_init_146).trans (nA_cg ?_)
      refine nmZ ?_
      generalize jpush h (1000, (10 : Int32).toNatClampNeg, fun _ => .int 0) = h9
      refine (g_putFH c72900 dJ31_init_148 rfl rfl).trans (pF_cg fun h10 => ?_)
      refine (g_aload_nH c72900 dJ31_init_151 rfl).trans ?_
      refine (g_iloadH c72900 dJ31_init_152 rfl).trans ?_
      refine (g_newIH c72900 dJ31_init_154).trans (nA_cg ?_)
      refine nmZ ?_
      generalize jpush h10 (1000, (10 : Int32).toNatClampNeg, fun _ => .int 0) = h11
      refine (g_putFH c72900 dJ31_init_156 rfl rfl).trans (pF_cg fun h12 => ?_)
      exact g_returnH c72900 dJ31_init_159 rfl
  · skip
    refine (g_iconstH (x := 5) c72900 dJ31_init_110 rfl).trans ?_
    refine (g_gotoH (tgt := 141) c72900 dJ31_init_111 rfl).trans ?_
    refine (g_istoreH (L' := [.ref a0, v1, v2, .int i3, .int i4, .int i5, .int i6, .int 5]) c72900 dJ31_init_141 rfl rfl).trans ?_
    refine (g_aload_nH c72900 dJ31_init_143 rfl).trans ?_
    refine (g_iloadH c72900 dJ31_init_144 rfl).trans ?_
    refine (g_newIH c72900 dJ31_init_146).trans (nA_cg ?_)
    refine nmZ ?_
    generalize jpush h (1000, (5 : Int32).toNatClampNeg, fun _ => .int 0) = h13
    refine (g_putFH c72900 dJ31_init_148 rfl rfl).trans (pF_cg fun h14 => ?_)
    refine (g_aload_nH c72900 dJ31_init_151 rfl).trans ?_
    refine (g_iloadH c72900 dJ31_init_152 rfl).trans ?_
    refine (g_newIH c72900 dJ31_init_154).trans (nA_cg ?_)
    refine nmZ ?_
    generalize jpush h14 (1000, (5 : Int32).toNatClampNeg, fun _ => .int 0) = h15
    refine (g_putFH c72900 dJ31_init_156 rfl rfl).trans (pF_cg fun h16 => ?_)
    exact g_returnH c72900 dJ31_init_159 rfl
theorem Y72900 {d : Nat} {a0 : Nat} {v1 : Value} {v2 : Value} {i3 : Int32} {i4 : Int32} (h : AH) (hv1 : isR v1 = true) (hv2 : isR v2 = true) (hr : jrecv 72900 [.ref a0, v1, v2, .int i3, .int i4] h = true) : M2 (d + 1) 72900 [.ref a0, v1, v2, .int i3, .int i4] h = G2 d 72900 0 [.ref a0, v1, v2, .int i3, .int i4, jno, jno, jno] [] h := M2_eq rfl rfl hr (by simp only [jent, jargL_R hv1, jargL_R hv2, jargL]; rfl)
/-! java/util/LinkedList$ListItr.checkForComodification()V -/
abbrev cJ36_checkForComodification : ByteArray := prog_80_method_12_code
def dkwJ36_checkForComodification_0 : List UInt8 := [42, 180, 0, 1, 180, 0, 13, 42, 180, 0, 19, 159, 0, 11, 187, 0, 91, 89, 183, 0, 93, 191, 177]
abbrev dktJ36_checkForComodification_0 : List UInt8 := dkwJ36_checkForComodification_0 ++ []
theorem dksJ36_checkForComodification_0 : cJ36_checkForComodification.data.toList.drop 0 = dktJ36_checkForComodification_0 := by decide +kernel
theorem dJ36_checkForComodification_0 : decode cJ36_checkForComodification 0 = .ok (.aload_n 0, 1) := dk_42 (dk_at dksJ36_checkForComodification_0 0 rfl rfl)
theorem dJ36_checkForComodification_1 : decode cJ36_checkForComodification 1 = .ok (.getfield 1, 3) := dk_180 0 1 (dk_at dksJ36_checkForComodification_0 1 rfl rfl)
theorem dJ36_checkForComodification_4 : decode cJ36_checkForComodification 4 = .ok (.getfield 13, 3) := dk_180 0 13 (dk_at dksJ36_checkForComodification_0 4 rfl rfl)
theorem dJ36_checkForComodification_7 : decode cJ36_checkForComodification 7 = .ok (.aload_n 0, 1) := dk_42 (dk_at dksJ36_checkForComodification_0 7 rfl rfl)
theorem dJ36_checkForComodification_8 : decode cJ36_checkForComodification 8 = .ok (.getfield 19, 3) := dk_180 0 19 (dk_at dksJ36_checkForComodification_0 8 rfl rfl)
theorem dJ36_checkForComodification_11 : decode cJ36_checkForComodification 11 = .ok (.if_icmp .eq 11, 3) := dk_159 0 11 (dk_at dksJ36_checkForComodification_0 11 rfl rfl)
theorem dJ36_checkForComodification_14 : decode cJ36_checkForComodification 14 = .ok (.new 91, 3) := dk_187 0 91 (dk_at dksJ36_checkForComodification_0 14 rfl rfl)
theorem dJ36_checkForComodification_17 : decode cJ36_checkForComodification 17 = .ok (.dup, 1) := dk_89 (dk_at dksJ36_checkForComodification_0 17 rfl rfl)
theorem dJ36_checkForComodification_18 : decode cJ36_checkForComodification 18 = .ok (.invokespecial 93, 3) := dk_183 0 93 (dk_at dksJ36_checkForComodification_0 18 rfl rfl)
theorem dJ36_checkForComodification_21 : decode cJ36_checkForComodification 21 = .ok (.athrow, 1) := dk_191 (dk_at dksJ36_checkForComodification_0 21 rfl rfl)
theorem dJ36_checkForComodification_22 : decode cJ36_checkForComodification 22 = .ok (.return_, 1) := dk_177 (dk_at dksJ36_checkForComodification_0 22 rfl rfl)
theorem c77000 : jtCode 77000 = cJ36_checkForComodification := rfl
theorem F77000_0 (d : Nat) (a0 : Nat) (h : AH) : G2 d 77000 0 [.ref a0] [] h = zpR (jf (jc h (.ref a0)) [77] 4) (fun r1 => zpI (jf (jc h r1) [43, 47] 0) (fun x2 => zpI (jf (jc h (.ref a0)) [77] 3) (fun x3 => if x2 = x3 then (some (.inl none, h)) else (G2 d 77000 14 [.ref a0] [] h)) ()) ()) () := by
  refine (g_aload_nH c77000 dJ36_checkForComodification_0 rfl).trans ?_
  refine (g_getRH c77000 dJ36_checkForComodification_1 rfl).trans (rR_cg fun r1 => ?_)
  refine (g_getIH c77000 dJ36_checkForComodification_4 rfl rfl).trans (rI_cg fun x2 => ?_)
  refine (g_aload_nH c77000 dJ36_checkForComodification_7 rfl).trans ?_
  refine (g_getIH c77000 dJ36_checkForComodification_8 rfl rfl).trans (rI_cg fun x3 => ?_)
  refine (g_icmp_eqH (tgt := 22) c77000 dJ36_checkForComodification_11 rfl).trans (if_cg ?_ ?_)
  · skip
    exact g_returnH c77000 dJ36_checkForComodification_22 rfl
  · skip
    rfl
theorem Y77000 {d : Nat} {a0 : Nat} (h : AH) (hr : jrecv 77000 [.ref a0] h = true) : M2 (d + 1) 77000 [.ref a0] h = G2 d 77000 0 [.ref a0] [] h := M2_eq rfl rfl hr rfl
/-! java/util/LinkedList$ListItr.hasNext()Z -/
abbrev cJ36_hasNext : ByteArray := prog_80_method_2_code
def dkwJ36_hasNext_0 : List UInt8 := [42, 180, 0, 33, 42, 180, 0, 1, 180, 0, 22, 162, 0, 7, 4, 167, 0, 4, 3, 172]
abbrev dktJ36_hasNext_0 : List UInt8 := dkwJ36_hasNext_0 ++ []
theorem dksJ36_hasNext_0 : cJ36_hasNext.data.toList.drop 0 = dktJ36_hasNext_0 := by decide +kernel
theorem dJ36_hasNext_0 : decode cJ36_hasNext 0 = .ok (.aload_n 0, 1) := dk_42 (dk_at dksJ36_hasNext_0 0 rfl rfl)
theorem dJ36_hasNext_1 : decode cJ36_hasNext 1 = .ok (.getfield 33, 3) := dk_180 0 33 (dk_at dksJ36_hasNext_0 1 rfl rfl)
theorem dJ36_hasNext_4 : decode cJ36_hasNext 4 = .ok (.aload_n 0, 1) := dk_42 (dk_at dksJ36_hasNext_0 4 rfl rfl)
theorem dJ36_hasNext_5 : decode cJ36_hasNext 5 = .ok (.getfield 1, 3) := dk_180 0 1 (dk_at dksJ36_hasNext_0 5 rfl rfl)
theorem dJ36_hasNext_8 : decode cJ36_hasNext 8 = .ok (.getfield 22, 3) := dk_180 0 22 (dk_at dksJ36_hasNext_0 8 rfl rfl)
theorem dJ36_hasNext_11 : decode cJ36_hasNext 11 = .ok (.if_icmp .ge 7, 3) := dk_162 0 7 (dk_at dksJ36_hasNext_0 11 rfl rfl)
theorem dJ36_hasNext_14 : decode cJ36_hasNext 14 = .ok (.iconst 1, 1) := dk_4 (dk_at dksJ36_hasNext_0 14 rfl rfl)
theorem dJ36_hasNext_15 : decode cJ36_hasNext 15 = .ok (.goto 4, 3) := dk_167 0 4 (dk_at dksJ36_hasNext_0 15 rfl rfl)
theorem dJ36_hasNext_18 : decode cJ36_hasNext 18 = .ok (.iconst 0, 1) := dk_3 (dk_at dksJ36_hasNext_0 18 rfl rfl)
theorem dJ36_hasNext_19 : decode cJ36_hasNext 19 = .ok (.ireturn, 1) := dk_172 (dk_at dksJ36_hasNext_0 19 rfl rfl)
theorem c77001 : jtCode 77001 = cJ36_hasNext := rfl
theorem F77001_0 (d : Nat) (a0 : Nat) (h : AH) : G2 d 77001 0 [.ref a0] [] h = zpI (jf (jc h (.ref a0)) [77] 2) (fun x1 => zpR (jf (jc h (.ref a0)) [77] 4) (fun r2 => zpI (jf (jc h r2) [47] 1) (fun x3 => if x3 ≤ x1 then (some (.inl (some (.int 0)), h)) else (some (.inl (some (.int 1)), h))) ()) ()) () := by
  refine (g_aload_nH c77001 dJ36_hasNext_0 rfl).trans ?_
  refine (g_getIH c77001 dJ36_hasNext_1 rfl rfl).trans (rI_cg fun x1 => ?_)
  refine (g_aload_nH c77001 dJ36_hasNext_4 rfl).trans ?_
  refine (g_getRH c77001 dJ36_hasNext_5 rfl).trans (rR_cg fun r2 => ?_)
  refine (g_getIH c77001 dJ36_hasNext_8 rfl rfl).trans (rI_cg fun x3 => ?_)
  refine (g_icmp_geH (tgt := 18) c77001 dJ36_hasNext_11 rfl).trans (if_cg ?_ ?_)
  · skip
    refine (g_iconstH (x := 0) c77001 dJ36_hasNext_18 rfl).trans ?_
    exact g_zreturn0H c77001 dJ36_hasNext_19 rfl
  · skip
    refine (g_iconstH (x := 1) c77001 dJ36_hasNext_14 rfl).trans ?_
    refine (g_gotoH (tgt := 19) c77001 dJ36_hasNext_15 rfl).trans ?_
    exact g_zreturn1H c77001 dJ36_hasNext_19 rfl
theorem Y77001 {d : Nat} {a0 : Nat} (h : AH) (hr : jrecv 77001 [.ref a0] h = true) : M2 (d + 1) 77001 [.ref a0] h = G2 d 77001 0 [.ref a0] [] h := M2_eq rfl rfl hr rfl
/-! java/util/LinkedList$ListItr.next()Ljava/lang/Object; -/
abbrev cJ36_next : ByteArray := prog_80_method_3_code
def dkwJ36_next_2 : List UInt8 := [42, 180, 0, 46, 180, 0, 52, 176]
abbrev dktJ36_next_2 : List UInt8 := dkwJ36_next_2 ++ []
def dkwJ36_next_1 : List UInt8 := [181, 0, 46, 42, 42, 180, 0, 29, 180, 0, 49, 181, 0, 29, 42, 89, 180, 0, 33, 4, 96, 181, 0, 33]
abbrev dktJ36_next_1 : List UInt8 := dkwJ36_next_1 ++ dktJ36_next_2
def dkwJ36_next_0 : List UInt8 := [42, 182, 0, 36, 42, 182, 0, 39, 154, 0, 11, 187, 0, 43, 89, 183, 0, 45, 191, 42, 42, 180, 0, 29]
abbrev dktJ36_next_0 : List UInt8 := dkwJ36_next_0 ++ dktJ36_next_1
theorem dksJ36_next_0 : cJ36_next.data.toList.drop 0 = dktJ36_next_0 := by decide +kernel
theorem dksJ36_next_1 : cJ36_next.data.toList.drop 24 = dktJ36_next_1 := dk_seg dksJ36_next_0 24 rfl rfl
theorem dksJ36_next_2 : cJ36_next.data.toList.drop 48 = dktJ36_next_2 := dk_seg dksJ36_next_1 24 rfl rfl
theorem dJ36_next_0 : decode cJ36_next 0 = .ok (.aload_n 0, 1) := dk_42 (dk_at dksJ36_next_0 0 rfl rfl)
theorem dJ36_next_1 : decode cJ36_next 1 = .ok (.invokevirtual 36, 3) := dk_182 0 36 (dk_at dksJ36_next_0 1 rfl rfl)
theorem dJ36_next_4 : decode cJ36_next 4 = .ok (.aload_n 0, 1) := dk_42 (dk_at dksJ36_next_0 4 rfl rfl)
theorem dJ36_next_5 : decode cJ36_next 5 = .ok (.invokevirtual 39, 3) := dk_182 0 39 (dk_at dksJ36_next_0 5 rfl rfl)
theorem dJ36_next_8 : decode cJ36_next 8 = .ok (.ifCond .ne 11, 3) := dk_154 0 11 (dk_at dksJ36_next_0 8 rfl rfl)
theorem dJ36_next_11 : decode cJ36_next 11 = .ok (.new 43, 3) := dk_187 0 43 (dk_at dksJ36_next_0 11 rfl rfl)
theorem dJ36_next_14 : decode cJ36_next 14 = .ok (.dup, 1) := dk_89 (dk_at dksJ36_next_0 14 rfl rfl)
theorem dJ36_next_15 : decode cJ36_next 15 = .ok (.invokespecial 45, 3) := dk_183 0 45 (dk_at dksJ36_next_0 15 rfl rfl)
theorem dJ36_next_18 : decode cJ36_next 18 = .ok (.athrow, 1) := dk_191 (dk_at dksJ36_next_0 18 rfl rfl)
theorem dJ36_next_19 : decode cJ36_next 19 = .ok (.aload_n 0, 1) := dk_42 (dk_at dksJ36_next_0 19 rfl rfl)
theorem dJ36_next_20 : decode cJ36_next 20 = .ok (.aload_n 0, 1) := dk_42 (dk_at dksJ36_next_0 20 rfl rfl)
theorem dJ36_next_21 : decode cJ36_next 21 = .ok (.getfield 29, 3) := dk_180 0 29 (dk_at dksJ36_next_0 21 rfl rfl)
theorem dJ36_next_24 : decode cJ36_next 24 = .ok (.putfield 46, 3) := dk_181 0 46 (dk_at dksJ36_next_1 0 rfl rfl)
theorem dJ36_next_27 : decode cJ36_next 27 = .ok (.aload_n 0, 1) := dk_42 (dk_at dksJ36_next_1 3 rfl rfl)
theorem dJ36_next_28 : decode cJ36_next 28 = .ok (.aload_n 0, 1) := dk_42 (dk_at dksJ36_next_1 4 rfl rfl)
theorem dJ36_next_29 : decode cJ36_next 29 = .ok (.getfield 29, 3) := dk_180 0 29 (dk_at dksJ36_next_1 5 rfl rfl)
theorem dJ36_next_32 : decode cJ36_next 32 = .ok (.getfield 49, 3) := dk_180 0 49 (dk_at dksJ36_next_1 8 rfl rfl)
theorem dJ36_next_35 : decode cJ36_next 35 = .ok (.putfield 29, 3) := dk_181 0 29 (dk_at dksJ36_next_1 11 rfl rfl)
theorem dJ36_next_38 : decode cJ36_next 38 = .ok (.aload_n 0, 1) := dk_42 (dk_at dksJ36_next_1 14 rfl rfl)
theorem dJ36_next_39 : decode cJ36_next 39 = .ok (.dup, 1) := dk_89 (dk_at dksJ36_next_1 15 rfl rfl)
theorem dJ36_next_40 : decode cJ36_next 40 = .ok (.getfield 33, 3) := dk_180 0 33 (dk_at dksJ36_next_1 16 rfl rfl)
theorem dJ36_next_43 : decode cJ36_next 43 = .ok (.iconst 1, 1) := dk_4 (dk_at dksJ36_next_1 19 rfl rfl)
theorem dJ36_next_44 : decode cJ36_next 44 = .ok (.iadd, 1) := dk_96 (dk_at dksJ36_next_1 20 rfl rfl)
theorem dJ36_next_45 : decode cJ36_next 45 = .ok (.putfield 33, 3) := dk_181 0 33 (dk_at dksJ36_next_1 21 rfl rfl)
theorem dJ36_next_48 : decode cJ36_next 48 = .ok (.aload_n 0, 1) := dk_42 (dk_at dksJ36_next_2 0 rfl rfl)
theorem dJ36_next_49 : decode cJ36_next 49 = .ok (.getfield 46, 3) := dk_180 0 46 (dk_at dksJ36_next_2 1 rfl rfl)
theorem dJ36_next_52 : decode cJ36_next 52 = .ok (.getfield 52, 3) := dk_180 0 52 (dk_at dksJ36_next_2 4 rfl rfl)
theorem dJ36_next_55 : decode cJ36_next 55 = .ok (.areturn, 1) := dk_176 (dk_at dksJ36_next_2 7 rfl rfl)
theorem c77002 : jtCode 77002 = cJ36_next := rfl
theorem F77002_0 (d : Nat) (a0 : Nat) (h : AH) : G2 d 77002 0 [.ref a0] [] h = zcV (M2 d 77000 [.ref a0] h) (fun h2 => zcI (M2 d 77001 [.ref a0] h2) (fun x3 h4 => if x3 = 0 then (cX h4.1 (jpush h4 (66, 6, jL []))) else (zpR (jf (jc h4 (.ref a0)) [77] 1) (fun r5 => zqF h4 (.ref a0) [77] 0 2 r5 (fun h6 => zpR (jf (jc h6 (.ref a0)) [77] 1) (fun r7 => zpR (jf (jc h6 r7) [70] 1) (fun r8 => zqF h6 (.ref a0) [77] 1 2 r8 (fun h9 => zpI (jf (jc h9 (.ref a0)) [77] 2) (fun x10 => zqF h9 (.ref a0) [77] 2 0 (.int (x10 + 1)) (fun h11 => zpR (jf (jc h11 (.ref a0)) [77] 0) (fun r12 => zpR (jf (jc h11 r12) [70] 0) (fun r13 => ckR r13 (some (.inl (some r13), h11))) ()) ()) ()) ()) ()) ()) ()) ()) ())) ()) () := by
  refine (g_aload_nH c77002 dJ36_next_0 rfl).trans ?_
  refine (g_virtualH (as := [.ref a0]) (rest := []) c77002 dJ36_next_1 rfl rfl rfl rfl rfl).trans ((jback_VH (κx := cX) (fun e h => jthrow_outH rfl)).trans (cV_cg fun h2 => ?_))
  refine (g_aload_nH c77002 dJ36_next_4 rfl).trans ?_
  refine (g_virtualH (as := [.ref a0]) (rest := []) c77002 dJ36_next_5 rfl rfl rfl rfl rfl).trans ((jback_IH (κx := cX) (fun e h => jthrow_outH rfl)).trans (cI_cg fun x3 h4 => ?_))
  refine (g_if_neH (tgt := 19) c77002 dJ36_next_8 rfl).trans (if_cg ?_ ?_)
  · skip
    exact g_throwNewH (l := []) c77002 dJ36_next_11 rfl rfl (by decide +kernel)
  · skip
    refine (g_aload_nH c77002 dJ36_next_19 rfl).trans ?_
    refine (g_aload_nH c77002 dJ36_next_20 rfl).trans ?_
    refine (g_getRH c77002 dJ36_next_21 rfl).trans (rR_cg fun r5 => ?_)
    refine (g_putH c77002 dJ36_next_24 rfl).trans (pF_cg fun h6 => ?_)
    refine (g_aload_nH c77002 dJ36_next_27 rfl).trans ?_
    refine (g_aload_nH c77002 dJ36_next_28 rfl).trans ?_
    refine (g_getRH c77002 dJ36_next_29 rfl).trans (rR_cg fun r7 => ?_)
    refine (g_getRH c77002 dJ36_next_32 rfl).trans (rR_cg fun r8 => ?_)
    refine (g_putH c77002 dJ36_next_35 rfl).trans (pF_cg fun h9 => ?_)
    refine (g_aload_nH c77002 dJ36_next_38 rfl).trans ?_
    refine (g_dup_rH c77002 dJ36_next_39).trans ?_
    refine (g_getIH c77002 dJ36_next_40 rfl rfl).trans (rI_cg fun x10 => ?_)
    refine (g_iconstH (x := 1) c77002 dJ36_next_43 rfl).trans ?_
    refine (g_iaddH c77002 dJ36_next_44).trans ?_
    refine (g_putH c77002 dJ36_next_45 rfl).trans (pF_cg fun h11 => ?_)
    refine (g_aload_nH c77002 dJ36_next_48 rfl).trans ?_
    refine (g_getRH c77002 dJ36_next_49 rfl).trans (rR_cg fun r12 => ?_)
    refine (g_getRH c77002 dJ36_next_52 rfl).trans (rR_cg fun r13 => ?_)
    exact g_areturnH c77002 dJ36_next_55 rfl
theorem Y77002 {d : Nat} {a0 : Nat} (h : AH) (hr : jrecv 77002 [.ref a0] h = true) : M2 (d + 1) 77002 [.ref a0] h = G2 d 77002 0 [.ref a0] [] h := M2_eq rfl rfl hr rfl
/-! java/util/LinkedList$ListItr.set(Ljava/lang/Object;)V -/
abbrev cJ36_set : ByteArray := prog_80_method_9_code
def dkwJ36_set_1 : List UInt8 := [181, 0, 52, 177]
abbrev dktJ36_set_1 : List UInt8 := dkwJ36_set_1 ++ []
def dkwJ36_set_0 : List UInt8 := [42, 180, 0, 46, 199, 0, 11, 187, 0, 65, 89, 183, 0, 67, 191, 42, 182, 0, 36, 42, 180, 0, 46, 43]
abbrev dktJ36_set_0 : List UInt8 := dkwJ36_set_0 ++ dktJ36_set_1
theorem dksJ36_set_0 : cJ36_set.data.toList.drop 0 = dktJ36_set_0 := by decide +kernel
theorem dksJ36_set_1 : cJ36_set.data.toList.drop 24 = dktJ36_set_1 := dk_seg dksJ36_set_0 24 rfl rfl
theorem dJ36_set_0 : decode cJ36_set 0 = .ok (.aload_n 0, 1) := dk_42 (dk_at dksJ36_set_0 0 rfl rfl)
theorem dJ36_set_1 : decode cJ36_set 1 = .ok (.getfield 46, 3) := dk_180 0 46 (dk_at dksJ36_set_0 1 rfl rfl)
theorem dJ36_set_4 : decode cJ36_set 4 = .ok (.ifnonnull 11, 3) := dk_199 0 11 (dk_at dksJ36_set_0 4 rfl rfl)
theorem dJ36_set_7 : decode cJ36_set 7 = .ok (.new 65, 3) := dk_187 0 65 (dk_at dksJ36_set_0 7 rfl rfl)
theorem dJ36_set_10 : decode cJ36_set 10 = .ok (.dup, 1) := dk_89 (dk_at dksJ36_set_0 10 rfl rfl)
theorem dJ36_set_11 : decode cJ36_set 11 = .ok (.invokespecial 67, 3) := dk_183 0 67 (dk_at dksJ36_set_0 11 rfl rfl)
theorem dJ36_set_14 : decode cJ36_set 14 = .ok (.athrow, 1) := dk_191 (dk_at dksJ36_set_0 14 rfl rfl)
theorem dJ36_set_15 : decode cJ36_set 15 = .ok (.aload_n 0, 1) := dk_42 (dk_at dksJ36_set_0 15 rfl rfl)
theorem dJ36_set_16 : decode cJ36_set 16 = .ok (.invokevirtual 36, 3) := dk_182 0 36 (dk_at dksJ36_set_0 16 rfl rfl)
theorem dJ36_set_19 : decode cJ36_set 19 = .ok (.aload_n 0, 1) := dk_42 (dk_at dksJ36_set_0 19 rfl rfl)
theorem dJ36_set_20 : decode cJ36_set 20 = .ok (.getfield 46, 3) := dk_180 0 46 (dk_at dksJ36_set_0 20 rfl rfl)
theorem dJ36_set_23 : decode cJ36_set 23 = .ok (.aload_n 1, 1) := dk_43 (dk_at dksJ36_set_0 23 rfl rfl)
theorem dJ36_set_24 : decode cJ36_set 24 = .ok (.putfield 52, 3) := dk_181 0 52 (dk_at dksJ36_set_1 0 rfl rfl)
theorem dJ36_set_27 : decode cJ36_set 27 = .ok (.return_, 1) := dk_177 (dk_at dksJ36_set_1 3 rfl rfl)
theorem c77004 : jtCode 77004 = cJ36_set := rfl
theorem F77004_0 (d : Nat) (a0 : Nat) (v1 : Value) (h : AH) : G2 d 77004 0 [.ref a0, v1] [] h = zpR (jf (jc h (.ref a0)) [77] 0) (fun r1 => zkR r1 (if (r1 : Value) = .null then (G2 d 77004 7 [.ref a0, v1] [] h) else (zcV (M2 d 77000 [.ref a0] h) (fun h3 => zpR (jf (jc h3 (.ref a0)) [77] 0) (fun r4 => zkR v1 (zqF h3 r4 [70] 0 2 v1 (fun h5 => some (.inl none, h5)) ()) ()) ()) ())) ()) () := by
  refine (g_aload_nH c77004 dJ36_set_0 rfl).trans ?_
  refine (g_getRH c77004 dJ36_set_1 rfl).trans (rR_cg fun r1 => ?_)
  refine (g_ifnonnullH (tgt := 15) c77004 dJ36_set_4 rfl).trans (ckR_cg (if_cg ?_ ?_))
  · skip
    rfl
  · skip
    refine (g_aload_nH c77004 dJ36_set_15 rfl).trans ?_
    refine (g_virtualH (as := [.ref a0]) (rest := []) c77004 dJ36_set_16 rfl rfl rfl rfl rfl).trans ((jback_VH (κx := cX) (fun e h => jthrow_outH rfl)).trans (cV_cg fun h3 => ?_))
    refine (g_aload_nH c77004 dJ36_set_19 rfl).trans ?_
    refine (g_getRH c77004 dJ36_set_20 rfl).trans (rR_cg fun r4 => ?_)
    refine (g_aload_nVH c77004 dJ36_set_23 rfl).trans (ckR_cg ?_)
    refine (g_putH c77004 dJ36_set_24 rfl).trans (pF_cg fun h5 => ?_)
    exact g_returnH c77004 dJ36_set_27 rfl
theorem Y77004 {d : Nat} {a0 : Nat} {v1 : Value} (h : AH) (hv1 : isR v1 = true) (hr : jrecv 77004 [.ref a0, v1] h = true) : M2 (d + 1) 77004 [.ref a0, v1] h = G2 d 77004 0 [.ref a0, v1] [] h := M2_eq rfl rfl hr (by simp only [jent, jargL_R hv1, jargL]; rfl)
/-! java/util/LinkedList$ListItr.<init>(Ljava/util/LinkedList;I)V -/
abbrev cJ36_init : ByteArray := prog_80_method_1_code
def dkwJ36_init_1 : List UInt8 := [180, 0, 22, 160, 0, 7, 1, 167, 0, 8, 43, 28, 182, 0, 25, 181, 0, 29, 42, 28, 181, 0, 33, 177]
abbrev dktJ36_init_1 : List UInt8 := dkwJ36_init_1 ++ []
def dkwJ36_init_0 : List UInt8 := [42, 43, 181, 0, 1, 42, 183, 0, 7, 42, 42, 180, 0, 1, 180, 0, 13, 181, 0, 19, 42, 28, 43]
abbrev dktJ36_init_0 : List UInt8 := dkwJ36_init_0 ++ dktJ36_init_1
theorem dksJ36_init_0 : cJ36_init.data.toList.drop 0 = dktJ36_init_0 := by decide +kernel
theorem dksJ36_init_1 : cJ36_init.data.toList.drop 23 = dktJ36_init_1 := dk_seg dksJ36_init_0 23 rfl rfl
theorem dJ36_init_0 : decode cJ36_init 0 = .ok (.aload_n 0, 1) := dk_42 (dk_at dksJ36_init_0 0 rfl rfl)
theorem dJ36_init_1 : decode cJ36_init 1 = .ok (.aload_n 1, 1) := dk_43 (dk_at dksJ36_init_0 1 rfl rfl)
theorem dJ36_init_2 : decode cJ36_init 2 = .ok (.putfield 1, 3) := dk_181 0 1 (dk_at dksJ36_init_0 2 rfl rfl)
theorem dJ36_init_5 : decode cJ36_init 5 = .ok (.aload_n 0, 1) := dk_42 (dk_at dksJ36_init_0 5 rfl rfl)
theorem dJ36_init_6 : decode cJ36_init 6 = .ok (.invokespecial 7, 3) := dk_183 0 7 (dk_at dksJ36_init_0 6 rfl rfl)
theorem dJ36_init_9 : decode cJ36_init 9 = .ok (.aload_n 0, 1) := dk_42 (dk_at dksJ36_init_0 9 rfl rfl)
theorem dJ36_init_10 : decode cJ36_init 10 = .ok (.aload_n 0, 1) := dk_42 (dk_at dksJ36_init_0 10 rfl rfl)
theorem dJ36_init_11 : decode cJ36_init 11 = .ok (.getfield 1, 3) := dk_180 0 1 (dk_at dksJ36_init_0 11 rfl rfl)
theorem dJ36_init_14 : decode cJ36_init 14 = .ok (.getfield 13, 3) := dk_180 0 13 (dk_at dksJ36_init_0 14 rfl rfl)
theorem dJ36_init_17 : decode cJ36_init 17 = .ok (.putfield 19, 3) := dk_181 0 19 (dk_at dksJ36_init_0 17 rfl rfl)
theorem dJ36_init_20 : decode cJ36_init 20 = .ok (.aload_n 0, 1) := dk_42 (dk_at dksJ36_init_0 20 rfl rfl)
theorem dJ36_init_21 : decode cJ36_init 21 = .ok (.iload_n 2, 1) := dk_28 (dk_at dksJ36_init_0 21 rfl rfl)
theorem dJ36_init_22 : decode cJ36_init 22 = .ok (.aload_n 1, 1) := dk_43 (dk_at dksJ36_init_0 22 rfl rfl)
theorem dJ36_init_23 : decode cJ36_init 23 = .ok (.getfield 22, 3) := dk_180 0 22 (dk_at dksJ36_init_1 0 rfl rfl)
theorem dJ36_init_26 : decode cJ36_init 26 = .ok (.if_icmp .ne 7, 3) := dk_160 0 7 (dk_at dksJ36_init_1 3 rfl rfl)
theorem dJ36_init_29 : decode cJ36_init 29 = .ok (.aconst_null, 1) := dk_1 (dk_at dksJ36_init_1 6 rfl rfl)
theorem dJ36_init_30 : decode cJ36_init 30 = .ok (.goto 8, 3) := dk_167 0 8 (dk_at dksJ36_init_1 7 rfl rfl)
theorem dJ36_init_33 : decode cJ36_init 33 = .ok (.aload_n 1, 1) := dk_43 (dk_at dksJ36_init_1 10 rfl rfl)
theorem dJ36_init_34 : decode cJ36_init 34 = .ok (.iload_n 2, 1) := dk_28 (dk_at dksJ36_init_1 11 rfl rfl)
theorem dJ36_init_35 : decode cJ36_init 35 = .ok (.invokevirtual 25, 3) := dk_182 0 25 (dk_at dksJ36_init_1 12 rfl rfl)
theorem dJ36_init_38 : decode cJ36_init 38 = .ok (.putfield 29, 3) := dk_181 0 29 (dk_at dksJ36_init_1 15 rfl rfl)
theorem dJ36_init_41 : decode cJ36_init 41 = .ok (.aload_n 0, 1) := dk_42 (dk_at dksJ36_init_1 18 rfl rfl)
theorem dJ36_init_42 : decode cJ36_init 42 = .ok (.iload_n 2, 1) := dk_28 (dk_at dksJ36_init_1 19 rfl rfl)
theorem dJ36_init_43 : decode cJ36_init 43 = .ok (.putfield 33, 3) := dk_181 0 33 (dk_at dksJ36_init_1 20 rfl rfl)
theorem dJ36_init_46 : decode cJ36_init 46 = .ok (.return_, 1) := dk_177 (dk_at dksJ36_init_1 23 rfl rfl)
theorem c77900 : jtCode 77900 = cJ36_init := rfl
theorem F77900_0 (d : Nat) (a0 : Nat) (v1 : Value) (i2 : Int32) (h : AH) : G2 d 77900 0 [.ref a0, v1, .int i2] [] h = zkR v1 (zqF h (.ref a0) [77] 4 2 v1 (fun h1 => zcV (M2 d 90000 [.ref a0] h1) (fun h3 => zpR (jf (jc h3 (.ref a0)) [77] 4) (fun r4 => zpI (jf (jc h3 r4) [43, 47] 0) (fun x5 => zqF h3 (.ref a0) [77] 3 0 (.int x5) (fun h6 => zkR v1 (zpI (jf (jc h6 v1) [47] 1) (fun x7 => if i2 = x7 then (zqF h6 (.ref a0) [77] 1 2 .null (fun h8 => zqF h8 (.ref a0) [77] 2 0 (.int i2) (fun h9 => some (.inl none, h9)) ()) ()) else (zkR v1 (zcR (M2 d 47009 [v1, .int i2] h6) (fun r10 h11 => zqF h11 (.ref a0) [77] 1 2 r10 (fun h12 => zqF h12 (.ref a0) [77] 2 0 (.int i2) (fun h13 => some (.inl none, h13)) ()) ()) ()) ())) ()) ()) ()) ()) ()) ()) ()) () := by
  refine (g_aload_nH c77900 dJ36_init_0 rfl).trans ?_
  refine (g_aload_nVH c77900 dJ36_init_1 rfl).trans (ckR_cg ?_)
  refine (g_putFH c77900 dJ36_init_2 rfl rfl).trans (pF_cg fun h1 => ?_)
  refine (g_aload_nH c77900 dJ36_init_5 rfl).trans ?_
  refine (g_specialH (as := [.ref a0]) (rest := []) c77900 dJ36_init_6 rfl rfl rfl rfl rfl).trans ((jback_VH (κx := cX) (fun e h => jthrow_outH rfl)).trans (cV_cg fun h3 => ?_))
  refine (g_aload_nH c77900 dJ36_init_9 rfl).trans ?_
  refine (g_aload_nH c77900 dJ36_init_10 rfl).trans ?_
  refine (g_getRH c77900 dJ36_init_11 rfl).trans (rR_cg fun r4 => ?_)
  refine (g_getIH c77900 dJ36_init_14 rfl rfl).trans (rI_cg fun x5 => ?_)
  refine (g_putH c77900 dJ36_init_17 rfl).trans (pF_cg fun h6 => ?_)
  refine (g_aload_nH c77900 dJ36_init_20 rfl).trans ?_
  refine (g_iload_nH c77900 dJ36_init_21 rfl).trans ?_
  refine (g_aload_nVH c77900 dJ36_init_22 rfl).trans (ckR_cg ?_)
  refine (g_getIH c77900 dJ36_init_23 rfl rfl).trans (rI_cg fun x7 => ?_)
  refine (g_icmp_neH (tgt := 33) c77900 dJ36_init_26 rfl).trans (if_cg ?_ ?_)
  · skip
    refine (g_aconst_nullH c77900 dJ36_init_29).trans ?_
    refine (g_gotoH (tgt := 38) c77900 dJ36_init_30 rfl).trans ?_
    refine (g_putH c77900 dJ36_init_38 rfl).trans (pF_cg fun h8 => ?_)
    refine (g_aload_nH c77900 dJ36_init_41 rfl).trans ?_
    refine (g_iload_nH c77900 dJ36_init_42 rfl).trans ?_
    refine (g_putH c77900 dJ36_init_43 rfl).trans (pF_cg fun h9 => ?_)
    exact g_returnH c77900 dJ36_init_46 rfl
  · skip
    refine (g_aload_nVH c77900 dJ36_init_33 rfl).trans (ckR_cg ?_)
    refine (g_iload_nH c77900 dJ36_init_34 rfl).trans ?_
    refine (g_virtualH (as := [v1, .int i2]) (rest := [.ref a0]) c77900 dJ36_init_35 rfl rfl rfl rfl rfl).trans ((jback_RH (κx := cX) (fun e h => jthrow_outH rfl)).trans (cR_cg fun r10 h11 => ?_))
    refine (g_putH c77900 dJ36_init_38 rfl).trans (pF_cg fun h12 => ?_)
    refine (g_aload_nH c77900 dJ36_init_41 rfl).trans ?_
    refine (g_iload_nH c77900 dJ36_init_42 rfl).trans ?_
    refine (g_putH c77900 dJ36_init_43 rfl).trans (pF_cg fun h13 => ?_)
    exact g_returnH c77900 dJ36_init_46 rfl
theorem Y77900 {d : Nat} {a0 : Nat} {v1 : Value} {i2 : Int32} (h : AH) (hv1 : isR v1 = true) (hr : jrecv 77900 [.ref a0, v1, .int i2] h = true) : M2 (d + 1) 77900 [.ref a0, v1, .int i2] h = G2 d 77900 0 [.ref a0, v1, .int i2] [] h := M2_eq rfl rfl hr (by simp only [jent, jargL_R hv1, jargL]; rfl)
/-! java/util/List.sort(Ljava/util/Comparator;)V -/
abbrev cJ38_sort : ByteArray := prog_82_method_15_code
def dkwJ38_sort_2 : List UInt8 := [185, 0, 19, 1, 0, 87, 45, 25, 7, 185, 0, 28, 2, 0, 132, 6, 1, 167, 255, 224, 177]
abbrev dktJ38_sort_2 : List UInt8 := dkwJ38_sort_2 ++ []
def dkwJ38_sort_1 : List UInt8 := [190, 54, 5, 3, 54, 6, 21, 6, 21, 5, 162, 0, 31, 25, 4, 21, 6, 50, 58, 7, 45]
abbrev dktJ38_sort_1 : List UInt8 := dkwJ38_sort_1 ++ dktJ38_sort_2
def dkwJ38_sort_0 : List UInt8 := [42, 185, 0, 32, 1, 0, 77, 44, 43, 184, 0, 36, 42, 185, 0, 7, 1, 0, 78, 44, 58, 4, 25, 4]
abbrev dktJ38_sort_0 : List UInt8 := dkwJ38_sort_0 ++ dktJ38_sort_1
theorem dksJ38_sort_0 : cJ38_sort.data.toList.drop 0 = dktJ38_sort_0 := by decide +kernel
theorem dksJ38_sort_1 : cJ38_sort.data.toList.drop 24 = dktJ38_sort_1 := dk_seg dksJ38_sort_0 24 rfl rfl
theorem dksJ38_sort_2 : cJ38_sort.data.toList.drop 45 = dktJ38_sort_2 := dk_seg dksJ38_sort_1 21 rfl rfl
theorem dJ38_sort_0 : decode cJ38_sort 0 = .ok (.aload_n 0, 1) := dk_42 (dk_at dksJ38_sort_0 0 rfl rfl)
theorem dJ38_sort_1 : decode cJ38_sort 1 = .ok (.invokeinterface 32 1, 5) := by decide +kernel
theorem dJ38_sort_6 : decode cJ38_sort 6 = .ok (.astore_n 2, 1) := dk_77 (dk_at dksJ38_sort_0 6 rfl rfl)
theorem dJ38_sort_7 : decode cJ38_sort 7 = .ok (.aload_n 2, 1) := dk_44 (dk_at dksJ38_sort_0 7 rfl rfl)
theorem dJ38_sort_8 : decode cJ38_sort 8 = .ok (.aload_n 1, 1) := dk_43 (dk_at dksJ38_sort_0 8 rfl rfl)
theorem dJ38_sort_9 : decode cJ38_sort 9 = .ok (.invokestatic 36, 3) := dk_184 0 36 (dk_at dksJ38_sort_0 9 rfl rfl)
theorem dJ38_sort_12 : decode cJ38_sort 12 = .ok (.aload_n 0, 1) := dk_42 (dk_at dksJ38_sort_0 12 rfl rfl)
theorem dJ38_sort_13 : decode cJ38_sort 13 = .ok (.invokeinterface 7 1, 5) := by decide +kernel
theorem dJ38_sort_18 : decode cJ38_sort 18 = .ok (.astore_n 3, 1) := dk_78 (dk_at dksJ38_sort_0 18 rfl rfl)
theorem dJ38_sort_19 : decode cJ38_sort 19 = .ok (.aload_n 2, 1) := dk_44 (dk_at dksJ38_sort_0 19 rfl rfl)
theorem dJ38_sort_20 : decode cJ38_sort 20 = .ok (.astore 4, 2) := dk_58 4 (dk_at dksJ38_sort_0 20 rfl rfl)
theorem dJ38_sort_22 : decode cJ38_sort 22 = .ok (.aload 4, 2) := dk_25 4 (dk_at dksJ38_sort_0 22 rfl rfl)
theorem dJ38_sort_24 : decode cJ38_sort 24 = .ok (.arraylength, 1) := dk_190 (dk_at dksJ38_sort_1 0 rfl rfl)
theorem dJ38_sort_25 : decode cJ38_sort 25 = .ok (.istore 5, 2) := dk_54 5 (dk_at dksJ38_sort_1 1 rfl rfl)
theorem dJ38_sort_27 : decode cJ38_sort 27 = .ok (.iconst 0, 1) := dk_3 (dk_at dksJ38_sort_1 3 rfl rfl)
theorem dJ38_sort_28 : decode cJ38_sort 28 = .ok (.istore 6, 2) := dk_54 6 (dk_at dksJ38_sort_1 4 rfl rfl)
theorem dJ38_sort_30 : decode cJ38_sort 30 = .ok (.iload 6, 2) := dk_21 6 (dk_at dksJ38_sort_1 6 rfl rfl)
theorem dJ38_sort_32 : decode cJ38_sort 32 = .ok (.iload 5, 2) := dk_21 5 (dk_at dksJ38_sort_1 8 rfl rfl)
theorem dJ38_sort_34 : decode cJ38_sort 34 = .ok (.if_icmp .ge 31, 3) := dk_162 0 31 (dk_at dksJ38_sort_1 10 rfl rfl)
theorem dJ38_sort_37 : decode cJ38_sort 37 = .ok (.aload 4, 2) := dk_25 4 (dk_at dksJ38_sort_1 13 rfl rfl)
theorem dJ38_sort_39 : decode cJ38_sort 39 = .ok (.iload 6, 2) := dk_21 6 (dk_at dksJ38_sort_1 15 rfl rfl)
theorem dJ38_sort_41 : decode cJ38_sort 41 = .ok (.aaload, 1) := dk_50 (dk_at dksJ38_sort_1 17 rfl rfl)
theorem dJ38_sort_42 : decode cJ38_sort 42 = .ok (.astore 7, 2) := dk_58 7 (dk_at dksJ38_sort_1 18 rfl rfl)
theorem dJ38_sort_44 : decode cJ38_sort 44 = .ok (.aload_n 3, 1) := dk_45 (dk_at dksJ38_sort_1 20 rfl rfl)
theorem dJ38_sort_45 : decode cJ38_sort 45 = .ok (.invokeinterface 19 1, 5) := by decide +kernel
theorem dJ38_sort_50 : decode cJ38_sort 50 = .ok (.pop, 1) := dk_87 (dk_at dksJ38_sort_2 5 rfl rfl)
theorem dJ38_sort_51 : decode cJ38_sort 51 = .ok (.aload_n 3, 1) := dk_45 (dk_at dksJ38_sort_2 6 rfl rfl)
theorem dJ38_sort_52 : decode cJ38_sort 52 = .ok (.aload 7, 2) := dk_25 7 (dk_at dksJ38_sort_2 7 rfl rfl)
theorem dJ38_sort_54 : decode cJ38_sort 54 = .ok (.invokeinterface 28 2, 5) := by decide +kernel
theorem dJ38_sort_59 : decode cJ38_sort 59 = .ok (.iinc 6 1, 3) := dk_132 6 1 (dk_at dksJ38_sort_2 14 rfl rfl)
theorem dJ38_sort_62 : decode cJ38_sort 62 = .ok (.goto (-32), 3) := dk_167 255 224 (dk_at dksJ38_sort_2 17 rfl rfl)
theorem dJ38_sort_65 : decode cJ38_sort 65 = .ok (.return_, 1) := dk_177 (dk_at dksJ38_sort_2 20 rfl rfl)
theorem c79000 : jtCode 79000 = cJ38_sort := rfl
theorem F79000_0 (d : Nat) (a0 : Nat) (v1 : Value) (h : AH) : G2 d 79000 0 [.ref a0, v1, jno, jno, jno, jno, jno, jno] [] h = zcR (MvH d 9148 [.ref a0] h) (fun r1 h2 => zkR r1 (zkR r1 (zkR v1 (zcV (M2 d 45012 [r1, v1] h2) (fun h4 => zcR (MvH d 9149 [.ref a0] h4) (fun r5 h6 => zkR r5 (zkR r1 (zkR r1 (zkR r1 (zqL h6 r1 (fun x7 => G2 d 79000 30 [.ref a0, v1, r1, r5, r1, .int x7, .int 0, jno] [] h6) ()) ()) ()) ()) ()) ()) ()) ()) ()) ()) () := by
  refine (g_aload_nH c79000 dJ38_sort_0 rfl).trans ?_
  refine (g_faceH (as := [.ref a0]) (rest := []) c79000 dJ38_sort_1 rfl rfl rfl rfl rfl).trans ((jback_RH (κx := cX) (fun e h => jthrow_outH rfl)).trans (cR_cg fun r1 h2 => ?_))
  refine (g_astore_nVH (L' := [.ref a0, v1, r1, jno, jno, jno, jno, jno]) c79000 dJ38_sort_6 rfl rfl).trans (ckR_cg ?_)
  refine (g_aload_nVH c79000 dJ38_sort_7 rfl).trans (ckR_cg ?_)
  refine (g_aload_nVH c79000 dJ38_sort_8 rfl).trans (ckR_cg ?_)
  refine (g_staticH (as := [r1, v1]) (rest := []) c79000 dJ38_sort_9 rfl rfl rfl rfl rfl).trans ((jback_VH (κx := cX) (fun e h => jthrow_outH rfl)).trans (cV_cg fun h4 => ?_))
  refine (g_aload_nH c79000 dJ38_sort_12 rfl).trans ?_
  refine (g_faceH (as := [.ref a0]) (rest := []) c79000 dJ38_sort_13 rfl rfl rfl rfl rfl).trans ((jback_RH (κx := cX) (fun e h => jthrow_outH rfl)).trans (cR_cg fun r5 h6 => ?_))
  refine (g_astore_nVH (L' := [.ref a0, v1, r1, r5, jno, jno, jno, jno]) c79000 dJ38_sort_18 rfl rfl).trans (ckR_cg ?_)
  refine (g_aload_nVH c79000 dJ38_sort_19 rfl).trans (ckR_cg ?_)
  refine (g_astoreVH (L' := [.ref a0, v1, r1, r5, r1, jno, jno, jno]) c79000 dJ38_sort_20 rfl rfl).trans (ckR_cg ?_)
  refine (g_aloadVH c79000 dJ38_sort_22 rfl).trans (ckR_cg ?_)
  refine (g_alenH c79000 dJ38_sort_24).trans (aL_cg fun x7 => ?_)
  refine (g_istoreH (L' := [.ref a0, v1, r1, r5, r1, .int x7, jno, jno]) c79000 dJ38_sort_25 rfl rfl).trans ?_
  refine (g_iconstH (x := 0) c79000 dJ38_sort_27 rfl).trans ?_
  refine (g_istoreH (L' := [.ref a0, v1, r1, r5, r1, .int x7, .int 0, jno]) c79000 dJ38_sort_28 rfl rfl).trans ?_
  rfl
theorem F79000_30 (d : Nat) (a0 : Nat) (v1 : Value) (v2 : Value) (v3 : Value) (v4 : Value) (i5 : Int32) (i6 : Int32) (v7 : Value) (h : AH) : G2 d 79000 30 [.ref a0, v1, v2, v3, v4, .int i5, .int i6, v7] [] h = if i5 ≤ i6 then (some (.inl none, h)) else (zkR v4 (zqG h v4 [1040, 1041, 1050, 1060, 1071] i6 (fun w1 => zpR w1 (fun r2 => zkR r2 (zkR v3 (zcR (MvH d 9150 [v3] h) (fun r3 h4 => zkW r3 (zkR v3 (zkR r2 (zcV (MvH d 9151 [v3, r2] h4) (fun h6 => G2 d 79000 30 [.ref a0, v1, v2, v3, v4, .int i5, .int (i6 + 1), r2] [] h6) ()) ()) ()) ()) ()) ()) ()) ()) ()) ()) := by
  refine (g_iloadH c79000 dJ38_sort_30 rfl).trans ?_
  refine (g_iloadH c79000 dJ38_sort_32 rfl).trans ?_
  refine (g_icmp_geH (tgt := 65) c79000 dJ38_sort_34 rfl).trans (if_cg ?_ ?_)
  · skip
    exact g_returnH c79000 dJ38_sort_65 rfl
  · skip
    refine (g_aloadVH c79000 dJ38_sort_37 rfl).trans (ckR_cg ?_)
    refine (g_iloadH c79000 dJ38_sort_39 rfl).trans ?_
    refine (g_aaloadH c79000 dJ38_sort_41).trans (aG_cg fun w1 => rR_cg fun r2 => ?_)
    refine (g_astoreVH (L' := [.ref a0, v1, v2, v3, v4, .int i5, .int i6, r2]) c79000 dJ38_sort_42 rfl rfl).trans (ckR_cg ?_)
    refine (g_aload_nVH c79000 dJ38_sort_44 rfl).trans (ckR_cg ?_)
    refine (g_faceH (as := [v3]) (rest := []) c79000 dJ38_sort_45 rfl rfl rfl rfl rfl).trans ((jback_RH (κx := cX) (fun e h => jthrow_outH rfl)).trans (cR_cg fun r3 h4 => ?_))
    refine (g_popH c79000 dJ38_sort_50).trans (ckW_cg ?_)
    refine (g_aload_nVH c79000 dJ38_sort_51 rfl).trans (ckR_cg ?_)
    refine (g_aloadVH c79000 dJ38_sort_52 rfl).trans (ckR_cg ?_)
    refine (g_faceH (as := [v3, r2]) (rest := []) c79000 dJ38_sort_54 rfl rfl rfl rfl rfl).trans ((jback_VH (κx := cX) (fun e h => jthrow_outH rfl)).trans (cV_cg fun h6 => ?_))
    refine (g_iincH (c := 1) (L' := [.ref a0, v1, v2, v3, v4, .int i5, .int (i6 + 1), r2]) c79000 dJ38_sort_59 rfl rfl rfl rfl).trans ?_
    refine (g_gotoH (tgt := 30) c79000 dJ38_sort_62 rfl).trans ?_
    rfl
theorem Y79000 {d : Nat} {a0 : Nat} {v1 : Value} (h : AH) (hv1 : isR v1 = true) (hr : jrecv 79000 [.ref a0, v1] h = true) : M2 (d + 1) 79000 [.ref a0, v1] h = G2 d 79000 0 [.ref a0, v1, jno, jno, jno, jno, jno, jno] [] h := M2_eq rfl rfl hr (by simp only [jent, jargL_R hv1, jargL]; rfl)
