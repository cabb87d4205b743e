set_option maxRecDepth 100000
/-! java/util/AbstractCollection.<init>()V -/
abbrev cJ0_init : ByteArray := prog_59_method_1_code
theorem dJ0_init_0 : decode cJ0_init 0 = .ok (.aload_n 0, 1) := by decide +kernel
theorem dJ0_init_1 : decode cJ0_init 1 = .ok (.invokespecial 1, 3) := by decide +kernel
theorem dJ0_init_4 : decode cJ0_init 4 = .ok (.return_, 1) := by decide +kernel
theorem c41900 : jtCode 41900 = cJ0_init := rfl
theorem E41900_0 (d : Nat) (a0 : Nat) (h : AH) : G d 41900 0 [.ref a0] [] h = zcV (M d 90000 [.ref a0] h) (fun h2 => some (.inl none, h2)) () := by
  refine (g_aload_n c41900 dJ0_init_0 rfl).trans ?_
  refine (g_special (as := [.ref a0]) (rest := []) c41900 dJ0_init_1 rfl rfl rfl rfl rfl).trans ((jback_V (κx := cX) (fun e h => jthrow_out rfl)).trans (cV_cg fun h2 => ?_))
  exact g_return c41900 dJ0_init_4 rfl
theorem X41900 {d : Nat} {a0 : Nat} (h : AH) (hr : jrecv 41900 [.ref a0] h = true) : M (d + 1) 41900 [.ref a0] h = G d 41900 0 [.ref a0] [] h := M_eq rfl hr rfl
/-! java/util/AbstractList.<init>()V -/
abbrev cJ1_init : ByteArray := prog_60_method_1_code
def dkwJ1_init_0 : List UInt8 := [42, 183, 0, 1, 42, 3, 181, 0, 7, 177]
abbrev dktJ1_init_0 : List UInt8 := dkwJ1_init_0 ++ []
theorem dksJ1_init_0 : cJ1_init.data.toList.drop 0 = dktJ1_init_0 := by decide +kernel
theorem dJ1_init_0 : decode cJ1_init 0 = .ok (.aload_n 0, 1) := dk_42 (dk_at dksJ1_init_0 0 rfl rfl)
theorem dJ1_init_1 : decode cJ1_init 1 = .ok (.invokespecial 1, 3) := dk_183 0 1 (dk_at dksJ1_init_0 1 rfl rfl)
theorem dJ1_init_4 : decode cJ1_init 4 = .ok (.aload_n 0, 1) := dk_42 (dk_at dksJ1_init_0 4 rfl rfl)
theorem dJ1_init_5 : decode cJ1_init 5 = .ok (.iconst 0, 1) := dk_3 (dk_at dksJ1_init_0 5 rfl rfl)
theorem dJ1_init_6 : decode cJ1_init 6 = .ok (.putfield 7, 3) := dk_181 0 7 (dk_at dksJ1_init_0 6 rfl rfl)
theorem dJ1_init_9 : decode cJ1_init 9 = .ok (.return_, 1) := dk_177 (dk_at dksJ1_init_0 9 rfl rfl)
theorem c42900 : jtCode 42900 = cJ1_init := rfl
theorem E42900_0 (d : Nat) (a0 : Nat) (h : AH) : G d 42900 0 [.ref a0] [] h = zcV (M d 41900 [.ref a0] h) (fun h2 => zqF h2 (.ref a0) [43, 47] 0 0 (.int 0) (fun h3 => some (.inl none, h3)) ()) () := by
  refine (g_aload_n c42900 dJ1_init_0 rfl).trans ?_
  refine (g_special (as := [.ref a0]) (rest := []) c42900 dJ1_init_1 rfl rfl rfl rfl rfl).trans ((jback_V (κx := cX) (fun e h => jthrow_out rfl)).trans (cV_cg fun h2 => ?_))
  refine (g_aload_n c42900 dJ1_init_4 rfl).trans ?_
  refine (g_iconst (x := 0) c42900 dJ1_init_5 rfl).trans ?_
  refine (g_put c42900 dJ1_init_6 rfl).trans (pF_cg fun h3 => ?_)
  exact g_return c42900 dJ1_init_9 rfl
theorem X42900 {d : Nat} {a0 : Nat} (h : AH) (hr : jrecv 42900 [.ref a0] h = true) : M (d + 1) 42900 [.ref a0] h = G d 42900 0 [.ref a0] [] h := M_eq rfl hr rfl
/-! java/util/ArrayList.add(Ljava/lang/Object;)Z -/
abbrev cJ2_add : ByteArray := prog_66_method_25_code
def dkwJ2_add_1 : List UInt8 := [172]
abbrev dktJ2_add_1 : List UInt8 := dkwJ2_add_1 ++ []
def dkwJ2_add_0 : List UInt8 := [42, 89, 180, 0, 63, 4, 96, 181, 0, 63, 42, 43, 42, 180, 0, 9, 42, 180, 0, 48, 182, 0, 131, 4]
abbrev dktJ2_add_0 : List UInt8 := dkwJ2_add_0 ++ dktJ2_add_1
theorem dksJ2_add_0 : cJ2_add.data.toList.drop 0 = dktJ2_add_0 := by decide +kernel
theorem dksJ2_add_1 : cJ2_add.data.toList.drop 24 = dktJ2_add_1 := dk_seg dksJ2_add_0 24 rfl rfl
theorem dJ2_add_0 : decode cJ2_add 0 = .ok (.aload_n 0, 1) := dk_42 (dk_at dksJ2_add_0 0 rfl rfl)
theorem dJ2_add_1 : decode cJ2_add 1 = .ok (.dup, 1) := dk_89 (dk_at dksJ2_add_0 1 rfl rfl)
theorem dJ2_add_2 : decode cJ2_add 2 = .ok (.getfield 63, 3) := dk_180 0 63 (dk_at dksJ2_add_0 2 rfl rfl)
theorem dJ2_add_5 : decode cJ2_add 5 = .ok (.iconst 1, 1) := dk_4 (dk_at dksJ2_add_0 5 rfl rfl)
theorem dJ2_add_6 : decode cJ2_add 6 = .ok (.iadd, 1) := dk_96 (dk_at dksJ2_add_0 6 rfl rfl)
theorem dJ2_add_7 : decode cJ2_add 7 = .ok (.putfield 63, 3) := dk_181 0 63 (dk_at dksJ2_add_0 7 rfl rfl)
theorem dJ2_add_10 : decode cJ2_add 10 = .ok (.aload_n 0, 1) := dk_42 (dk_at dksJ2_add_0 10 rfl rfl)
theorem dJ2_add_11 : decode cJ2_add 11 = .ok (.aload_n 1, 1) := dk_43 (dk_at dksJ2_add_0 11 rfl rfl)
theorem dJ2_add_12 : decode cJ2_add 12 = .ok (.aload_n 0, 1) := dk_42 (dk_at dksJ2_add_0 12 rfl rfl)
theorem dJ2_add_13 : decode cJ2_add 13 = .ok (.getfield 9, 3) := dk_180 0 9 (dk_at dksJ2_add_0 13 rfl rfl)
theorem dJ2_add_16 : decode cJ2_add 16 = .ok (.aload_n 0, 1) := dk_42 (dk_at dksJ2_add_0 16 rfl rfl)
theorem dJ2_add_17 : decode cJ2_add 17 = .ok (.getfield 48, 3) := dk_180 0 48 (dk_at dksJ2_add_0 17 rfl rfl)
theorem dJ2_add_20 : decode cJ2_add 20 = .ok (.invokevirtual 131, 3) := dk_182 0 131 (dk_at dksJ2_add_0 20 rfl rfl)
theorem dJ2_add_23 : decode cJ2_add 23 = .ok (.iconst 1, 1) := dk_4 (dk_at dksJ2_add_0 23 rfl rfl)
theorem dJ2_add_24 : decode cJ2_add 24 = .ok (.ireturn, 1) := dk_172 (dk_at dksJ2_add_1 0 rfl rfl)
theorem c43000 : jtCode 43000 = cJ2_add := rfl
theorem E43000_0 (d : Nat) (a0 : Nat) (v1 : Value) (h : AH) : G d 43000 0 [.ref a0, v1] [] h = zpI (jf (jc h (.ref a0)) [43, 47] 0) (fun x1 => zqF h (.ref a0) [43, 47] 0 0 (.int (x1 + 1)) (fun h2 => zkR v1 (zpR (jf (jc h2 (.ref a0)) [43] 1) (fun r3 => zpI (jf (jc h2 (.ref a0)) [43] 2) (fun x4 => zcV (M d 43001 [.ref a0, v1, r3, .int x4] h2) (fun h6 => some (.inl (some (.int 1)), h6)) ()) ()) ()) ()) ()) () := by
  refine (g_aload_n c43000 dJ2_add_0 rfl).trans ?_
  refine (g_dup_r c43000 dJ2_add_1).trans ?_
  refine (g_getI c43000 dJ2_add_2 rfl rfl).trans (rI_cg fun x1 => ?_)
  refine (g_iconst (x := 1) c43000 dJ2_add_5 rfl).trans ?_
  refine (g_iadd c43000 dJ2_add_6).trans ?_
  refine (g_put c43000 dJ2_add_7 rfl).trans (pF_cg fun h2 => ?_)
  refine (g_aload_n c43000 dJ2_add_10 rfl).trans ?_
  refine (g_aload_nV c43000 dJ2_add_11 rfl).trans (ckR_cg ?_)
  refine (g_aload_n c43000 dJ2_add_12 rfl).trans ?_
  refine (g_getR c43000 dJ2_add_13 rfl).trans (rR_cg fun r3 => ?_)
  refine (g_aload_n c43000 dJ2_add_16 rfl).trans ?_
  refine (g_getI c43000 dJ2_add_17 rfl rfl).trans (rI_cg fun x4 => ?_)
  refine (g_virtual (as := [.ref a0, v1, r3, .int x4]) (rest := []) c43000 dJ2_add_20 rfl rfl rfl rfl rfl).trans ((jback_V (κx := cX) (fun e h => jthrow_out rfl)).trans (cV_cg fun h6 => ?_))
  refine (g_iconst (x := 1) c43000 dJ2_add_23 rfl).trans ?_
  exact g_zreturn1 c43000 dJ2_add_24 rfl
theorem X43000 {d : Nat} {a0 : Nat} {v1 : Value} (h : AH) (hv1 : isR v1 = true) (hr : jrecv 43000 [.ref a0, v1] h = true) : M (d + 1) 43000 [.ref a0, v1] h = G d 43000 0 [.ref a0, v1] [] h := M_eq rfl hr (by simp only [jent, jargL_R hv1, jargL]; rfl)
/-! java/util/ArrayList.add(Ljava/lang/Object;[Ljava/lang/Object;I)V -/
abbrev cJ2_add_2 : ByteArray := prog_66_method_24_code
def dkwJ2_add_2_0 : List UInt8 := [29, 44, 190, 160, 0, 8, 42, 182, 0, 129, 77, 44, 29, 43, 83, 42, 29, 4, 96, 181, 0, 48, 177]
abbrev dktJ2_add_2_0 : List UInt8 := dkwJ2_add_2_0 ++ []
theorem dksJ2_add_2_0 : cJ2_add_2.data.toList.drop 0 = dktJ2_add_2_0 := by decide +kernel
theorem dJ2_add_2_0 : decode cJ2_add_2 0 = .ok (.iload_n 3, 1) := dk_29 (dk_at dksJ2_add_2_0 0 rfl rfl)
theorem dJ2_add_2_1 : decode cJ2_add_2 1 = .ok (.aload_n 2, 1) := dk_44 (dk_at dksJ2_add_2_0 1 rfl rfl)
theorem dJ2_add_2_2 : decode cJ2_add_2 2 = .ok (.arraylength, 1) := dk_190 (dk_at dksJ2_add_2_0 2 rfl rfl)
theorem dJ2_add_2_3 : decode cJ2_add_2 3 = .ok (.if_icmp .ne 8, 3) := dk_160 0 8 (dk_at dksJ2_add_2_0 3 rfl rfl)
theorem dJ2_add_2_6 : decode cJ2_add_2 6 = .ok (.aload_n 0, 1) := dk_42 (dk_at dksJ2_add_2_0 6 rfl rfl)
theorem dJ2_add_2_7 : decode cJ2_add_2 7 = .ok (.invokevirtual 129, 3) := dk_182 0 129 (dk_at dksJ2_add_2_0 7 rfl rfl)
theorem dJ2_add_2_10 : decode cJ2_add_2 10 = .ok (.astore_n 2, 1) := dk_77 (dk_at dksJ2_add_2_0 10 rfl rfl)
theorem dJ2_add_2_11 : decode cJ2_add_2 11 = .ok (.aload_n 2, 1) := dk_44 (dk_at dksJ2_add_2_0 11 rfl rfl)
theorem dJ2_add_2_12 : decode cJ2_add_2 12 = .ok (.iload_n 3, 1) := dk_29 (dk_at dksJ2_add_2_0 12 rfl rfl)
theorem dJ2_add_2_13 : decode cJ2_add_2 13 = .ok (.aload_n 1, 1) := dk_43 (dk_at dksJ2_add_2_0 13 rfl rfl)
theorem dJ2_add_2_14 : decode cJ2_add_2 14 = .ok (.aastore, 1) := dk_83 (dk_at dksJ2_add_2_0 14 rfl rfl)
theorem dJ2_add_2_15 : decode cJ2_add_2 15 = .ok (.aload_n 0, 1) := dk_42 (dk_at dksJ2_add_2_0 15 rfl rfl)
theorem dJ2_add_2_16 : decode cJ2_add_2 16 = .ok (.iload_n 3, 1) := dk_29 (dk_at dksJ2_add_2_0 16 rfl rfl)
theorem dJ2_add_2_17 : decode cJ2_add_2 17 = .ok (.iconst 1, 1) := dk_4 (dk_at dksJ2_add_2_0 17 rfl rfl)
theorem dJ2_add_2_18 : decode cJ2_add_2 18 = .ok (.iadd, 1) := dk_96 (dk_at dksJ2_add_2_0 18 rfl rfl)
theorem dJ2_add_2_19 : decode cJ2_add_2 19 = .ok (.putfield 48, 3) := dk_181 0 48 (dk_at dksJ2_add_2_0 19 rfl rfl)
theorem dJ2_add_2_22 : decode cJ2_add_2 22 = .ok (.return_, 1) := dk_177 (dk_at dksJ2_add_2_0 22 rfl rfl)
theorem c43001 : jtCode 43001 = cJ2_add_2 := rfl
theorem E43001_0 (d : Nat) (a0 : Nat) (v1 : Value) (v2 : Value) (i3 : Int32) (h : AH) : G d 43001 0 [.ref a0, v1, v2, .int i3] [] h = zkR v2 (zqL h v2 (fun x1 => if i3 = x1 then (zcR (M d 43006 [.ref a0] h) (fun r2 h3 => zkR r2 (zkR r2 (zkR v1 (zqA h3 r2 v1 i3 (fun h4 => zqF h4 (.ref a0) [43] 2 0 (.int (i3 + 1)) (fun h5 => some (.inl none, h5)) ()) ()) ()) ()) ()) ()) else (zkR v2 (zkR v1 (zqA h v2 v1 i3 (fun h6 => zqF h6 (.ref a0) [43] 2 0 (.int (i3 + 1)) (fun h7 => some (.inl none, h7)) ()) ()) ()) ())) ()) () := by
  refine (g_iload_n c43001 dJ2_add_2_0 rfl).trans ?_
  refine (g_aload_nV c43001 dJ2_add_2_1 rfl).trans (ckR_cg ?_)
  refine (g_alen c43001 dJ2_add_2_2).trans (aL_cg fun x1 => ?_)
  refine (g_icmp_ne (tgt := 11) c43001 dJ2_add_2_3 rfl).trans (if_cg ?_ ?_)
  · skip
    refine (g_aload_n c43001 dJ2_add_2_6 rfl).trans ?_
    refine (g_virtual (as := [.ref a0]) (rest := []) c43001 dJ2_add_2_7 rfl rfl rfl rfl rfl).trans ((jback_R (κx := cX) (fun e h => jthrow_out rfl)).trans (cR_cg fun r2 h3 => ?_))
    refine (g_astore_nV (L' := [.ref a0, v1, r2, .int i3]) c43001 dJ2_add_2_10 rfl rfl).trans (ckR_cg ?_)
    refine (g_aload_nV c43001 dJ2_add_2_11 rfl).trans (ckR_cg ?_)
    refine (g_iload_n c43001 dJ2_add_2_12 rfl).trans ?_
    refine (g_aload_nV c43001 dJ2_add_2_13 rfl).trans (ckR_cg ?_)
    refine (g_aastore c43001 dJ2_add_2_14).trans (aSr_cg fun h4 => ?_)
    refine (g_aload_n c43001 dJ2_add_2_15 rfl).trans ?_
    refine (g_iload_n c43001 dJ2_add_2_16 rfl).trans ?_
    refine (g_iconst (x := 1) c43001 dJ2_add_2_17 rfl).trans ?_
    refine (g_iadd c43001 dJ2_add_2_18).trans ?_
    refine (g_put c43001 dJ2_add_2_19 rfl).trans (pF_cg fun h5 => ?_)
    exact g_return c43001 dJ2_add_2_22 rfl
  · skip
    refine (g_aload_nV c43001 dJ2_add_2_11 rfl).trans (ckR_cg ?_)
    refine (g_iload_n c43001 dJ2_add_2_12 rfl).trans ?_
    refine (g_aload_nV c43001 dJ2_add_2_13 rfl).trans (ckR_cg ?_)
    refine (g_aastore c43001 dJ2_add_2_14).trans (aSr_cg fun h6 => ?_)
    refine (g_aload_n c43001 dJ2_add_2_15 rfl).trans ?_
    refine (g_iload_n c43001 dJ2_add_2_16 rfl).trans ?_
    refine (g_iconst (x := 1) c43001 dJ2_add_2_17 rfl).trans ?_
    refine (g_iadd c43001 dJ2_add_2_18).trans ?_
    refine (g_put c43001 dJ2_add_2_19 rfl).trans (pF_cg fun h7 => ?_)
    exact g_return c43001 dJ2_add_2_22 rfl
theorem X43001 {d : Nat} {a0 : Nat} {v1 : Value} {v2 : Value} {i3 : Int32} (h : AH) (hv1 : isR v1 = true) (hv2 : isR v2 = true) (hr : jrecv 43001 [.ref a0, v1, v2, .int i3] h = true) : M (d + 1) 43001 [.ref a0, v1, v2, .int i3] h = G d 43001 0 [.ref a0, v1, v2, .int i3] [] h := M_eq rfl hr (by simp only [jent, jargL_R hv1, jargL_R hv2, jargL]; rfl)
/-! java/util/ArrayList.clear()V -/
abbrev cJ2_clear : ByteArray := prog_66_method_40_code
def dkwJ2_clear_1 : List UInt8 := [181, 0, 48, 62, 29, 28, 162, 0, 13, 43, 29, 1, 83, 132, 3, 1, 167, 255, 244, 177]
abbrev dktJ2_clear_1 : List UInt8 := dkwJ2_clear_1 ++ []
def dkwJ2_clear_0 : List UInt8 := [42, 89, 180, 0, 63, 4, 96, 181, 0, 63, 42, 180, 0, 9, 76, 42, 180, 0, 48, 61, 42, 3, 90]
abbrev dktJ2_clear_0 : List UInt8 := dkwJ2_clear_0 ++ dktJ2_clear_1
theorem dksJ2_clear_0 : cJ2_clear.data.toList.drop 0 = dktJ2_clear_0 := by decide +kernel
theorem dksJ2_clear_1 : cJ2_clear.data.toList.drop 23 = dktJ2_clear_1 := dk_seg dksJ2_clear_0 23 rfl rfl
theorem dJ2_clear_0 : decode cJ2_clear 0 = .ok (.aload_n 0, 1) := dk_42 (dk_at dksJ2_clear_0 0 rfl rfl)
theorem dJ2_clear_1 : decode cJ2_clear 1 = .ok (.dup, 1) := dk_89 (dk_at dksJ2_clear_0 1 rfl rfl)
theorem dJ2_clear_2 : decode cJ2_clear 2 = .ok (.getfield 63, 3) := dk_180 0 63 (dk_at dksJ2_clear_0 2 rfl rfl)
theorem dJ2_clear_5 : decode cJ2_clear 5 = .ok (.iconst 1, 1) := dk_4 (dk_at dksJ2_clear_0 5 rfl rfl)
theorem dJ2_clear_6 : decode cJ2_clear 6 = .ok (.iadd, 1) := dk_96 (dk_at dksJ2_clear_0 6 rfl rfl)
theorem dJ2_clear_7 : decode cJ2_clear 7 = .ok (.putfield 63, 3) := dk_181 0 63 (dk_at dksJ2_clear_0 7 rfl rfl)
theorem dJ2_clear_10 : decode cJ2_clear 10 = .ok (.aload_n 0, 1) := dk_42 (dk_at dksJ2_clear_0 10 rfl rfl)
theorem dJ2_clear_11 : decode cJ2_clear 11 = .ok (.getfield 9, 3) := dk_180 0 9 (dk_at dksJ2_clear_0 11 rfl rfl)
theorem dJ2_clear_14 : decode cJ2_clear 14 = .ok (.astore_n 1, 1) := dk_76 (dk_at dksJ2_clear_0 14 rfl rfl)
theorem dJ2_clear_15 : decode cJ2_clear 15 = .ok (.aload_n 0, 1) := dk_42 (dk_at dksJ2_clear_0 15 rfl rfl)
theorem dJ2_clear_16 : decode cJ2_clear 16 = .ok (.getfield 48, 3) := dk_180 0 48 (dk_at dksJ2_clear_0 16 rfl rfl)
theorem dJ2_clear_19 : decode cJ2_clear 19 = .ok (.istore_n 2, 1) := dk_61 (dk_at dksJ2_clear_0 19 rfl rfl)
theorem dJ2_clear_20 : decode cJ2_clear 20 = .ok (.aload_n 0, 1) := dk_42 (dk_at dksJ2_clear_0 20 rfl rfl)
theorem dJ2_clear_21 : decode cJ2_clear 21 = .ok (.iconst 0, 1) := dk_3 (dk_at dksJ2_clear_0 21 rfl rfl)
theorem dJ2_clear_22 : decode cJ2_clear 22 = .ok (.dup_x1, 1) := dk_90 (dk_at dksJ2_clear_0 22 rfl rfl)
theorem dJ2_clear_23 : decode cJ2_clear 23 = .ok (.putfield 48, 3) := dk_181 0 48 (dk_at dksJ2_clear_1 0 rfl rfl)
theorem dJ2_clear_26 : decode cJ2_clear 26 = .ok (.istore_n 3, 1) := dk_62 (dk_at dksJ2_clear_1 3 rfl rfl)
theorem dJ2_clear_27 : decode cJ2_clear 27 = .ok (.iload_n 3, 1) := dk_29 (dk_at dksJ2_clear_1 4 rfl rfl)
theorem dJ2_clear_28 : decode cJ2_clear 28 = .ok (.iload_n 2, 1) := dk_28 (dk_at dksJ2_clear_1 5 rfl rfl)
theorem dJ2_clear_29 : decode cJ2_clear 29 = .ok (.if_icmp .ge 13, 3) := dk_162 0 13 (dk_at dksJ2_clear_1 6 rfl rfl)
theorem dJ2_clear_32 : decode cJ2_clear 32 = .ok (.aload_n 1, 1) := dk_43 (dk_at dksJ2_clear_1 9 rfl rfl)
theorem dJ2_clear_33 : decode cJ2_clear 33 = .ok (.iload_n 3, 1) := dk_29 (dk_at dksJ2_clear_1 10 rfl rfl)
theorem dJ2_clear_34 : decode cJ2_clear 34 = .ok (.aconst_null, 1) := dk_1 (dk_at dksJ2_clear_1 11 rfl rfl)
theorem dJ2_clear_35 : decode cJ2_clear 35 = .ok (.aastore, 1) := dk_83 (dk_at dksJ2_clear_1 12 rfl rfl)
theorem dJ2_clear_36 : decode cJ2_clear 36 = .ok (.iinc 3 1, 3) := dk_132 3 1 (dk_at dksJ2_clear_1 13 rfl rfl)
theorem dJ2_clear_39 : decode cJ2_clear 39 = .ok (.goto (-12), 3) := dk_167 255 244 (dk_at dksJ2_clear_1 16 rfl rfl)
theorem dJ2_clear_42 : decode cJ2_clear 42 = .ok (.return_, 1) := dk_177 (dk_at dksJ2_clear_1 19 rfl rfl)
theorem c43002 : jtCode 43002 = cJ2_clear := rfl
theorem E43002_0 (d : Nat) (a0 : Nat) (h : AH) : G d 43002 0 [.ref a0, jno, jno, jno] [] h = zpI (jf (jc h (.ref a0)) [43, 47] 0) (fun x1 => zqF h (.ref a0) [43, 47] 0 0 (.int (x1 + 1)) (fun h2 => zpR (jf (jc h2 (.ref a0)) [43] 1) (fun r3 => zkR r3 (zpI (jf (jc h2 (.ref a0)) [43] 2) (fun x4 => zqF h2 (.ref a0) [43] 2 0 (.int 0) (fun h5 => G d 43002 27 [.ref a0, r3, .int x4, .int 0] [] h5) ()) ()) ()) ()) ()) () := by
  refine (g_aload_n c43002 dJ2_clear_0 rfl).trans ?_
  refine (g_dup_r c43002 dJ2_clear_1).trans ?_
  refine (g_getI c43002 dJ2_clear_2 rfl rfl).trans (rI_cg fun x1 => ?_)
  refine (g_iconst (x := 1) c43002 dJ2_clear_5 rfl).trans ?_
  refine (g_iadd c43002 dJ2_clear_6).trans ?_
  refine (g_put c43002 dJ2_clear_7 rfl).trans (pF_cg fun h2 => ?_)
  refine (g_aload_n c43002 dJ2_clear_10 rfl).trans ?_
  refine (g_getR c43002 dJ2_clear_11 rfl).trans (rR_cg fun r3 => ?_)
  refine (g_astore_nV (L' := [.ref a0, r3, jno, jno]) c43002 dJ2_clear_14 rfl rfl).trans (ckR_cg ?_)
  refine (g_aload_n c43002 dJ2_clear_15 rfl).trans ?_
  refine (g_getI c43002 dJ2_clear_16 rfl rfl).trans (rI_cg fun x4 => ?_)
  refine (g_istore_n (L' := [.ref a0, r3, .int x4, jno]) c43002 dJ2_clear_19 rfl rfl).trans ?_
  refine (g_aload_n c43002 dJ2_clear_20 rfl).trans ?_
  refine (g_iconst (x := 0) c43002 dJ2_clear_21 rfl).trans ?_
  refine (g_dup_x1_ir c43002 dJ2_clear_22).trans ?_
  refine (g_put c43002 dJ2_clear_23 rfl).trans (pF_cg fun h5 => ?_)
  refine (g_istore_n (L' := [.ref a0, r3, .int x4, .int 0]) c43002 dJ2_clear_26 rfl rfl).trans ?_
  rfl
theorem E43002_27 (d : Nat) (a0 : Nat) (v1 : Value) (i2 : Int32) (i3 : Int32) (h : AH) : G d 43002 27 [.ref a0, v1, .int i2, .int i3] [] h = if i2 ≤ i3 then (some (.inl none, h)) else (zkR v1 (zqA h v1 .null i3 (fun h1 => G d 43002 27 [.ref a0, v1, .int i2, .int (i3 + 1)] [] h1) ()) ()) := by
  refine (g_iload_n c43002 dJ2_clear_27 rfl).trans ?_
  refine (g_iload_n c43002 dJ2_clear_28 rfl).trans ?_
  refine (g_icmp_ge (tgt := 42) c43002 dJ2_clear_29 rfl).trans (if_cg ?_ ?_)
  · skip
    exact g_return c43002 dJ2_clear_42 rfl
  · skip
    refine (g_aload_nV c43002 dJ2_clear_32 rfl).trans (ckR_cg ?_)
    refine (g_iload_n c43002 dJ2_clear_33 rfl).trans ?_
    refine (g_aconst_null c43002 dJ2_clear_34).trans ?_
    refine (g_aastore c43002 dJ2_clear_35).trans (aSr_cg fun h1 => ?_)
    refine (g_iinc (c := 1) (L' := [.ref a0, v1, .int i2, .int (i3 + 1)]) c43002 dJ2_clear_36 rfl rfl rfl rfl).trans ?_
    refine (g_goto (tgt := 27) c43002 dJ2_clear_39 rfl).trans ?_
    rfl
theorem X43002 {d : Nat} {a0 : Nat} (h : AH) (hr : jrecv 43002 [.ref a0] h = true) : M (d + 1) 43002 [.ref a0] h = G d 43002 0 [.ref a0, jno, jno, jno] [] h := M_eq rfl hr rfl
/-! java/util/ArrayList.elementData(I)Ljava/lang/Object; -/
abbrev cJ2_elementData : ByteArray := prog_66_method_18_code
def dkwJ2_elementData_0 : List UInt8 := [42, 180, 0, 9, 27, 50, 176]
abbrev dktJ2_elementData_0 : List UInt8 := dkwJ2_elementData_0 ++ []
theorem dksJ2_elementData_0 : cJ2_elementData.data.toList.drop 0 = dktJ2_elementData_0 := by decide +kernel
theorem dJ2_elementData_0 : decode cJ2_elementData 0 = .ok (.aload_n 0, 1) := dk_42 (dk_at dksJ2_elementData_0 0 rfl rfl)
theorem dJ2_elementData_1 : decode cJ2_elementData 1 = .ok (.getfield 9, 3) := dk_180 0 9 (dk_at dksJ2_elementData_0 1 rfl rfl)
theorem dJ2_elementData_4 : decode cJ2_elementData 4 = .ok (.iload_n 1, 1) := dk_27 (dk_at dksJ2_elementData_0 4 rfl rfl)
theorem dJ2_elementData_5 : decode cJ2_elementData 5 = .ok (.aaload, 1) := dk_50 (dk_at dksJ2_elementData_0 5 rfl rfl)
theorem dJ2_elementData_6 : decode cJ2_elementData 6 = .ok (.areturn, 1) := dk_176 (dk_at dksJ2_elementData_0 6 rfl rfl)
theorem c43003 : jtCode 43003 = cJ2_elementData := rfl
theorem E43003_0 (d : Nat) (a0 : Nat) (i1 : Int32) (h : AH) : G d 43003 0 [.ref a0, .int i1] [] h = zpR (jf (jc h (.ref a0)) [43] 1) (fun r1 => zqG h r1 [1040, 1041, 1050, 1060, 1071] i1 (fun w2 => zpR w2 (fun r3 => ckR r3 (some (.inl (some r3), h))) ()) ()) () := by
  refine (g_aload_n c43003 dJ2_elementData_0 rfl).trans ?_
  refine (g_getR c43003 dJ2_elementData_1 rfl).trans (rR_cg fun r1 => ?_)
  refine (g_iload_n c43003 dJ2_elementData_4 rfl).trans ?_
  refine (g_aaload c43003 dJ2_elementData_5).trans (aG_cg fun w2 => rR_cg fun r3 => ?_)
  exact g_areturn c43003 dJ2_elementData_6 rfl
theorem X43003 {d : Nat} {a0 : Nat} {i1 : Int32} (h : AH) (hr : jrecv 43003 [.ref a0, .int i1] h = true) : M (d + 1) 43003 [.ref a0, .int i1] h = G d 43003 0 [.ref a0, .int i1] [] h := M_eq rfl hr rfl
/-! java/util/ArrayList.fastRemove([Ljava/lang/Object;I)V -/
abbrev cJ2_fastRemove : ByteArray := prog_66_method_39_code
def dkwJ2_fastRemove_1 : List UInt8 := [4, 96, 43, 28, 29, 28, 100, 184, 0, 112, 43, 42, 29, 90, 181, 0, 48, 1, 83, 177]
abbrev dktJ2_fastRemove_1 : List UInt8 := dkwJ2_fastRemove_1 ++ []
def dkwJ2_fastRemove_0 : List UInt8 := [42, 89, 180, 0, 63, 4, 96, 181, 0, 63, 42, 180, 0, 48, 4, 100, 89, 62, 28, 164, 0, 15, 43, 28]
abbrev dktJ2_fastRemove_0 : List UInt8 := dkwJ2_fastRemove_0 ++ dktJ2_fastRemove_1
theorem dksJ2_fastRemove_0 : cJ2_fastRemove.data.toList.drop 0 = dktJ2_fastRemove_0 := by decide +kernel
theorem dksJ2_fastRemove_1 : cJ2_fastRemove.data.toList.drop 24 = dktJ2_fastRemove_1 := dk_seg dksJ2_fastRemove_0 24 rfl rfl
theorem dJ2_fastRemove_0 : decode cJ2_fastRemove 0 = .ok (.aload_n 0, 1) := dk_42 (dk_at dksJ2_fastRemove_0 0 rfl rfl)
theorem dJ2_fastRemove_1 : decode cJ2_fastRemove 1 = .ok (.dup, 1) := dk_89 (dk_at dksJ2_fastRemove_0 1 rfl rfl)
theorem dJ2_fastRemove_2 : decode cJ2_fastRemove 2 = .ok (.getfield 63, 3) := dk_180 0 63 (dk_at dksJ2_fastRemove_0 2 rfl rfl)
theorem dJ2_fastRemove_5 : decode cJ2_fastRemove 5 = .ok (.iconst 1, 1) := dk_4 (dk_at dksJ2_fastRemove_0 5 rfl rfl)
theorem dJ2_fastRemove_6 : decode cJ2_fastRemove 6 = .ok (.iadd, 1) := dk_96 (dk_at dksJ2_fastRemove_0 6 rfl rfl)
theorem dJ2_fastRemove_7 : decode cJ2_fastRemove 7 = .ok (.putfield 63, 3) := dk_181 0 63 (dk_at dksJ2_fastRemove_0 7 rfl rfl)
theorem dJ2_fastRemove_10 : decode cJ2_fastRemove 10 = .ok (.aload_n 0, 1) := dk_42 (dk_at dksJ2_fastRemove_0 10 rfl rfl)
theorem dJ2_fastRemove_11 : decode cJ2_fastRemove 11 = .ok (.getfield 48, 3) := dk_180 0 48 (dk_at dksJ2_fastRemove_0 11 rfl rfl)
theorem dJ2_fastRemove_14 : decode cJ2_fastRemove 14 = .ok (.iconst 1, 1) := dk_4 (dk_at dksJ2_fastRemove_0 14 rfl rfl)
theorem dJ2_fastRemove_15 : decode cJ2_fastRemove 15 = .ok (.isub, 1) := dk_100 (dk_at dksJ2_fastRemove_0 15 rfl rfl)
theorem dJ2_fastRemove_16 : decode cJ2_fastRemove 16 = .ok (.dup, 1) := dk_89 (dk_at dksJ2_fastRemove_0 16 rfl rfl)
theorem dJ2_fastRemove_17 : decode cJ2_fastRemove 17 = .ok (.istore_n 3, 1) := dk_62 (dk_at dksJ2_fastRemove_0 17 rfl rfl)
theorem dJ2_fastRemove_18 : decode cJ2_fastRemove 18 = .ok (.iload_n 2, 1) := dk_28 (dk_at dksJ2_fastRemove_0 18 rfl rfl)
theorem dJ2_fastRemove_19 : decode cJ2_fastRemove 19 = .ok (.if_icmp .le 15, 3) := dk_164 0 15 (dk_at dksJ2_fastRemove_0 19 rfl rfl)
theorem dJ2_fastRemove_22 : decode cJ2_fastRemove 22 = .ok (.aload_n 1, 1) := dk_43 (dk_at dksJ2_fastRemove_0 22 rfl rfl)
theorem dJ2_fastRemove_23 : decode cJ2_fastRemove 23 = .ok (.iload_n 2, 1) := dk_28 (dk_at dksJ2_fastRemove_0 23 rfl rfl)
theorem dJ2_fastRemove_24 : decode cJ2_fastRemove 24 = .ok (.iconst 1, 1) := dk_4 (dk_at dksJ2_fastRemove_1 0 rfl rfl)
theorem dJ2_fastRemove_25 : decode cJ2_fastRemove 25 = .ok (.iadd, 1) := dk_96 (dk_at dksJ2_fastRemove_1 1 rfl rfl)
theorem dJ2_fastRemove_26 : decode cJ2_fastRemove 26 = .ok (.aload_n 1, 1) := dk_43 (dk_at dksJ2_fastRemove_1 2 rfl rfl)
theorem dJ2_fastRemove_27 : decode cJ2_fastRemove 27 = .ok (.iload_n 2, 1) := dk_28 (dk_at dksJ2_fastRemove_1 3 rfl rfl)
theorem dJ2_fastRemove_28 : decode cJ2_fastRemove 28 = .ok (.iload_n 3, 1) := dk_29 (dk_at dksJ2_fastRemove_1 4 rfl rfl)
theorem dJ2_fastRemove_29 : decode cJ2_fastRemove 29 = .ok (.iload_n 2, 1) := dk_28 (dk_at dksJ2_fastRemove_1 5 rfl rfl)
theorem dJ2_fastRemove_30 : decode cJ2_fastRemove 30 = .ok (.isub, 1) := dk_100 (dk_at dksJ2_fastRemove_1 6 rfl rfl)
theorem dJ2_fastRemove_31 : decode cJ2_fastRemove 31 = .ok (.invokestatic 112, 3) := dk_184 0 112 (dk_at dksJ2_fastRemove_1 7 rfl rfl)
theorem dJ2_fastRemove_34 : decode cJ2_fastRemove 34 = .ok (.aload_n 1, 1) := dk_43 (dk_at dksJ2_fastRemove_1 10 rfl rfl)
theorem dJ2_fastRemove_35 : decode cJ2_fastRemove 35 = .ok (.aload_n 0, 1) := dk_42 (dk_at dksJ2_fastRemove_1 11 rfl rfl)
theorem dJ2_fastRemove_36 : decode cJ2_fastRemove 36 = .ok (.iload_n 3, 1) := dk_29 (dk_at dksJ2_fastRemove_1 12 rfl rfl)
theorem dJ2_fastRemove_37 : decode cJ2_fastRemove 37 = .ok (.dup_x1, 1) := dk_90 (dk_at dksJ2_fastRemove_1 13 rfl rfl)
theorem dJ2_fastRemove_38 : decode cJ2_fastRemove 38 = .ok (.putfield 48, 3) := dk_181 0 48 (dk_at dksJ2_fastRemove_1 14 rfl rfl)
theorem dJ2_fastRemove_41 : decode cJ2_fastRemove 41 = .ok (.aconst_null, 1) := dk_1 (dk_at dksJ2_fastRemove_1 17 rfl rfl)
theorem dJ2_fastRemove_42 : decode cJ2_fastRemove 42 = .ok (.aastore, 1) := dk_83 (dk_at dksJ2_fastRemove_1 18 rfl rfl)
theorem dJ2_fastRemove_43 : decode cJ2_fastRemove 43 = .ok (.return_, 1) := dk_177 (dk_at dksJ2_fastRemove_1 19 rfl rfl)
theorem c43004 : jtCode 43004 = cJ2_fastRemove := rfl
theorem E43004_0 (d : Nat) (a0 : Nat) (v1 : Value) (i2 : Int32) (h : AH) : G d 43004 0 [.ref a0, v1, .int i2, jno] [] h = zpI (jf (jc h (.ref a0)) [43, 47] 0) (fun x1 => zqF h (.ref a0) [43, 47] 0 0 (.int (x1 + 1)) (fun h2 => zpI (jf (jc h2 (.ref a0)) [43] 2) (fun x3 => if (x3 - 1) ≤ i2 then (zkR v1 (zqF h2 (.ref a0) [43] 2 0 (.int (x3 - 1)) (fun h4 => zqA h4 v1 .null (x3 - 1) (fun h5 => some (.inl none, h5)) ()) ()) ()) else (zkR v1 (zkR v1 (zcV (M d 90001 [v1, .int (i2 + 1), v1, .int i2, .int ((x3 - 1) - i2)] h2) (fun h7 => zkR v1 (zqF h7 (.ref a0) [43] 2 0 (.int (x3 - 1)) (fun h8 => zqA h8 v1 .null (x3 - 1) (fun h9 => some (.inl none, h9)) ()) ()) ()) ()) ()) ())) ()) ()) () := by
  refine (g_aload_n c43004 dJ2_fastRemove_0 rfl).trans ?_
  refine (g_dup_r c43004 dJ2_fastRemove_1).trans ?_
  refine (g_getI c43004 dJ2_fastRemove_2 rfl rfl).trans (rI_cg fun x1 => ?_)
  refine (g_iconst (x := 1) c43004 dJ2_fastRemove_5 rfl).trans ?_
  refine (g_iadd c43004 dJ2_fastRemove_6).trans ?_
  refine (g_put c43004 dJ2_fastRemove_7 rfl).trans (pF_cg fun h2 => ?_)
  refine (g_aload_n c43004 dJ2_fastRemove_10 rfl).trans ?_
  refine (g_getI c43004 dJ2_fastRemove_11 rfl rfl).trans (rI_cg fun x3 => ?_)
  refine (g_iconst (x := 1) c43004 dJ2_fastRemove_14 rfl).trans ?_
  refine (g_isub c43004 dJ2_fastRemove_15).trans ?_
  refine (g_dup_i c43004 dJ2_fastRemove_16).trans ?_
  refine (g_istore_n (L' := [.ref a0, v1, .int i2, .int (x3 - 1)]) c43004 dJ2_fastRemove_17 rfl rfl).trans ?_
  refine (g_iload_n c43004 dJ2_fastRemove_18 rfl).trans ?_
  refine (g_icmp_le (tgt := 34) c43004 dJ2_fastRemove_19 rfl).trans (if_cg ?_ ?_)
  · skip
    refine (g_aload_nV c43004 dJ2_fastRemove_34 rfl).trans (ckR_cg ?_)
    refine (g_aload_n c43004 dJ2_fastRemove_35 rfl).trans ?_
    refine (g_iload_n c43004 dJ2_fastRemove_36 rfl).trans ?_
    refine (g_dup_x1_ir c43004 dJ2_fastRemove_37).trans ?_
    refine (g_put c43004 dJ2_fastRemove_38 rfl).trans (pF_cg fun h4 => ?_)
    refine (g_aconst_null c43004 dJ2_fastRemove_41).trans ?_
    refine (g_aastore c43004 dJ2_fastRemove_42).trans (aSr_cg fun h5 => ?_)
    exact g_return c43004 dJ2_fastRemove_43 rfl
  · skip
    refine (g_aload_nV c43004 dJ2_fastRemove_22 rfl).trans (ckR_cg ?_)
    refine (g_iload_n c43004 dJ2_fastRemove_23 rfl).trans ?_
    refine (g_iconst (x := 1) c43004 dJ2_fastRemove_24 rfl).trans ?_
    refine (g_iadd c43004 dJ2_fastRemove_25).trans ?_
    refine (g_aload_nV c43004 dJ2_fastRemove_26 rfl).trans (ckR_cg ?_)
    refine (g_iload_n c43004 dJ2_fastRemove_27 rfl).trans ?_
    refine (g_iload_n c43004 dJ2_fastRemove_28 rfl).trans ?_
    refine (g_iload_n c43004 dJ2_fastRemove_29 rfl).trans ?_
    refine (g_isub c43004 dJ2_fastRemove_30).trans ?_
    refine (g_static (as := [v1, .int (i2 + 1), v1, .int i2, .int ((x3 - 1) - i2)]) (rest := []) c43004 dJ2_fastRemove_31 rfl rfl rfl rfl rfl).trans ((jback_V (κx := cX) (fun e h => jthrow_out rfl)).trans (cV_cg fun h7 => ?_))
    refine (g_aload_nV c43004 dJ2_fastRemove_34 rfl).trans (ckR_cg ?_)
    refine (g_aload_n c43004 dJ2_fastRemove_35 rfl).trans ?_
    refine (g_iload_n c43004 dJ2_fastRemove_36 rfl).trans ?_
    refine (g_dup_x1_ir c43004 dJ2_fastRemove_37).trans ?_
    refine (g_put c43004 dJ2_fastRemove_38 rfl).trans (pF_cg fun h8 => ?_)
    refine (g_aconst_null c43004 dJ2_fastRemove_41).trans ?_
    refine (g_aastore c43004 dJ2_fastRemove_42).trans (aSr_cg fun h9 => ?_)
    exact g_return c43004 dJ2_fastRemove_43 rfl
theorem X43004 {d : Nat} {a0 : Nat} {v1 : Value} {i2 : Int32} (h : AH) (hv1 : isR v1 = true) (hr : jrecv 43004 [.ref a0, v1, .int i2] h = true) : M (d + 1) 43004 [.ref a0, v1, .int i2] h = G d 43004 0 [.ref a0, v1, .int i2, jno] [] h := M_eq rfl hr (by simp only [jent, jargL_R hv1, jargL]; rfl)
/-! java/util/ArrayList.get(I)Ljava/lang/Object; -/
abbrev cJ2_get : ByteArray := prog_66_method_20_code
def dkwJ2_get_0 : List UInt8 := [27, 42, 180, 0, 48, 184, 0, 118, 87, 42, 27, 182, 0, 123, 176]
abbrev dktJ2_get_0 : List UInt8 := dkwJ2_get_0 ++ []
theorem dksJ2_get_0 : cJ2_get.data.toList.drop 0 = dktJ2_get_0 := by decide +kernel
theorem dJ2_get_0 : decode cJ2_get 0 = .ok (.iload_n 1, 1) := dk_27 (dk_at dksJ2_get_0 0 rfl rfl)
theorem dJ2_get_1 : decode cJ2_get 1 = .ok (.aload_n 0, 1) := dk_42 (dk_at dksJ2_get_0 1 rfl rfl)
theorem dJ2_get_2 : decode cJ2_get 2 = .ok (.getfield 48, 3) := dk_180 0 48 (dk_at dksJ2_get_0 2 rfl rfl)
theorem dJ2_get_5 : decode cJ2_get 5 = .ok (.invokestatic 118, 3) := dk_184 0 118 (dk_at dksJ2_get_0 5 rfl rfl)
theorem dJ2_get_8 : decode cJ2_get 8 = .ok (.pop, 1) := dk_87 (dk_at dksJ2_get_0 8 rfl rfl)
theorem dJ2_get_9 : decode cJ2_get 9 = .ok (.aload_n 0, 1) := dk_42 (dk_at dksJ2_get_0 9 rfl rfl)
theorem dJ2_get_10 : decode cJ2_get 10 = .ok (.iload_n 1, 1) := dk_27 (dk_at dksJ2_get_0 10 rfl rfl)
theorem dJ2_get_11 : decode cJ2_get 11 = .ok (.invokevirtual 123, 3) := dk_182 0 123 (dk_at dksJ2_get_0 11 rfl rfl)
theorem dJ2_get_14 : decode cJ2_get 14 = .ok (.areturn, 1) := dk_176 (dk_at dksJ2_get_0 14 rfl rfl)
theorem c43005 : jtCode 43005 = cJ2_get := rfl
theorem E43005_0 (d : Nat) (a0 : Nat) (i1 : Int32) (h : AH) : G d 43005 0 [.ref a0, .int i1] [] h = zpI (jf (jc h (.ref a0)) [43] 2) (fun x1 => zcI (M d 58000 [.int i1, .int x1] h) (fun x2 h3 => zcR (M d 43003 [.ref a0, .int i1] h3) (fun r4 h5 => ckR r4 (some (.inl (some r4), h5))) ()) ()) () := by
  refine (g_iload_n c43005 dJ2_get_0 rfl).trans ?_
  refine (g_aload_n c43005 dJ2_get_1 rfl).trans ?_
  refine (g_getI c43005 dJ2_get_2 rfl rfl).trans (rI_cg fun x1 => ?_)
  refine (g_static (as := [.int i1, .int x1]) (rest := []) c43005 dJ2_get_5 rfl rfl rfl rfl rfl).trans ((jback_I (κx := cX) (fun e h => jthrow_out rfl)).trans (cI_cg fun x2 h3 => ?_))
  refine (g_pop_i c43005 dJ2_get_8).trans ?_
  refine (g_aload_n c43005 dJ2_get_9 rfl).trans ?_
  refine (g_iload_n c43005 dJ2_get_10 rfl).trans ?_
  refine (g_virtual (as := [.ref a0, .int i1]) (rest := []) c43005 dJ2_get_11 rfl rfl rfl rfl rfl).trans ((jback_R (κx := cX) (fun e h => jthrow_out rfl)).trans (cR_cg fun r4 h5 => ?_))
  exact g_areturn c43005 dJ2_get_14 rfl
theorem X43005 {d : Nat} {a0 : Nat} {i1 : Int32} (h : AH) (hr : jrecv 43005 [.ref a0, .int i1] h = true) : M (d + 1) 43005 [.ref a0, .int i1] h = G d 43005 0 [.ref a0, .int i1] [] h := M_eq rfl hr rfl
/-! java/util/ArrayList.grow()[Ljava/lang/Object; -/
abbrev cJ2_grow : ByteArray := prog_66_method_7_code
def dkwJ2_grow_0 : List UInt8 := [42, 42, 180, 0, 48, 4, 96, 182, 0, 69, 176]
abbrev dktJ2_grow_0 : List UInt8 := dkwJ2_grow_0 ++ []
theorem dksJ2_grow_0 : cJ2_grow.data.toList.drop 0 = dktJ2_grow_0 := by decide +kernel
theorem dJ2_grow_0 : decode cJ2_grow 0 = .ok (.aload_n 0, 1) := dk_42 (dk_at dksJ2_grow_0 0 rfl rfl)
theorem dJ2_grow_1 : decode cJ2_grow 1 = .ok (.aload_n 0, 1) := dk_42 (dk_at dksJ2_grow_0 1 rfl rfl)
theorem dJ2_grow_2 : decode cJ2_grow 2 = .ok (.getfield 48, 3) := dk_180 0 48 (dk_at dksJ2_grow_0 2 rfl rfl)
theorem dJ2_grow_5 : decode cJ2_grow 5 = .ok (.iconst 1, 1) := dk_4 (dk_at dksJ2_grow_0 5 rfl rfl)
theorem dJ2_grow_6 : decode cJ2_grow 6 = .ok (.iadd, 1) := dk_96 (dk_at dksJ2_grow_0 6 rfl rfl)
theorem dJ2_grow_7 : decode cJ2_grow 7 = .ok (.invokevirtual 69, 3) := dk_182 0 69 (dk_at dksJ2_grow_0 7 rfl rfl)
theorem dJ2_grow_10 : decode cJ2_grow 10 = .ok (.areturn, 1) := dk_176 (dk_at dksJ2_grow_0 10 rfl rfl)
theorem c43006 : jtCode 43006 = cJ2_grow := rfl
theorem E43006_0 (d : Nat) (a0 : Nat) (h : AH) : G d 43006 0 [.ref a0] [] h = zpI (jf (jc h (.ref a0)) [43] 2) (fun x1 => zcR (M d 43007 [.ref a0, .int (x1 + 1)] h) (fun r2 h3 => ckR r2 (some (.inl (some r2), h3))) ()) () := by
  refine (g_aload_n c43006 dJ2_grow_0 rfl).trans ?_
  refine (g_aload_n c43006 dJ2_grow_1 rfl).trans ?_
  refine (g_getI c43006 dJ2_grow_2 rfl rfl).trans (rI_cg fun x1 => ?_)
  refine (g_iconst (x := 1) c43006 dJ2_grow_5 rfl).trans ?_
  refine (g_iadd c43006 dJ2_grow_6).trans ?_
  refine (g_virtual (as := [.ref a0, .int (x1 + 1)]) (rest := []) c43006 dJ2_grow_7 rfl rfl rfl rfl rfl).trans ((jback_R (κx := cX) (fun e h => jthrow_out rfl)).trans (cR_cg fun r2 h3 => ?_))
  exact g_areturnA c43006 dJ2_grow_10 rfl
theorem X43006 {d : Nat} {a0 : Nat} (h : AH) (hr : jrecv 43006 [.ref a0] h = true) : M (d + 1) 43006 [.ref a0] h = G d 43006 0 [.ref a0] [] h := M_eq rfl hr rfl
/-! java/util/ArrayList.grow(I)[Ljava/lang/Object; -/
abbrev cJ2_grow_2 : ByteArray := prog_66_method_6_code
def dkwJ2_grow_2_2 : List UInt8 := [27, 184, 0, 79, 189, 0, 7, 90, 181, 0, 9, 176]
abbrev dktJ2_grow_2_2 : List UInt8 := dkwJ2_grow_2_2 ++ []
def dkwJ2_grow_2_1 : List UInt8 := [28, 4, 122, 184, 0, 73, 62, 42, 42, 180, 0, 9, 29, 184, 0, 66, 90, 181, 0, 9, 176, 42, 16, 10]
abbrev dktJ2_grow_2_1 : List UInt8 := dkwJ2_grow_2_1 ++ dktJ2_grow_2_2
def dkwJ2_grow_2_0 : List UInt8 := [42, 180, 0, 9, 190, 61, 28, 157, 0, 13, 42, 180, 0, 9, 178, 0, 39, 165, 0, 28, 28, 27, 28, 100]
abbrev dktJ2_grow_2_0 : List UInt8 := dkwJ2_grow_2_0 ++ dktJ2_grow_2_1
theorem dksJ2_grow_2_0 : cJ2_grow_2.data.toList.drop 0 = dktJ2_grow_2_0 := by decide +kernel
theorem dksJ2_grow_2_1 : cJ2_grow_2.data.toList.drop 24 = dktJ2_grow_2_1 := dk_seg dksJ2_grow_2_0 24 rfl rfl
theorem dksJ2_grow_2_2 : cJ2_grow_2.data.toList.drop 48 = dktJ2_grow_2_2 := dk_seg dksJ2_grow_2_1 24 rfl rfl
theorem dJ2_grow_2_0 : decode cJ2_grow_2 0 = .ok (.aload_n 0, 1) := dk_42 (dk_at dksJ2_grow_2_0 0 rfl rfl)
theorem dJ2_grow_2_1 : decode cJ2_grow_2 1 = .ok (.getfield 9, 3) := dk_180 0 9 (dk_at dksJ2_grow_2_0 1 rfl rfl)
theorem dJ2_grow_2_4 : decode cJ2_grow_2 4 = .ok (.arraylength, 1) := dk_190 (dk_at dksJ2_grow_2_0 4 rfl rfl)
theorem dJ2_grow_2_5 : decode cJ2_grow_2 5 = .ok (.istore_n 2, 1) := dk_61 (dk_at dksJ2_grow_2_0 5 rfl rfl)
theorem dJ2_grow_2_6 : decode cJ2_grow_2 6 = .ok (.iload_n 2, 1) := dk_28 (dk_at dksJ2_grow_2_0 6 rfl rfl)
theorem dJ2_grow_2_7 : decode cJ2_grow_2 7 = .ok (.ifCond .gt 13, 3) := dk_157 0 13 (dk_at dksJ2_grow_2_0 7 rfl rfl)
theorem dJ2_grow_2_10 : decode cJ2_grow_2 10 = .ok (.aload_n 0, 1) := dk_42 (dk_at dksJ2_grow_2_0 10 rfl rfl)
theorem dJ2_grow_2_11 : decode cJ2_grow_2 11 = .ok (.getfield 9, 3) := dk_180 0 9 (dk_at dksJ2_grow_2_0 11 rfl rfl)
theorem dJ2_grow_2_14 : decode cJ2_grow_2 14 = .ok (.getstatic 39, 3) := dk_178 0 39 (dk_at dksJ2_grow_2_0 14 rfl rfl)
theorem dJ2_grow_2_17 : decode cJ2_grow_2 17 = .ok (.if_acmp .eq 28, 3) := dk_165 0 28 (dk_at dksJ2_grow_2_0 17 rfl rfl)
theorem dJ2_grow_2_20 : decode cJ2_grow_2 20 = .ok (.iload_n 2, 1) := dk_28 (dk_at dksJ2_grow_2_0 20 rfl rfl)
theorem dJ2_grow_2_21 : decode cJ2_grow_2 21 = .ok (.iload_n 1, 1) := dk_27 (dk_at dksJ2_grow_2_0 21 rfl rfl)
theorem dJ2_grow_2_22 : decode cJ2_grow_2 22 = .ok (.iload_n 2, 1) := dk_28 (dk_at dksJ2_grow_2_0 22 rfl rfl)
theorem dJ2_grow_2_23 : decode cJ2_grow_2 23 = .ok (.isub, 1) := dk_100 (dk_at dksJ2_grow_2_0 23 rfl rfl)
theorem dJ2_grow_2_24 : decode cJ2_grow_2 24 = .ok (.iload_n 2, 1) := dk_28 (dk_at dksJ2_grow_2_1 0 rfl rfl)
theorem dJ2_grow_2_25 : decode cJ2_grow_2 25 = .ok (.iconst 1, 1) := dk_4 (dk_at dksJ2_grow_2_1 1 rfl rfl)
theorem dJ2_grow_2_26 : decode cJ2_grow_2 26 = .ok (.ishr, 1) := dk_122 (dk_at dksJ2_grow_2_1 2 rfl rfl)
theorem dJ2_grow_2_27 : decode cJ2_grow_2 27 = .ok (.invokestatic 73, 3) := dk_184 0 73 (dk_at dksJ2_grow_2_1 3 rfl rfl)
theorem dJ2_grow_2_30 : decode cJ2_grow_2 30 = .ok (.istore_n 3, 1) := dk_62 (dk_at dksJ2_grow_2_1 6 rfl rfl)
theorem dJ2_grow_2_31 : decode cJ2_grow_2 31 = .ok (.aload_n 0, 1) := dk_42 (dk_at dksJ2_grow_2_1 7 rfl rfl)
theorem dJ2_grow_2_32 : decode cJ2_grow_2 32 = .ok (.aload_n 0, 1) := dk_42 (dk_at dksJ2_grow_2_1 8 rfl rfl)
theorem dJ2_grow_2_33 : decode cJ2_grow_2 33 = .ok (.getfield 9, 3) := dk_180 0 9 (dk_at dksJ2_grow_2_1 9 rfl rfl)
theorem dJ2_grow_2_36 : decode cJ2_grow_2 36 = .ok (.iload_n 3, 1) := dk_29 (dk_at dksJ2_grow_2_1 12 rfl rfl)
theorem dJ2_grow_2_37 : decode cJ2_grow_2 37 = .ok (.invokestatic 66, 3) := dk_184 0 66 (dk_at dksJ2_grow_2_1 13 rfl rfl)
theorem dJ2_grow_2_40 : decode cJ2_grow_2 40 = .ok (.dup_x1, 1) := dk_90 (dk_at dksJ2_grow_2_1 16 rfl rfl)
theorem dJ2_grow_2_41 : decode cJ2_grow_2 41 = .ok (.putfield 9, 3) := dk_181 0 9 (dk_at dksJ2_grow_2_1 17 rfl rfl)
theorem dJ2_grow_2_44 : decode cJ2_grow_2 44 = .ok (.areturn, 1) := dk_176 (dk_at dksJ2_grow_2_1 20 rfl rfl)
theorem dJ2_grow_2_45 : decode cJ2_grow_2 45 = .ok (.aload_n 0, 1) := dk_42 (dk_at dksJ2_grow_2_1 21 rfl rfl)
theorem dJ2_grow_2_46 : decode cJ2_grow_2 46 = .ok (.bipush 10, 2) := dk_16 10 (dk_at dksJ2_grow_2_1 22 rfl rfl)
theorem dJ2_grow_2_48 : decode cJ2_grow_2 48 = .ok (.iload_n 1, 1) := dk_27 (dk_at dksJ2_grow_2_2 0 rfl rfl)
theorem dJ2_grow_2_49 : decode cJ2_grow_2 49 = .ok (.invokestatic 79, 3) := dk_184 0 79 (dk_at dksJ2_grow_2_2 1 rfl rfl)
theorem dJ2_grow_2_52 : decode cJ2_grow_2 52 = .ok (.anewarray 7, 3) := dk_189 0 7 (dk_at dksJ2_grow_2_2 4 rfl rfl)
theorem dJ2_grow_2_55 : decode cJ2_grow_2 55 = .ok (.dup_x1, 1) := dk_90 (dk_at dksJ2_grow_2_2 7 rfl rfl)
theorem dJ2_grow_2_56 : decode cJ2_grow_2 56 = .ok (.putfield 9, 3) := dk_181 0 9 (dk_at dksJ2_grow_2_2 8 rfl rfl)
theorem dJ2_grow_2_59 : decode cJ2_grow_2 59 = .ok (.areturn, 1) := dk_176 (dk_at dksJ2_grow_2_2 11 rfl rfl)
theorem c43007 : jtCode 43007 = cJ2_grow_2 := rfl
theorem E43007_0 (d : Nat) (a0 : Nat) (i1 : Int32) (h : AH) : G d 43007 0 [.ref a0, .int i1, jno, jno] [] h = zpR (jf (jc h (.ref a0)) [43] 1) (fun r1 => zqL h r1 (fun x2 => if 0 < x2 then (G d 43007 20 [.ref a0, .int i1, .int x2, jno] [] h) else (zpR (jf (jc h (.ref a0)) [43] 1) (fun r3 => zpR (je h 0) (fun r4 => zkR r4 (zkR r3 (if (r3 : Value) = r4 then (zcI (M d 53000 [.int 10, .int i1] h) (fun x5 h6 => zqN x5 (zqH (jpush h6 (1040, x5.toNatClampNeg, fun _ => .null)) (fun h7 => zqF h7 (.ref a0) [43] 1 2 (.ref h6.1) (fun h8 => some (.inl (some (.ref h6.1)), h8)) ()) ()) ()) ()) else (G d 43007 20 [.ref a0, .int i1, .int x2, jno] [] h)) ()) ()) ()) ())) ()) () := by
  refine (g_aload_n c43007 dJ2_grow_2_0 rfl).trans ?_
  refine (g_getR c43007 dJ2_grow_2_1 rfl).trans (rR_cg fun r1 => ?_)
  refine (g_alen c43007 dJ2_grow_2_4).trans (aL_cg fun x2 => ?_)
  refine (g_istore_n (L' := [.ref a0, .int i1, .int x2, jno]) c43007 dJ2_grow_2_5 rfl rfl).trans ?_
  refine (g_iload_n c43007 dJ2_grow_2_6 rfl).trans ?_
  refine (g_if_gt (tgt := 20) c43007 dJ2_grow_2_7 rfl).trans (if_cg ?_ ?_)
  · skip
    rfl
  · skip
    refine (g_aload_n c43007 dJ2_grow_2_10 rfl).trans ?_
    refine (g_getR c43007 dJ2_grow_2_11 rfl).trans (rR_cg fun r3 => ?_)
    refine (g_getsR (k := 0) c43007 dJ2_grow_2_14 rfl rfl).trans (rR_cg fun r4 => ?_)
    refine (g_acmp_eq (tgt := 45) c43007 dJ2_grow_2_17 rfl).trans (ckR_cg (ckR_cg (if_cg ?_ ?_)))
    · skip
      refine (g_aload_n c43007 dJ2_grow_2_45 rfl).trans ?_
      refine (g_bipush (x := 10) c43007 dJ2_grow_2_46 rfl).trans ?_
      refine (g_iload_n c43007 dJ2_grow_2_48 rfl).trans ?_
      refine (g_static (as := [.int 10, .int i1]) (rest := [.ref a0]) c43007 dJ2_grow_2_49 rfl rfl rfl rfl rfl).trans ((jback_I (κx := cX) (fun e h => jthrow_out rfl)).trans (cI_cg fun x5 h6 => ?_))
      refine (g_newR (t := 1040) c43007 dJ2_grow_2_52 rfl rfl).trans (nA_cg ?_)
      refine nmZ ?_
      generalize jpush h6 (1040, x5.toNatClampNeg, fun _ => .null) = h7
      refine (g_dup_x1_rr c43007 dJ2_grow_2_55).trans ?_
      refine (g_put c43007 dJ2_grow_2_56 rfl).trans (pF_cg fun h8 => ?_)
      exact g_areturnA_r c43007 dJ2_grow_2_59 rfl
    · skip
      rfl
theorem E43007_20 (d : Nat) (a0 : Nat) (i1 : Int32) (i2 : Int32) (h : AH) : G d 43007 20 [.ref a0, .int i1, .int i2, jno] [] h = zcI (M d 52003 [.int i2, .int (i1 - i2), .int (i2 >>> ((1 : Int32) &&& 31))] h) (fun x1 h2 => zpR (jf (jc h2 (.ref a0)) [43] 1) (fun r3 => zcR (M d 45004 [r3, .int x1] h2) (fun r4 h5 => zkW r4 (zkW (.ref a0) (zqF h5 (.ref a0) [43] 1 2 r4 (fun h6 => ckR r4 (some (.inl (some r4), h6))) ()) ()) ()) ()) ()) () := by
  refine (g_iload_n c43007 dJ2_grow_2_20 rfl).trans ?_
  refine (g_iload_n c43007 dJ2_grow_2_21 rfl).trans ?_
  refine (g_iload_n c43007 dJ2_grow_2_22 rfl).trans ?_
  refine (g_isub c43007 dJ2_grow_2_23).trans ?_
  refine (g_iload_n c43007 dJ2_grow_2_24 rfl).trans ?_
  refine (g_iconst (x := 1) c43007 dJ2_grow_2_25 rfl).trans ?_
  refine (g_ishr c43007 dJ2_grow_2_26).trans ?_
  refine (g_static (as := [.int i2, .int (i1 - i2), .int (i2 >>> ((1 : Int32) &&& 31))]) (rest := []) c43007 dJ2_grow_2_27 rfl rfl rfl rfl rfl).trans ((jback_I (κx := cX) (fun e h => jthrow_out rfl)).trans (cI_cg fun x1 h2 => ?_))
  refine (g_istore_n (L' := [.ref a0, .int i1, .int i2, .int x1]) c43007 dJ2_grow_2_30 rfl rfl).trans ?_
  refine (g_aload_n c43007 dJ2_grow_2_31 rfl).trans ?_
  refine (g_aload_n c43007 dJ2_grow_2_32 rfl).trans ?_
  refine (g_getR c43007 dJ2_grow_2_33 rfl).trans (rR_cg fun r3 => ?_)
  refine (g_iload_n c43007 dJ2_grow_2_36 rfl).trans ?_
  refine (g_static (as := [r3, .int x1]) (rest := [.ref a0]) c43007 dJ2_grow_2_37 rfl rfl rfl rfl rfl).trans ((jback_R (κx := cX) (fun e h => jthrow_out rfl)).trans (cR_cg fun r4 h5 => ?_))
  refine (g_dup_x1 c43007 dJ2_grow_2_40).trans (ckW_cg (ckW_cg ?_))
  refine (g_put c43007 dJ2_grow_2_41 rfl).trans (pF_cg fun h6 => ?_)
  exact g_areturnA c43007 dJ2_grow_2_44 rfl
theorem X43007 {d : Nat} {a0 : Nat} {i1 : Int32} (h : AH) (hr : jrecv 43007 [.ref a0, .int i1] h = true) : M (d + 1) 43007 [.ref a0, .int i1] h = G d 43007 0 [.ref a0, .int i1, jno, jno] [] h := M_eq rfl hr rfl
/-! java/util/ArrayList.indexOf(Ljava/lang/Object;)I -/
abbrev cJ2_indexOf : ByteArray := prog_66_method_11_code
def dkwJ2_indexOf_0 : List UInt8 := [42, 43, 3, 42, 180, 0, 48, 182, 0, 89, 172]
abbrev dktJ2_indexOf_0 : List UInt8 := dkwJ2_indexOf_0 ++ []
theorem dksJ2_indexOf_0 : cJ2_indexOf.data.toList.drop 0 = dktJ2_indexOf_0 := by decide +kernel
theorem dJ2_indexOf_0 : decode cJ2_indexOf 0 = .ok (.aload_n 0, 1) := dk_42 (dk_at dksJ2_indexOf_0 0 rfl rfl)
theorem dJ2_indexOf_1 : decode cJ2_indexOf 1 = .ok (.aload_n 1, 1) := dk_43 (dk_at dksJ2_indexOf_0 1 rfl rfl)
theorem dJ2_indexOf_2 : decode cJ2_indexOf 2 = .ok (.iconst 0, 1) := dk_3 (dk_at dksJ2_indexOf_0 2 rfl rfl)
theorem dJ2_indexOf_3 : decode cJ2_indexOf 3 = .ok (.aload_n 0, 1) := dk_42 (dk_at dksJ2_indexOf_0 3 rfl rfl)
theorem dJ2_indexOf_4 : decode cJ2_indexOf 4 = .ok (.getfield 48, 3) := dk_180 0 48 (dk_at dksJ2_indexOf_0 4 rfl rfl)
theorem dJ2_indexOf_7 : decode cJ2_indexOf 7 = .ok (.invokevirtual 89, 3) := dk_182 0 89 (dk_at dksJ2_indexOf_0 7 rfl rfl)
theorem dJ2_indexOf_10 : decode cJ2_indexOf 10 = .ok (.ireturn, 1) := dk_172 (dk_at dksJ2_indexOf_0 10 rfl rfl)
theorem c43008 : jtCode 43008 = cJ2_indexOf := rfl
theorem E43008_0 (d : Nat) (a0 : Nat) (v1 : Value) (h : AH) : G d 43008 0 [.ref a0, v1] [] h = zkR v1 (zpI (jf (jc h (.ref a0)) [43] 2) (fun x1 => zcI (M d 43009 [.ref a0, v1, .int 0, .int x1] h) (fun x2 h3 => some (.inl (some (.int x2)), h3)) ()) ()) () := by
  refine (g_aload_n c43008 dJ2_indexOf_0 rfl).trans ?_
  refine (g_aload_nV c43008 dJ2_indexOf_1 rfl).trans (ckR_cg ?_)
  refine (g_iconst (x := 0) c43008 dJ2_indexOf_2 rfl).trans ?_
  refine (g_aload_n c43008 dJ2_indexOf_3 rfl).trans ?_
  refine (g_getI c43008 dJ2_indexOf_4 rfl rfl).trans (rI_cg fun x1 => ?_)
  refine (g_virtual (as := [.ref a0, v1, .int 0, .int x1]) (rest := []) c43008 dJ2_indexOf_7 rfl rfl rfl rfl rfl).trans ((jback_I (κx := cX) (fun e h => jthrow_out rfl)).trans (cI_cg fun x2 h3 => ?_))
  exact g_ireturn c43008 dJ2_indexOf_10 rfl
theorem X43008 {d : Nat} {a0 : Nat} {v1 : Value} (h : AH) (hv1 : isR v1 = true) (hr : jrecv 43008 [.ref a0, v1] h = true) : M (d + 1) 43008 [.ref a0, v1] h = G d 43008 0 [.ref a0, v1] [] h := M_eq rfl hr (by simp only [jent, jargL_R hv1, jargL]; rfl)
/-! java/util/ArrayList.indexOfRange(Ljava/lang/Object;II)I -/
abbrev cJ2_indexOfRange : ByteArray := prog_66_method_12_code
def dkwJ2_indexOfRange_2 : List UInt8 := [43, 25, 4, 21, 5, 50, 182, 0, 93, 153, 0, 6, 21, 5, 172, 132, 5, 1, 167, 255, 232, 2, 172]
abbrev dktJ2_indexOfRange_2 : List UInt8 := dkwJ2_indexOfRange_2 ++ []
def dkwJ2_indexOfRange_1 : List UInt8 := [199, 0, 6, 21, 5, 172, 132, 5, 1, 167, 255, 236, 167, 0, 33, 28, 54, 5, 21, 5, 29, 162, 0, 24]
abbrev dktJ2_indexOfRange_1 : List UInt8 := dkwJ2_indexOfRange_1 ++ dktJ2_indexOfRange_2
def dkwJ2_indexOfRange_0 : List UInt8 := [42, 180, 0, 9, 58, 4, 43, 199, 0, 32, 28, 54, 5, 21, 5, 29, 162, 0, 20, 25, 4, 21, 5, 50]
abbrev dktJ2_indexOfRange_0 : List UInt8 := dkwJ2_indexOfRange_0 ++ dktJ2_indexOfRange_1
theorem dksJ2_indexOfRange_0 : cJ2_indexOfRange.data.toList.drop 0 = dktJ2_indexOfRange_0 := by decide +kernel
theorem dksJ2_indexOfRange_1 : cJ2_indexOfRange.data.toList.drop 24 = dktJ2_indexOfRange_1 := dk_seg dksJ2_indexOfRange_0 24 rfl rfl
theorem dksJ2_indexOfRange_2 : cJ2_indexOfRange.data.toList.drop 48 = dktJ2_indexOfRange_2 := dk_seg dksJ2_indexOfRange_1 24 rfl rfl
theorem dJ2_indexOfRange_0 : decode cJ2_indexOfRange 0 = .ok (.aload_n 0, 1) := dk_42 (dk_at dksJ2_indexOfRange_0 0 rfl rfl)
theorem dJ2_indexOfRange_1 : decode cJ2_indexOfRange 1 = .ok (.getfield 9, 3) := dk_180 0 9 (dk_at dksJ2_indexOfRange_0 1 rfl rfl)
theorem dJ2_indexOfRange_4 : decode cJ2_indexOfRange 4 = .ok (.astore 4, 2) := dk_58 4 (dk_at dksJ2_indexOfRange_0 4 rfl rfl)
theorem dJ2_indexOfRange_6 : decode cJ2_indexOfRange 6 = .ok (.aload_n 1, 1) := dk_43 (dk_at dksJ2_indexOfRange_0 6 rfl rfl)
theorem dJ2_indexOfRange_7 : decode cJ2_indexOfRange 7 = .ok (.ifnonnull 32, 3) := dk_199 0 32 (dk_at dksJ2_indexOfRange_0 7 rfl rfl)
theorem dJ2_indexOfRange_10 : decode cJ2_indexOfRange 10 = .ok (.iload_n 2, 1) := dk_28 (dk_at dksJ2_indexOfRange_0 10 rfl rfl)
theorem dJ2_indexOfRange_11 : decode cJ2_indexOfRange 11 = .ok (.istore 5, 2) := dk_54 5 (dk_at dksJ2_indexOfRange_0 11 rfl rfl)
theorem dJ2_indexOfRange_13 : decode cJ2_indexOfRange 13 = .ok (.iload 5, 2) := dk_21 5 (dk_at dksJ2_indexOfRange_0 13 rfl rfl)
theorem dJ2_indexOfRange_15 : decode cJ2_indexOfRange 15 = .ok (.iload_n 3, 1) := dk_29 (dk_at dksJ2_indexOfRange_0 15 rfl rfl)
theorem dJ2_indexOfRange_16 : decode cJ2_indexOfRange 16 = .ok (.if_icmp .ge 20, 3) := dk_162 0 20 (dk_at dksJ2_indexOfRange_0 16 rfl rfl)
theorem dJ2_indexOfRange_19 : decode cJ2_indexOfRange 19 = .ok (.aload 4, 2) := dk_25 4 (dk_at dksJ2_indexOfRange_0 19 rfl rfl)
theorem dJ2_indexOfRange_21 : decode cJ2_indexOfRange 21 = .ok (.iload 5, 2) := dk_21 5 (dk_at dksJ2_indexOfRange_0 21 rfl rfl)
theorem dJ2_indexOfRange_23 : decode cJ2_indexOfRange 23 = .ok (.aaload, 1) := dk_50 (dk_at dksJ2_indexOfRange_0 23 rfl rfl)
theorem dJ2_indexOfRange_24 : decode cJ2_indexOfRange 24 = .ok (.ifnonnull 6, 3) := dk_199 0 6 (dk_at dksJ2_indexOfRange_1 0 rfl rfl)
theorem dJ2_indexOfRange_27 : decode cJ2_indexOfRange 27 = .ok (.iload 5, 2) := dk_21 5 (dk_at dksJ2_indexOfRange_1 3 rfl rfl)
theorem dJ2_indexOfRange_29 : decode cJ2_indexOfRange 29 = .ok (.ireturn, 1) := dk_172 (dk_at dksJ2_indexOfRange_1 5 rfl rfl)
theorem dJ2_indexOfRange_30 : decode cJ2_indexOfRange 30 = .ok (.iinc 5 1, 3) := dk_132 5 1 (dk_at dksJ2_indexOfRange_1 6 rfl rfl)
theorem dJ2_indexOfRange_33 : decode cJ2_indexOfRange 33 = .ok (.goto (-20), 3) := dk_167 255 236 (dk_at dksJ2_indexOfRange_1 9 rfl rfl)
theorem dJ2_indexOfRange_36 : decode cJ2_indexOfRange 36 = .ok (.goto 33, 3) := dk_167 0 33 (dk_at dksJ2_indexOfRange_1 12 rfl rfl)
theorem dJ2_indexOfRange_39 : decode cJ2_indexOfRange 39 = .ok (.iload_n 2, 1) := dk_28 (dk_at dksJ2_indexOfRange_1 15 rfl rfl)
theorem dJ2_indexOfRange_40 : decode cJ2_indexOfRange 40 = .ok (.istore 5, 2) := dk_54 5 (dk_at dksJ2_indexOfRange_1 16 rfl rfl)
theorem dJ2_indexOfRange_42 : decode cJ2_indexOfRange 42 = .ok (.iload 5, 2) := dk_21 5 (dk_at dksJ2_indexOfRange_1 18 rfl rfl)
theorem dJ2_indexOfRange_44 : decode cJ2_indexOfRange 44 = .ok (.iload_n 3, 1) := dk_29 (dk_at dksJ2_indexOfRange_1 20 rfl rfl)
theorem dJ2_indexOfRange_45 : decode cJ2_indexOfRange 45 = .ok (.if_icmp .ge 24, 3) := dk_162 0 24 (dk_at dksJ2_indexOfRange_1 21 rfl rfl)
theorem dJ2_indexOfRange_48 : decode cJ2_indexOfRange 48 = .ok (.aload_n 1, 1) := dk_43 (dk_at dksJ2_indexOfRange_2 0 rfl rfl)
theorem dJ2_indexOfRange_49 : decode cJ2_indexOfRange 49 = .ok (.aload 4, 2) := dk_25 4 (dk_at dksJ2_indexOfRange_2 1 rfl rfl)
theorem dJ2_indexOfRange_51 : decode cJ2_indexOfRange 51 = .ok (.iload 5, 2) := dk_21 5 (dk_at dksJ2_indexOfRange_2 3 rfl rfl)
theorem dJ2_indexOfRange_53 : decode cJ2_indexOfRange 53 = .ok (.aaload, 1) := dk_50 (dk_at dksJ2_indexOfRange_2 5 rfl rfl)
theorem dJ2_indexOfRange_54 : decode cJ2_indexOfRange 54 = .ok (.invokevirtual 93, 3) := dk_182 0 93 (dk_at dksJ2_indexOfRange_2 6 rfl rfl)
theorem dJ2_indexOfRange_57 : decode cJ2_indexOfRange 57 = .ok (.ifCond .eq 6, 3) := dk_153 0 6 (dk_at dksJ2_indexOfRange_2 9 rfl rfl)
theorem dJ2_indexOfRange_60 : decode cJ2_indexOfRange 60 = .ok (.iload 5, 2) := dk_21 5 (dk_at dksJ2_indexOfRange_2 12 rfl rfl)
theorem dJ2_indexOfRange_62 : decode cJ2_indexOfRange 62 = .ok (.ireturn, 1) := dk_172 (dk_at dksJ2_indexOfRange_2 14 rfl rfl)
theorem dJ2_indexOfRange_63 : decode cJ2_indexOfRange 63 = .ok (.iinc 5 1, 3) := dk_132 5 1 (dk_at dksJ2_indexOfRange_2 15 rfl rfl)
theorem dJ2_indexOfRange_66 : decode cJ2_indexOfRange 66 = .ok (.goto (-24), 3) := dk_167 255 232 (dk_at dksJ2_indexOfRange_2 18 rfl rfl)
theorem dJ2_indexOfRange_69 : decode cJ2_indexOfRange 69 = .ok (.iconst (-1), 1) := dk_2 (dk_at dksJ2_indexOfRange_2 21 rfl rfl)
theorem dJ2_indexOfRange_70 : decode cJ2_indexOfRange 70 = .ok (.ireturn, 1) := dk_172 (dk_at dksJ2_indexOfRange_2 22 rfl rfl)
theorem c43009 : jtCode 43009 = cJ2_indexOfRange := rfl
theorem E43009_0 (d : Nat) (a0 : Nat) (v1 : Value) (i2 : Int32) (i3 : Int32) (h : AH) : G d 43009 0 [.ref a0, v1, .int i2, .int i3, jno, jno] [] h = zpR (jf (jc h (.ref a0)) [43] 1) (fun r1 => zkR r1 (zkR v1 (zkR v1 (if (v1 : Value) = .null then (G d 43009 13 [.ref a0, v1, .int i2, .int i3, r1, .int i2] [] h) else (G d 43009 42 [.ref a0, v1, .int i2, .int i3, r1, .int i2] [] h)) ()) ()) ()) () := by
  refine (g_aload_n c43009 dJ2_indexOfRange_0 rfl).trans ?_
  refine (g_getR c43009 dJ2_indexOfRange_1 rfl).trans (rR_cg fun r1 => ?_)
  refine (g_astoreV (L' := [.ref a0, v1, .int i2, .int i3, r1, jno]) c43009 dJ2_indexOfRange_4 rfl rfl).trans (ckR_cg ?_)
  refine (g_aload_nV c43009 dJ2_indexOfRange_6 rfl).trans (ckR_cg ?_)
  refine (g_ifnonnull (tgt := 39) c43009 dJ2_indexOfRange_7 rfl).trans (ckR_cg (if_cg ?_ ?_))
  · skip
    refine (g_iload_n c43009 dJ2_indexOfRange_10 rfl).trans ?_
    refine (g_istore (L' := [.ref a0, v1, .int i2, .int i3, r1, .int i2]) c43009 dJ2_indexOfRange_11 rfl rfl).trans ?_
    rfl
  · skip
    refine (g_iload_n c43009 dJ2_indexOfRange_39 rfl).trans ?_
    refine (g_istore (L' := [.ref a0, v1, .int i2, .int i3, r1, .int i2]) c43009 dJ2_indexOfRange_40 rfl rfl).trans ?_
    rfl
theorem E43009_13 (d : Nat) (a0 : Nat) (v1 : Value) (i2 : Int32) (i3 : Int32) (v4 : Value) (i5 : Int32) (h : AH) : G d 43009 13 [.ref a0, v1, .int i2, .int i3, v4, .int i5] [] h = if i3 ≤ i5 then (some (.inl (some (.int (-1))), h)) else (zkR v4 (zqG h v4 [1040, 1041, 1050, 1060, 1071] i5 (fun w1 => zpR w1 (fun r2 => zkR r2 (if (r2 : Value) = .null then (some (.inl (some (.int i5)), h)) else (G d 43009 13 [.ref a0, v1, .int i2, .int i3, v4, .int (i5 + 1)] [] h)) ()) ()) ()) ()) := by
  refine (g_iload c43009 dJ2_indexOfRange_13 rfl).trans ?_
  refine (g_iload_n c43009 dJ2_indexOfRange_15 rfl).trans ?_
  refine (g_icmp_ge (tgt := 36) c43009 dJ2_indexOfRange_16 rfl).trans (if_cg ?_ ?_)
  · skip
    refine (g_goto (tgt := 69) c43009 dJ2_indexOfRange_36 rfl).trans ?_
    refine (g_iconst (x := (-1)) c43009 dJ2_indexOfRange_69 rfl).trans ?_
    exact g_ireturn c43009 dJ2_indexOfRange_70 rfl
  · skip
    refine (g_aloadV c43009 dJ2_indexOfRange_19 rfl).trans (ckR_cg ?_)
    refine (g_iload c43009 dJ2_indexOfRange_21 rfl).trans ?_
    refine (g_aaload c43009 dJ2_indexOfRange_23).trans (aG_cg fun w1 => rR_cg fun r2 => ?_)
    refine (g_ifnonnull (tgt := 30) c43009 dJ2_indexOfRange_24 rfl).trans (ckR_cg (if_cg ?_ ?_))
    · skip
      refine (g_iload c43009 dJ2_indexOfRange_27 rfl).trans ?_
      exact g_ireturn c43009 dJ2_indexOfRange_29 rfl
    · skip
      refine (g_iinc (c := 1) (L' := [.ref a0, v1, .int i2, .int i3, v4, .int (i5 + 1)]) c43009 dJ2_indexOfRange_30 rfl rfl rfl rfl).trans ?_
      refine (g_goto (tgt := 13) c43009 dJ2_indexOfRange_33 rfl).trans ?_
      rfl
theorem E43009_42 (d : Nat) (a0 : Nat) (v1 : Value) (i2 : Int32) (i3 : Int32) (v4 : Value) (i5 : Int32) (h : AH) : G d 43009 42 [.ref a0, v1, .int i2, .int i3, v4, .int i5] [] h = if i3 ≤ i5 then (some (.inl (some (.int (-1))), h)) else (zkR v1 (zkR v4 (zqG h v4 [1040, 1041, 1050, 1060, 1071] i5 (fun w1 => zpR w1 (fun r2 => zcI (M d 50008 [v1, r2] h) (fun x3 h4 => if x3 = 0 then (G d 43009 42 [.ref a0, v1, .int i2, .int i3, v4, .int (i5 + 1)] [] h4) else (some (.inl (some (.int i5)), h4))) ()) ()) ()) ()) ()) := by
  refine (g_iload c43009 dJ2_indexOfRange_42 rfl).trans ?_
  refine (g_iload_n c43009 dJ2_indexOfRange_44 rfl).trans ?_
  refine (g_icmp_ge (tgt := 69) c43009 dJ2_indexOfRange_45 rfl).trans (if_cg ?_ ?_)
  · skip
    refine (g_iconst (x := (-1)) c43009 dJ2_indexOfRange_69 rfl).trans ?_
    exact g_ireturn c43009 dJ2_indexOfRange_70 rfl
  · skip
    refine (g_aload_nV c43009 dJ2_indexOfRange_48 rfl).trans (ckR_cg ?_)
    refine (g_aloadV c43009 dJ2_indexOfRange_49 rfl).trans (ckR_cg ?_)
    refine (g_iload c43009 dJ2_indexOfRange_51 rfl).trans ?_
    refine (g_aaload c43009 dJ2_indexOfRange_53).trans (aG_cg fun w1 => rR_cg fun r2 => ?_)
    refine (g_virtual (as := [v1, r2]) (rest := []) c43009 dJ2_indexOfRange_54 rfl rfl rfl rfl rfl).trans ((jback_I (κx := cX) (fun e h => jthrow_out rfl)).trans (cI_cg fun x3 h4 => ?_))
    refine (g_if_eq (tgt := 63) c43009 dJ2_indexOfRange_57 rfl).trans (if_cg ?_ ?_)
    · skip
      refine (g_iinc (c := 1) (L' := [.ref a0, v1, .int i2, .int i3, v4, .int (i5 + 1)]) c43009 dJ2_indexOfRange_63 rfl rfl rfl rfl).trans ?_
      refine (g_goto (tgt := 42) c43009 dJ2_indexOfRange_66 rfl).trans ?_
      rfl
    · skip
      refine (g_iload c43009 dJ2_indexOfRange_60 rfl).trans ?_
      exact g_ireturn c43009 dJ2_indexOfRange_62 rfl
theorem X43009 {d : Nat} {a0 : Nat} {v1 : Value} {i2 : Int32} {i3 : Int32} (h : AH) (hv1 : isR v1 = true) (hr : jrecv 43009 [.ref a0, v1, .int i2, .int i3] h = true) : M (d + 1) 43009 [.ref a0, v1, .int i2, .int i3] h = G d 43009 0 [.ref a0, v1, .int i2, .int i3, jno, jno] [] h := M_eq rfl hr (by simp only [jent, jargL_R hv1, jargL]; rfl)
/-! java/util/ArrayList.isEmpty()Z -/
abbrev cJ2_isEmpty : ByteArray := prog_66_method_9_code
def dkwJ2_isEmpty_0 : List UInt8 := [42, 180, 0, 48, 154, 0, 7, 4, 167, 0, 4, 3, 172]
abbrev dktJ2_isEmpty_0 : List UInt8 := dkwJ2_isEmpty_0 ++ []
theorem dksJ2_isEmpty_0 : cJ2_isEmpty.data.toList.drop 0 = dktJ2_isEmpty_0 := by decide +kernel
theorem dJ2_isEmpty_0 : decode cJ2_isEmpty 0 = .ok (.aload_n 0, 1) := dk_42 (dk_at dksJ2_isEmpty_0 0 rfl rfl)
theorem dJ2_isEmpty_1 : decode cJ2_isEmpty 1 = .ok (.getfield 48, 3) := dk_180 0 48 (dk_at dksJ2_isEmpty_0 1 rfl rfl)
theorem dJ2_isEmpty_4 : decode cJ2_isEmpty 4 = .ok (.ifCond .ne 7, 3) := dk_154 0 7 (dk_at dksJ2_isEmpty_0 4 rfl rfl)
theorem dJ2_isEmpty_7 : decode cJ2_isEmpty 7 = .ok (.iconst 1, 1) := dk_4 (dk_at dksJ2_isEmpty_0 7 rfl rfl)
theorem dJ2_isEmpty_8 : decode cJ2_isEmpty 8 = .ok (.goto 4, 3) := dk_167 0 4 (dk_at dksJ2_isEmpty_0 8 rfl rfl)
theorem dJ2_isEmpty_11 : decode cJ2_isEmpty 11 = .ok (.iconst 0, 1) := dk_3 (dk_at dksJ2_isEmpty_0 11 rfl rfl)
theorem dJ2_isEmpty_12 : decode cJ2_isEmpty 12 = .ok (.ireturn, 1) := dk_172 (dk_at dksJ2_isEmpty_0 12 rfl rfl)
theorem c43010 : jtCode 43010 = cJ2_isEmpty := rfl
theorem E43010_0 (d : Nat) (a0 : Nat) (h : AH) : G d 43010 0 [.ref a0] [] h = zpI (jf (jc h (.ref a0)) [43] 2) (fun x1 => if x1 = 0 then (some (.inl (some (.int 1)), h)) else (some (.inl (some (.int 0)), h))) () := by
  refine (g_aload_n c43010 dJ2_isEmpty_0 rfl).trans ?_
  refine (g_getI c43010 dJ2_isEmpty_1 rfl rfl).trans (rI_cg fun x1 => ?_)
  refine (g_if_ne (tgt := 11) c43010 dJ2_isEmpty_4 rfl).trans (if_cg ?_ ?_)
  · skip
    refine (g_iconst (x := 1) c43010 dJ2_isEmpty_7 rfl).trans ?_
    refine (g_goto (tgt := 12) c43010 dJ2_isEmpty_8 rfl).trans ?_
    exact g_zreturn1 c43010 dJ2_isEmpty_12 rfl
  · skip
    refine (g_iconst (x := 0) c43010 dJ2_isEmpty_11 rfl).trans ?_
    exact g_zreturn0 c43010 dJ2_isEmpty_12 rfl
theorem X43010 {d : Nat} {a0 : Nat} (h : AH) (hr : jrecv 43010 [.ref a0] h = true) : M (d + 1) 43010 [.ref a0] h = G d 43010 0 [.ref a0] [] h := M_eq rfl hr rfl
/-! java/util/ArrayList.iterator()Ljava/util/Iterator; -/
abbrev cJ2_iterator : ByteArray := prog_66_method_55_code
def dkwJ2_iterator_0 : List UInt8 := [187, 1, 11, 89, 42, 183, 1, 13, 176]
abbrev dktJ2_iterator_0 : List UInt8 := dkwJ2_iterator_0 ++ []
theorem dksJ2_iterator_0 : cJ2_iterator.data.toList.drop 0 = dktJ2_iterator_0 := by decide +kernel
theorem dJ2_iterator_0 : decode cJ2_iterator 0 = .ok (.new 267, 3) := dk_187 1 11 (dk_at dksJ2_iterator_0 0 rfl rfl)
theorem dJ2_iterator_3 : decode cJ2_iterator 3 = .ok (.dup, 1) := dk_89 (dk_at dksJ2_iterator_0 3 rfl rfl)
theorem dJ2_iterator_4 : decode cJ2_iterator 4 = .ok (.aload_n 0, 1) := dk_42 (dk_at dksJ2_iterator_0 4 rfl rfl)
theorem dJ2_iterator_5 : decode cJ2_iterator 5 = .ok (.invokespecial 269, 3) := dk_183 1 13 (dk_at dksJ2_iterator_0 5 rfl rfl)
theorem dJ2_iterator_8 : decode cJ2_iterator 8 = .ok (.areturn, 1) := dk_176 (dk_at dksJ2_iterator_0 8 rfl rfl)
theorem c43011 : jtCode 43011 = cJ2_iterator := rfl
theorem E43011_0 (d : Nat) (a0 : Nat) (h : AH) : G d 43011 0 [.ref a0] [] h = zqH (jpush h (67, 4, jL [.int 0, .int 0, .int 0, .null])) (fun h1 => zcV (M d 67900 [.ref h.1, .ref a0] h1) (fun h3 => some (.inl (some (.ref h.1)), h3)) ()) () := by
  refine (g_new (l := [.int 0, .int 0, .int 0, .null]) c43011 dJ2_iterator_0 rfl rfl).trans ?_
  refine nmZ ?_
  generalize jpush h (67, 4, jL [.int 0, .int 0, .int 0, .null]) = h1
  refine (g_dup_r c43011 dJ2_iterator_3).trans ?_
  refine (g_aload_n c43011 dJ2_iterator_4 rfl).trans ?_
  refine (g_special (as := [.ref h.1, .ref a0]) (rest := [.ref h.1]) c43011 dJ2_iterator_5 rfl rfl rfl rfl rfl).trans ((jback_V (κx := cX) (fun e h => jthrow_out rfl)).trans (cV_cg fun h3 => ?_))
  exact g_areturn_r c43011 dJ2_iterator_8 rfl
theorem X43011 {d : Nat} {a0 : Nat} (h : AH) (hr : jrecv 43011 [.ref a0] h = true) : M (d + 1) 43011 [.ref a0] h = G d 43011 0 [.ref a0] [] h := M_eq rfl hr rfl
/-! java/util/ArrayList.remove(I)Ljava/lang/Object; -/
abbrev cJ2_remove : ByteArray := prog_66_method_29_code
def dkwJ2_remove_1 : List UInt8 := [45, 176]
abbrev dktJ2_remove_1 : List UInt8 := dkwJ2_remove_1 ++ []
def dkwJ2_remove_0 : List UInt8 := [27, 42, 180, 0, 48, 184, 0, 118, 87, 42, 180, 0, 9, 77, 44, 27, 50, 78, 42, 44, 27, 182, 0, 144]
abbrev dktJ2_remove_0 : List UInt8 := dkwJ2_remove_0 ++ dktJ2_remove_1
theorem dksJ2_remove_0 : cJ2_remove.data.toList.drop 0 = dktJ2_remove_0 := by decide +kernel
theorem dksJ2_remove_1 : cJ2_remove.data.toList.drop 24 = dktJ2_remove_1 := dk_seg dksJ2_remove_0 24 rfl rfl
theorem dJ2_remove_0 : decode cJ2_remove 0 = .ok (.iload_n 1, 1) := dk_27 (dk_at dksJ2_remove_0 0 rfl rfl)
theorem dJ2_remove_1 : decode cJ2_remove 1 = .ok (.aload_n 0, 1) := dk_42 (dk_at dksJ2_remove_0 1 rfl rfl)
theorem dJ2_remove_2 : decode cJ2_remove 2 = .ok (.getfield 48, 3) := dk_180 0 48 (dk_at dksJ2_remove_0 2 rfl rfl)
theorem dJ2_remove_5 : decode cJ2_remove 5 = .ok (.invokestatic 118, 3) := dk_184 0 118 (dk_at dksJ2_remove_0 5 rfl rfl)
theorem dJ2_remove_8 : decode cJ2_remove 8 = .ok (.pop, 1) := dk_87 (dk_at dksJ2_remove_0 8 rfl rfl)
theorem dJ2_remove_9 : decode cJ2_remove 9 = .ok (.aload_n 0, 1) := dk_42 (dk_at dksJ2_remove_0 9 rfl rfl)
theorem dJ2_remove_10 : decode cJ2_remove 10 = .ok (.getfield 9, 3) := dk_180 0 9 (dk_at dksJ2_remove_0 10 rfl rfl)
theorem dJ2_remove_13 : decode cJ2_remove 13 = .ok (.astore_n 2, 1) := dk_77 (dk_at dksJ2_remove_0 13 rfl rfl)
theorem dJ2_remove_14 : decode cJ2_remove 14 = .ok (.aload_n 2, 1) := dk_44 (dk_at dksJ2_remove_0 14 rfl rfl)
theorem dJ2_remove_15 : decode cJ2_remove 15 = .ok (.iload_n 1, 1) := dk_27 (dk_at dksJ2_remove_0 15 rfl rfl)
theorem dJ2_remove_16 : decode cJ2_remove 16 = .ok (.aaload, 1) := dk_50 (dk_at dksJ2_remove_0 16 rfl rfl)
theorem dJ2_remove_17 : decode cJ2_remove 17 = .ok (.astore_n 3, 1) := dk_78 (dk_at dksJ2_remove_0 17 rfl rfl)
theorem dJ2_remove_18 : decode cJ2_remove 18 = .ok (.aload_n 0, 1) := dk_42 (dk_at dksJ2_remove_0 18 rfl rfl)
theorem dJ2_remove_19 : decode cJ2_remove 19 = .ok (.aload_n 2, 1) := dk_44 (dk_at dksJ2_remove_0 19 rfl rfl)
theorem dJ2_remove_20 : decode cJ2_remove 20 = .ok (.iload_n 1, 1) := dk_27 (dk_at dksJ2_remove_0 20 rfl rfl)
theorem dJ2_remove_21 : decode cJ2_remove 21 = .ok (.invokevirtual 144, 3) := dk_182 0 144 (dk_at dksJ2_remove_0 21 rfl rfl)
theorem dJ2_remove_24 : decode cJ2_remove 24 = .ok (.aload_n 3, 1) := dk_45 (dk_at dksJ2_remove_1 0 rfl rfl)
theorem dJ2_remove_25 : decode cJ2_remove 25 = .ok (.areturn, 1) := dk_176 (dk_at dksJ2_remove_1 1 rfl rfl)
theorem c43015 : jtCode 43015 = cJ2_remove := rfl
theorem E43015_0 (d : Nat) (a0 : Nat) (i1 : Int32) (h : AH) : G d 43015 0 [.ref a0, .int i1, jno, jno] [] h = zpI (jf (jc h (.ref a0)) [43] 2) (fun x1 => zcI (M d 58000 [.int i1, .int x1] h) (fun x2 h3 => zpR (jf (jc h3 (.ref a0)) [43] 1) (fun r4 => zkR r4 (zkR r4 (zqG h3 r4 [1040, 1041, 1050, 1060, 1071] i1 (fun w5 => zpR w5 (fun r6 => zkR r6 (zkR r4 (zcV (M d 43004 [.ref a0, r4, .int i1] h3) (fun h8 => zkR r6 (ckR r6 (some (.inl (some r6), h8))) ()) ()) ()) ()) ()) ()) ()) ()) ()) ()) () := by
  refine (g_iload_n c43015 dJ2_remove_0 rfl).trans ?_
  refine (g_aload_n c43015 dJ2_remove_1 rfl).trans ?_
  refine (g_getI c43015 dJ2_remove_2 rfl rfl).trans (rI_cg fun x1 => ?_)
  refine (g_static (as := [.int i1, .int x1]) (rest := []) c43015 dJ2_remove_5 rfl rfl rfl rfl rfl).trans ((jback_I (κx := cX) (fun e h => jthrow_out rfl)).trans (cI_cg fun x2 h3 => ?_))
  refine (g_pop_i c43015 dJ2_remove_8).trans ?_
  refine (g_aload_n c43015 dJ2_remove_9 rfl).trans ?_
  refine (g_getR c43015 dJ2_remove_10 rfl).trans (rR_cg fun r4 => ?_)
  refine (g_astore_nV (L' := [.ref a0, .int i1, r4, jno]) c43015 dJ2_remove_13 rfl rfl).trans (ckR_cg ?_)
  refine (g_aload_nV c43015 dJ2_remove_14 rfl).trans (ckR_cg ?_)
  refine (g_iload_n c43015 dJ2_remove_15 rfl).trans ?_
  refine (g_aaload c43015 dJ2_remove_16).trans (aG_cg fun w5 => rR_cg fun r6 => ?_)
  refine (g_astore_nV (L' := [.ref a0, .int i1, r4, r6]) c43015 dJ2_remove_17 rfl rfl).trans (ckR_cg ?_)
  refine (g_aload_n c43015 dJ2_remove_18 rfl).trans ?_
  refine (g_aload_nV c43015 dJ2_remove_19 rfl).trans (ckR_cg ?_)
  refine (g_iload_n c43015 dJ2_remove_20 rfl).trans ?_
  refine (g_virtual (as := [.ref a0, r4, .int i1]) (rest := []) c43015 dJ2_remove_21 rfl rfl rfl rfl rfl).trans ((jback_V (κx := cX) (fun e h => jthrow_out rfl)).trans (cV_cg fun h8 => ?_))
  refine (g_aload_nV c43015 dJ2_remove_24 rfl).trans (ckR_cg ?_)
  exact g_areturn c43015 dJ2_remove_25 rfl
theorem X43015 {d : Nat} {a0 : Nat} {i1 : Int32} (h : AH) (hr : jrecv 43015 [.ref a0, .int i1] h = true) : M (d + 1) 43015 [.ref a0, .int i1] h = G d 43015 0 [.ref a0, .int i1, jno, jno] [] h := M_eq rfl hr rfl
/-! java/util/ArrayList.set(ILjava/lang/Object;)Ljava/lang/Object; -/
abbrev cJ2_set : ByteArray := prog_66_method_23_code
def dkwJ2_set_0 : List UInt8 := [27, 42, 180, 0, 48, 184, 0, 118, 87, 42, 27, 182, 0, 123, 78, 42, 180, 0, 9, 27, 44, 83, 45, 176]
abbrev dktJ2_set_0 : List UInt8 := dkwJ2_set_0 ++ []
theorem dksJ2_set_0 : cJ2_set.data.toList.drop 0 = dktJ2_set_0 := by decide +kernel
theorem dJ2_set_0 : decode cJ2_set 0 = .ok (.iload_n 1, 1) := dk_27 (dk_at dksJ2_set_0 0 rfl rfl)
theorem dJ2_set_1 : decode cJ2_set 1 = .ok (.aload_n 0, 1) := dk_42 (dk_at dksJ2_set_0 1 rfl rfl)
theorem dJ2_set_2 : decode cJ2_set 2 = .ok (.getfield 48, 3) := dk_180 0 48 (dk_at dksJ2_set_0 2 rfl rfl)
theorem dJ2_set_5 : decode cJ2_set 5 = .ok (.invokestatic 118, 3) := dk_184 0 118 (dk_at dksJ2_set_0 5 rfl rfl)
theorem dJ2_set_8 : decode cJ2_set 8 = .ok (.pop, 1) := dk_87 (dk_at dksJ2_set_0 8 rfl rfl)
theorem dJ2_set_9 : decode cJ2_set 9 = .ok (.aload_n 0, 1) := dk_42 (dk_at dksJ2_set_0 9 rfl rfl)
theorem dJ2_set_10 : decode cJ2_set 10 = .ok (.iload_n 1, 1) := dk_27 (dk_at dksJ2_set_0 10 rfl rfl)
theorem dJ2_set_11 : decode cJ2_set 11 = .ok (.invokevirtual 123, 3) := dk_182 0 123 (dk_at dksJ2_set_0 11 rfl rfl)
theorem dJ2_set_14 : decode cJ2_set 14 = .ok (.astore_n 3, 1) := dk_78 (dk_at dksJ2_set_0 14 rfl rfl)
theorem dJ2_set_15 : decode cJ2_set 15 = .ok (.aload_n 0, 1) := dk_42 (dk_at dksJ2_set_0 15 rfl rfl)
theorem dJ2_set_16 : decode cJ2_set 16 = .ok (.getfield 9, 3) := dk_180 0 9 (dk_at dksJ2_set_0 16 rfl rfl)
theorem dJ2_set_19 : decode cJ2_set 19 = .ok (.iload_n 1, 1) := dk_27 (dk_at dksJ2_set_0 19 rfl rfl)
theorem dJ2_set_20 : decode cJ2_set 20 = .ok (.aload_n 2, 1) := dk_44 (dk_at dksJ2_set_0 20 rfl rfl)
theorem dJ2_set_21 : decode cJ2_set 21 = .ok (.aastore, 1) := dk_83 (dk_at dksJ2_set_0 21 rfl rfl)
theorem dJ2_set_22 : decode cJ2_set 22 = .ok (.aload_n 3, 1) := dk_45 (dk_at dksJ2_set_0 22 rfl rfl)
theorem dJ2_set_23 : decode cJ2_set 23 = .ok (.areturn, 1) := dk_176 (dk_at dksJ2_set_0 23 rfl rfl)
theorem c43016 : jtCode 43016 = cJ2_set := rfl
theorem E43016_0 (d : Nat) (a0 : Nat) (i1 : Int32) (v2 : Value) (h : AH) : G d 43016 0 [.ref a0, .int i1, v2, jno] [] h = zpI (jf (jc h (.ref a0)) [43] 2) (fun x1 => zcI (M d 58000 [.int i1, .int x1] h) (fun x2 h3 => zcR (M d 43003 [.ref a0, .int i1] h3) (fun r4 h5 => zkR r4 (zpR (jf (jc h5 (.ref a0)) [43] 1) (fun r6 => zkR v2 (zqA h5 r6 v2 i1 (fun h7 => zkR r4 (ckR r4 (some (.inl (some r4), h7))) ()) ()) ()) ()) ()) ()) ()) () := by
  refine (g_iload_n c43016 dJ2_set_0 rfl).trans ?_
  refine (g_aload_n c43016 dJ2_set_1 rfl).trans ?_
  refine (g_getI c43016 dJ2_set_2 rfl rfl).trans (rI_cg fun x1 => ?_)
  refine (g_static (as := [.int i1, .int x1]) (rest := []) c43016 dJ2_set_5 rfl rfl rfl rfl rfl).trans ((jback_I (κx := cX) (fun e h => jthrow_out rfl)).trans (cI_cg fun x2 h3 => ?_))
  refine (g_pop_i c43016 dJ2_set_8).trans ?_
  refine (g_aload_n c43016 dJ2_set_9 rfl).trans ?_
  refine (g_iload_n c43016 dJ2_set_10 rfl).trans ?_
  refine (g_virtual (as := [.ref a0, .int i1]) (rest := []) c43016 dJ2_set_11 rfl rfl rfl rfl rfl).trans ((jback_R (κx := cX) (fun e h => jthrow_out rfl)).trans (cR_cg fun r4 h5 => ?_))
  refine (g_astore_nV (L' := [.ref a0, .int i1, v2, r4]) c43016 dJ2_set_14 rfl rfl).trans (ckR_cg ?_)
  refine (g_aload_n c43016 dJ2_set_15 rfl).trans ?_
  refine (g_getR c43016 dJ2_set_16 rfl).trans (rR_cg fun r6 => ?_)
  refine (g_iload_n c43016 dJ2_set_19 rfl).trans ?_
  refine (g_aload_nV c43016 dJ2_set_20 rfl).trans (ckR_cg ?_)
  refine (g_aastore c43016 dJ2_set_21).trans (aSr_cg fun h7 => ?_)
  refine (g_aload_nV c43016 dJ2_set_22 rfl).trans (ckR_cg ?_)
  exact g_areturn c43016 dJ2_set_23 rfl
theorem X43016 {d : Nat} {a0 : Nat} {i1 : Int32} {v2 : Value} (h : AH) (hv2 : isR v2 = true) (hr : jrecv 43016 [.ref a0, .int i1, v2] h = true) : M (d + 1) 43016 [.ref a0, .int i1, v2] h = G d 43016 0 [.ref a0, .int i1, v2, jno] [] h := M_eq rfl hr (by simp only [jent, jargL_R hv2, jargL]; rfl)
/-! java/util/ArrayList.size()I -/
abbrev cJ2_size : ByteArray := prog_66_method_8_code
theorem dJ2_size_0 : decode cJ2_size 0 = .ok (.aload_n 0, 1) := by decide +kernel
theorem dJ2_size_1 : decode cJ2_size 1 = .ok (.getfield 48, 3) := by decide +kernel
theorem dJ2_size_4 : decode cJ2_size 4 = .ok (.ireturn, 1) := by decide +kernel
theorem c43017 : jtCode 43017 = cJ2_size := rfl
theorem E43017_0 (d : Nat) (a0 : Nat) (h : AH) : G d 43017 0 [.ref a0] [] h = zpI (jf (jc h (.ref a0)) [43] 2) (fun x1 => some (.inl (some (.int x1)), h)) () := by
  refine (g_aload_n c43017 dJ2_size_0 rfl).trans ?_
  refine (g_getI c43017 dJ2_size_1 rfl rfl).trans (rI_cg fun x1 => ?_)
  exact g_ireturn c43017 dJ2_size_4 rfl
theorem X43017 {d : Nat} {a0 : Nat} (h : AH) (hr : jrecv 43017 [.ref a0] h = true) : M (d + 1) 43017 [.ref a0] h = G d 43017 0 [.ref a0] [] h := M_eq rfl hr rfl
/-! java/util/ArrayList.<init>()V -/
abbrev cJ2_init : ByteArray := prog_66_method_2_code
def dkwJ2_init_0 : List UInt8 := [42, 183, 0, 1, 42, 178, 0, 39, 181, 0, 9, 177]
abbrev dktJ2_init_0 : List UInt8 := dkwJ2_init_0 ++ []
theorem dksJ2_init_0 : cJ2_init.data.toList.drop 0 = dktJ2_init_0 := by decide +kernel
theorem dJ2_init_0 : decode cJ2_init 0 = .ok (.aload_n 0, 1) := dk_42 (dk_at dksJ2_init_0 0 rfl rfl)
theorem dJ2_init_1 : decode cJ2_init 1 = .ok (.invokespecial 1, 3) := dk_183 0 1 (dk_at dksJ2_init_0 1 rfl rfl)
theorem dJ2_init_4 : decode cJ2_init 4 = .ok (.aload_n 0, 1) := dk_42 (dk_at dksJ2_init_0 4 rfl rfl)
theorem dJ2_init_5 : decode cJ2_init 5 = .ok (.getstatic 39, 3) := dk_178 0 39 (dk_at dksJ2_init_0 5 rfl rfl)
theorem dJ2_init_8 : decode cJ2_init 8 = .ok (.putfield 9, 3) := dk_181 0 9 (dk_at dksJ2_init_0 8 rfl rfl)
theorem dJ2_init_11 : decode cJ2_init 11 = .ok (.return_, 1) := dk_177 (dk_at dksJ2_init_0 11 rfl rfl)
theorem c43900 : jtCode 43900 = cJ2_init := rfl
theorem E43900_0 (d : Nat) (a0 : Nat) (h : AH) : G d 43900 0 [.ref a0] [] h = zcV (M d 42900 [.ref a0] h) (fun h2 => zpR (je h2 0) (fun r3 => zqF h2 (.ref a0) [43] 1 2 r3 (fun h4 => some (.inl none, h4)) ()) ()) () := by
  refine (g_aload_n c43900 dJ2_init_0 rfl).trans ?_
  refine (g_special (as := [.ref a0]) (rest := []) c43900 dJ2_init_1 rfl rfl rfl rfl rfl).trans ((jback_V (κx := cX) (fun e h => jthrow_out rfl)).trans (cV_cg fun h2 => ?_))
  refine (g_aload_n c43900 dJ2_init_4 rfl).trans ?_
  refine (g_getsR (k := 0) c43900 dJ2_init_5 rfl rfl).trans (rR_cg fun r3 => ?_)
  refine (g_put c43900 dJ2_init_8 rfl).trans (pF_cg fun h4 => ?_)
  exact g_return c43900 dJ2_init_11 rfl
theorem X43900 {d : Nat} {a0 : Nat} (h : AH) (hr : jrecv 43900 [.ref a0] h = true) : M (d + 1) 43900 [.ref a0] h = G d 43900 0 [.ref a0] [] h := M_eq rfl hr rfl
/-! java/util/ArrayList.<init>(I)V -/
abbrev cJ2_init_2 : ByteArray := prog_66_method_1_code
def dkwJ2_init_2_2 : List UInt8 := [182, 0, 25, 27, 182, 0, 29, 182, 0, 32, 183, 0, 36, 191, 177]
abbrev dktJ2_init_2_2 : List UInt8 := dkwJ2_init_2_2 ++ []
def dkwJ2_init_2_1 : List UInt8 := [178, 0, 15, 181, 0, 9, 167, 0, 30, 187, 0, 18, 89, 187, 0, 20, 89, 183, 0, 22, 18, 23]
abbrev dktJ2_init_2_1 : List UInt8 := dkwJ2_init_2_1 ++ dktJ2_init_2_2
def dkwJ2_init_2_0 : List UInt8 := [42, 183, 0, 1, 27, 158, 0, 14, 42, 27, 189, 0, 7, 181, 0, 9, 167, 0, 44, 27, 154, 0, 13, 42]
abbrev dktJ2_init_2_0 : List UInt8 := dkwJ2_init_2_0 ++ dktJ2_init_2_1
theorem dksJ2_init_2_0 : cJ2_init_2.data.toList.drop 0 = dktJ2_init_2_0 := by decide +kernel
theorem dksJ2_init_2_1 : cJ2_init_2.data.toList.drop 24 = dktJ2_init_2_1 := dk_seg dksJ2_init_2_0 24 rfl rfl
theorem dksJ2_init_2_2 : cJ2_init_2.data.toList.drop 46 = dktJ2_init_2_2 := dk_seg dksJ2_init_2_1 22 rfl rfl
theorem dJ2_init_2_0 : decode cJ2_init_2 0 = .ok (.aload_n 0, 1) := dk_42 (dk_at dksJ2_init_2_0 0 rfl rfl)
theorem dJ2_init_2_1 : decode cJ2_init_2 1 = .ok (.invokespecial 1, 3) := dk_183 0 1 (dk_at dksJ2_init_2_0 1 rfl rfl)
theorem dJ2_init_2_4 : decode cJ2_init_2 4 = .ok (.iload_n 1, 1) := dk_27 (dk_at dksJ2_init_2_0 4 rfl rfl)
theorem dJ2_init_2_5 : decode cJ2_init_2 5 = .ok (.ifCond .le 14, 3) := dk_158 0 14 (dk_at dksJ2_init_2_0 5 rfl rfl)
theorem dJ2_init_2_8 : decode cJ2_init_2 8 = .ok (.aload_n 0, 1) := dk_42 (dk_at dksJ2_init_2_0 8 rfl rfl)
theorem dJ2_init_2_9 : decode cJ2_init_2 9 = .ok (.iload_n 1, 1) := dk_27 (dk_at dksJ2_init_2_0 9 rfl rfl)
theorem dJ2_init_2_10 : decode cJ2_init_2 10 = .ok (.anewarray 7, 3) := dk_189 0 7 (dk_at dksJ2_init_2_0 10 rfl rfl)
theorem dJ2_init_2_13 : decode cJ2_init_2 13 = .ok (.putfield 9, 3) := dk_181 0 9 (dk_at dksJ2_init_2_0 13 rfl rfl)
theorem dJ2_init_2_16 : decode cJ2_init_2 16 = .ok (.goto 44, 3) := dk_167 0 44 (dk_at dksJ2_init_2_0 16 rfl rfl)
theorem dJ2_init_2_19 : decode cJ2_init_2 19 = .ok (.iload_n 1, 1) := dk_27 (dk_at dksJ2_init_2_0 19 rfl rfl)
theorem dJ2_init_2_20 : decode cJ2_init_2 20 = .ok (.ifCond .ne 13, 3) := dk_154 0 13 (dk_at dksJ2_init_2_0 20 rfl rfl)
theorem dJ2_init_2_23 : decode cJ2_init_2 23 = .ok (.aload_n 0, 1) := dk_42 (dk_at dksJ2_init_2_0 23 rfl rfl)
theorem dJ2_init_2_24 : decode cJ2_init_2 24 = .ok (.getstatic 15, 3) := dk_178 0 15 (dk_at dksJ2_init_2_1 0 rfl rfl)
theorem dJ2_init_2_27 : decode cJ2_init_2 27 = .ok (.putfield 9, 3) := dk_181 0 9 (dk_at dksJ2_init_2_1 3 rfl rfl)
theorem dJ2_init_2_30 : decode cJ2_init_2 30 = .ok (.goto 30, 3) := dk_167 0 30 (dk_at dksJ2_init_2_1 6 rfl rfl)
theorem dJ2_init_2_33 : decode cJ2_init_2 33 = .ok (.new 18, 3) := dk_187 0 18 (dk_at dksJ2_init_2_1 9 rfl rfl)
theorem dJ2_init_2_36 : decode cJ2_init_2 36 = .ok (.dup, 1) := dk_89 (dk_at dksJ2_init_2_1 12 rfl rfl)
theorem dJ2_init_2_37 : decode cJ2_init_2 37 = .ok (.new 20, 3) := dk_187 0 20 (dk_at dksJ2_init_2_1 13 rfl rfl)
theorem dJ2_init_2_40 : decode cJ2_init_2 40 = .ok (.dup, 1) := dk_89 (dk_at dksJ2_init_2_1 16 rfl rfl)
theorem dJ2_init_2_41 : decode cJ2_init_2 41 = .ok (.invokespecial 22, 3) := dk_183 0 22 (dk_at dksJ2_init_2_1 17 rfl rfl)
theorem dJ2_init_2_44 : decode cJ2_init_2 44 = .ok (.ldc 23, 2) := dk_18 23 (dk_at dksJ2_init_2_1 20 rfl rfl)
theorem dJ2_init_2_46 : decode cJ2_init_2 46 = .ok (.invokevirtual 25, 3) := dk_182 0 25 (dk_at dksJ2_init_2_2 0 rfl rfl)
theorem dJ2_init_2_49 : decode cJ2_init_2 49 = .ok (.iload_n 1, 1) := dk_27 (dk_at dksJ2_init_2_2 3 rfl rfl)
theorem dJ2_init_2_50 : decode cJ2_init_2 50 = .ok (.invokevirtual 29, 3) := dk_182 0 29 (dk_at dksJ2_init_2_2 4 rfl rfl)
theorem dJ2_init_2_53 : decode cJ2_init_2 53 = .ok (.invokevirtual 32, 3) := dk_182 0 32 (dk_at dksJ2_init_2_2 7 rfl rfl)
theorem dJ2_init_2_56 : decode cJ2_init_2 56 = .ok (.invokespecial 36, 3) := dk_183 0 36 (dk_at dksJ2_init_2_2 10 rfl rfl)
theorem dJ2_init_2_59 : decode cJ2_init_2 59 = .ok (.athrow, 1) := dk_191 (dk_at dksJ2_init_2_2 13 rfl rfl)
theorem dJ2_init_2_60 : decode cJ2_init_2 60 = .ok (.return_, 1) := dk_177 (dk_at dksJ2_init_2_2 14 rfl rfl)
theorem c43901 : jtCode 43901 = cJ2_init_2 := rfl
theorem E43901_0 (d : Nat) (a0 : Nat) (i1 : Int32) (h : AH) : G d 43901 0 [.ref a0, .int i1] [] h = zcV (M d 42900 [.ref a0] h) (fun h2 => if i1 ≤ 0 then (if i1 = 0 then (zpR (je h2 1) (fun r3 => zqF h2 (.ref a0) [43] 1 2 r3 (fun h4 => some (.inl none, h4)) ()) ()) else (G d 43901 33 [.ref a0, .int i1] [] h2)) else (zqN i1 (zqH (jpush h2 (1040, i1.toNatClampNeg, fun _ => .null)) (fun h5 => zqF h5 (.ref a0) [43] 1 2 (.ref h2.1) (fun h6 => some (.inl none, h6)) ()) ()) ())) () := by
  refine (g_aload_n c43901 dJ2_init_2_0 rfl).trans ?_
  refine (g_special (as := [.ref a0]) (rest := []) c43901 dJ2_init_2_1 rfl rfl rfl rfl rfl).trans ((jback_V (κx := cX) (fun e h => jthrow_out rfl)).trans (cV_cg fun h2 => ?_))
  refine (g_iload_n c43901 dJ2_init_2_4 rfl).trans ?_
  refine (g_if_le (tgt := 19) c43901 dJ2_init_2_5 rfl).trans (if_cg ?_ ?_)
  · skip
    refine (g_iload_n c43901 dJ2_init_2_19 rfl).trans ?_
    refine (g_if_ne (tgt := 33) c43901 dJ2_init_2_20 rfl).trans (if_cg ?_ ?_)
    · skip
      refine (g_aload_n c43901 dJ2_init_2_23 rfl).trans ?_
      refine (g_getsR (k := 1) c43901 dJ2_init_2_24 rfl rfl).trans (rR_cg fun r3 => ?_)
      refine (g_put c43901 dJ2_init_2_27 rfl).trans (pF_cg fun h4 => ?_)
      refine (g_goto (tgt := 60) c43901 dJ2_init_2_30 rfl).trans ?_
      exact g_return c43901 dJ2_init_2_60 rfl
    · skip
      rfl
  · skip
    refine (g_aload_n c43901 dJ2_init_2_8 rfl).trans ?_
    refine (g_iload_n c43901 dJ2_init_2_9 rfl).trans ?_
    refine (g_newR (t := 1040) c43901 dJ2_init_2_10 rfl rfl).trans (nA_cg ?_)
    refine nmZ ?_
    generalize jpush h2 (1040, i1.toNatClampNeg, fun _ => .null) = h5
    refine (g_put c43901 dJ2_init_2_13 rfl).trans (pF_cg fun h6 => ?_)
    refine (g_goto (tgt := 60) c43901 dJ2_init_2_16 rfl).trans ?_
    exact g_return c43901 dJ2_init_2_60 rfl
theorem X43901 {d : Nat} {a0 : Nat} {i1 : Int32} (h : AH) (hr : jrecv 43901 [.ref a0, .int i1] h = true) : M (d + 1) 43901 [.ref a0, .int i1] h = G d 43901 0 [.ref a0, .int i1] [] h := M_eq rfl hr rfl
/-! java/util/BitSet.cardinality()I -/
abbrev cJ3_cardinality : ByteArray := prog_71_method_35_code
def dkwJ3_cardinality_1 : List UInt8 := [132, 2, 1, 167, 255, 233, 27, 172]
abbrev dktJ3_cardinality_1 : List UInt8 := dkwJ3_cardinality_1 ++ []
def dkwJ3_cardinality_0 : List UInt8 := [3, 60, 3, 61, 28, 42, 180, 0, 7, 162, 0, 21, 27, 42, 180, 0, 11, 28, 47, 184, 0, 196, 96, 60]
abbrev dktJ3_cardinality_0 : List UInt8 := dkwJ3_cardinality_0 ++ dktJ3_cardinality_1
theorem dksJ3_cardinality_0 : cJ3_cardinality.data.toList.drop 0 = dktJ3_cardinality_0 := by decide +kernel
theorem dksJ3_cardinality_1 : cJ3_cardinality.data.toList.drop 24 = dktJ3_cardinality_1 := dk_seg dksJ3_cardinality_0 24 rfl rfl
theorem dJ3_cardinality_0 : decode cJ3_cardinality 0 = .ok (.iconst 0, 1) := dk_3 (dk_at dksJ3_cardinality_0 0 rfl rfl)
theorem dJ3_cardinality_1 : decode cJ3_cardinality 1 = .ok (.istore_n 1, 1) := dk_60 (dk_at dksJ3_cardinality_0 1 rfl rfl)
theorem dJ3_cardinality_2 : decode cJ3_cardinality 2 = .ok (.iconst 0, 1) := dk_3 (dk_at dksJ3_cardinality_0 2 rfl rfl)
theorem dJ3_cardinality_3 : decode cJ3_cardinality 3 = .ok (.istore_n 2, 1) := dk_61 (dk_at dksJ3_cardinality_0 3 rfl rfl)
theorem dJ3_cardinality_4 : decode cJ3_cardinality 4 = .ok (.iload_n 2, 1) := dk_28 (dk_at dksJ3_cardinality_0 4 rfl rfl)
theorem dJ3_cardinality_5 : decode cJ3_cardinality 5 = .ok (.aload_n 0, 1) := dk_42 (dk_at dksJ3_cardinality_0 5 rfl rfl)
theorem dJ3_cardinality_6 : decode cJ3_cardinality 6 = .ok (.getfield 7, 3) := dk_180 0 7 (dk_at dksJ3_cardinality_0 6 rfl rfl)
theorem dJ3_cardinality_9 : decode cJ3_cardinality 9 = .ok (.if_icmp .ge 21, 3) := dk_162 0 21 (dk_at dksJ3_cardinality_0 9 rfl rfl)
theorem dJ3_cardinality_12 : decode cJ3_cardinality 12 = .ok (.iload_n 1, 1) := dk_27 (dk_at dksJ3_cardinality_0 12 rfl rfl)
theorem dJ3_cardinality_13 : decode cJ3_cardinality 13 = .ok (.aload_n 0, 1) := dk_42 (dk_at dksJ3_cardinality_0 13 rfl rfl)
theorem dJ3_cardinality_14 : decode cJ3_cardinality 14 = .ok (.getfield 11, 3) := dk_180 0 11 (dk_at dksJ3_cardinality_0 14 rfl rfl)
theorem dJ3_cardinality_17 : decode cJ3_cardinality 17 = .ok (.iload_n 2, 1) := dk_28 (dk_at dksJ3_cardinality_0 17 rfl rfl)
theorem dJ3_cardinality_18 : decode cJ3_cardinality 18 = .ok (.laload, 1) := dk_47 (dk_at dksJ3_cardinality_0 18 rfl rfl)
theorem dJ3_cardinality_19 : decode cJ3_cardinality 19 = .ok (.invokestatic 196, 3) := dk_184 0 196 (dk_at dksJ3_cardinality_0 19 rfl rfl)
theorem dJ3_cardinality_22 : decode cJ3_cardinality 22 = .ok (.iadd, 1) := dk_96 (dk_at dksJ3_cardinality_0 22 rfl rfl)
theorem dJ3_cardinality_23 : decode cJ3_cardinality 23 = .ok (.istore_n 1, 1) := dk_60 (dk_at dksJ3_cardinality_0 23 rfl rfl)
theorem dJ3_cardinality_24 : decode cJ3_cardinality 24 = .ok (.iinc 2 1, 3) := dk_132 2 1 (dk_at dksJ3_cardinality_1 0 rfl rfl)
theorem dJ3_cardinality_27 : decode cJ3_cardinality 27 = .ok (.goto (-23), 3) := dk_167 255 233 (dk_at dksJ3_cardinality_1 3 rfl rfl)
theorem dJ3_cardinality_30 : decode cJ3_cardinality 30 = .ok (.iload_n 1, 1) := dk_27 (dk_at dksJ3_cardinality_1 6 rfl rfl)
theorem dJ3_cardinality_31 : decode cJ3_cardinality 31 = .ok (.ireturn, 1) := dk_172 (dk_at dksJ3_cardinality_1 7 rfl rfl)
theorem c44000 : jtCode 44000 = cJ3_cardinality := rfl
theorem E44000_0 (d : Nat) (a0 : Nat) (h : AH) : G d 44000 0 [.ref a0, jno, jno] [] h = G d 44000 4 [.ref a0, .int 0, .int 0] [] h := by
  refine (g_iconst (x := 0) c44000 dJ3_cardinality_0 rfl).trans ?_
  refine (g_istore_n (L' := [.ref a0, .int 0, jno]) c44000 dJ3_cardinality_1 rfl rfl).trans ?_
  refine (g_iconst (x := 0) c44000 dJ3_cardinality_2 rfl).trans ?_
  refine (g_istore_n (L' := [.ref a0, .int 0, .int 0]) c44000 dJ3_cardinality_3 rfl rfl).trans ?_
  rfl
theorem E44000_4 (d : Nat) (a0 : Nat) (i1 : Int32) (i2 : Int32) (h : AH) : G d 44000 4 [.ref a0, .int i1, .int i2] [] h = zpI (jf (jc h (.ref a0)) [44] 1) (fun x1 => if x1 ≤ i2 then (some (.inl (some (.int i1)), h)) else (zpR (jf (jc h (.ref a0)) [44] 0) (fun r2 => zqG h r2 [1030] i2 (fun w3 => zpJ w3 (fun x4 => zcI (M d 61000 [.long x4] h) (fun x5 h6 => G d 44000 4 [.ref a0, .int (i1 + x5), .int (i2 + 1)] [] h6) ()) ()) ()) ())) () := by
  refine (g_iload_n c44000 dJ3_cardinality_4 rfl).trans ?_
  refine (g_aload_n c44000 dJ3_cardinality_5 rfl).trans ?_
  refine (g_getI c44000 dJ3_cardinality_6 rfl rfl).trans (rI_cg fun x1 => ?_)
  refine (g_icmp_ge (tgt := 30) c44000 dJ3_cardinality_9 rfl).trans (if_cg ?_ ?_)
  · skip
    refine (g_iload_n c44000 dJ3_cardinality_30 rfl).trans ?_
    exact g_ireturn c44000 dJ3_cardinality_31 rfl
  · skip
    refine (g_iload_n c44000 dJ3_cardinality_12 rfl).trans ?_
    refine (g_aload_n c44000 dJ3_cardinality_13 rfl).trans ?_
    refine (g_getR c44000 dJ3_cardinality_14 rfl).trans (rR_cg fun r2 => ?_)
    refine (g_iload_n c44000 dJ3_cardinality_17 rfl).trans ?_
    refine (g_laload c44000 dJ3_cardinality_18).trans (aG_cg fun w3 => rJ_cg fun x4 => ?_)
    refine (g_static (as := [.long x4]) (rest := [.int i1]) c44000 dJ3_cardinality_19 rfl rfl rfl rfl rfl).trans ((jback_I (κx := cX) (fun e h => jthrow_out rfl)).trans (cI_cg fun x5 h6 => ?_))
    refine (g_iadd c44000 dJ3_cardinality_22).trans ?_
    refine (g_istore_n (L' := [.ref a0, .int (i1 + x5), .int i2]) c44000 dJ3_cardinality_23 rfl rfl).trans ?_
    refine (g_iinc (c := 1) (L' := [.ref a0, .int (i1 + x5), .int (i2 + 1)]) c44000 dJ3_cardinality_24 rfl rfl rfl rfl).trans ?_
    refine (g_goto (tgt := 4) c44000 dJ3_cardinality_27 rfl).trans ?_
    rfl
theorem X44000 {d : Nat} {a0 : Nat} (h : AH) (hr : jrecv 44000 [.ref a0] h = true) : M (d + 1) 44000 [.ref a0] h = G d 44000 0 [.ref a0, jno, jno] [] h := M_eq rfl hr rfl
/-! java/util/BitSet.checkInvariants()V -/
abbrev cJ3_checkInvariants : ByteArray := prog_71_method_2_code
def dkwJ3_checkInvariants_4 : List UInt8 := [180, 0, 7, 47, 9, 148, 153, 0, 11, 187, 0, 15, 89, 183, 0, 17, 191, 177]
abbrev dktJ3_checkInvariants_4 : List UInt8 := dkwJ3_checkInvariants_4 ++ []
def dkwJ3_checkInvariants_3 : List UInt8 := [178, 0, 3, 154, 0, 37, 42, 180, 0, 7, 42, 180, 0, 11, 190, 159, 0, 25, 42, 180, 0, 11, 42]
abbrev dktJ3_checkInvariants_3 : List UInt8 := dkwJ3_checkInvariants_3 ++ dktJ3_checkInvariants_4
def dkwJ3_checkInvariants_2 : List UInt8 := [155, 0, 15, 42, 180, 0, 7, 42, 180, 0, 11, 190, 164, 0, 11, 187, 0, 15, 89, 183, 0, 17, 191]
abbrev dktJ3_checkInvariants_2 : List UInt8 := dkwJ3_checkInvariants_2 ++ dktJ3_checkInvariants_3
def dkwJ3_checkInvariants_1 : List UInt8 := [9, 148, 154, 0, 11, 187, 0, 15, 89, 183, 0, 17, 191, 178, 0, 3, 154, 0, 30, 42, 180, 0, 7]
abbrev dktJ3_checkInvariants_1 : List UInt8 := dkwJ3_checkInvariants_1 ++ dktJ3_checkInvariants_2
def dkwJ3_checkInvariants_0 : List UInt8 := [178, 0, 3, 154, 0, 34, 42, 180, 0, 7, 153, 0, 27, 42, 180, 0, 11, 42, 180, 0, 7, 4, 100, 47]
abbrev dktJ3_checkInvariants_0 : List UInt8 := dkwJ3_checkInvariants_0 ++ dktJ3_checkInvariants_1
theorem dksJ3_checkInvariants_0 : cJ3_checkInvariants.data.toList.drop 0 = dktJ3_checkInvariants_0 := by decide +kernel
theorem dksJ3_checkInvariants_1 : cJ3_checkInvariants.data.toList.drop 24 = dktJ3_checkInvariants_1 := dk_seg dksJ3_checkInvariants_0 24 rfl rfl
theorem dksJ3_checkInvariants_2 : cJ3_checkInvariants.data.toList.drop 47 = dktJ3_checkInvariants_2 := dk_seg dksJ3_checkInvariants_1 23 rfl rfl
theorem dksJ3_checkInvariants_3 : cJ3_checkInvariants.data.toList.drop 70 = dktJ3_checkInvariants_3 := dk_seg dksJ3_checkInvariants_2 23 rfl rfl
theorem dksJ3_checkInvariants_4 : cJ3_checkInvariants.data.toList.drop 93 = dktJ3_checkInvariants_4 := dk_seg dksJ3_checkInvariants_3 23 rfl rfl
theorem dJ3_checkInvariants_0 : decode cJ3_checkInvariants 0 = .ok (.getstatic 3, 3) := dk_178 0 3 (dk_at dksJ3_checkInvariants_0 0 rfl rfl)
theorem dJ3_checkInvariants_3 : decode cJ3_checkInvariants 3 = .ok (.ifCond .ne 34, 3) := dk_154 0 34 (dk_at dksJ3_checkInvariants_0 3 rfl rfl)
theorem dJ3_checkInvariants_6 : decode cJ3_checkInvariants 6 = .ok (.aload_n 0, 1) := dk_42 (dk_at dksJ3_checkInvariants_0 6 rfl rfl)
theorem dJ3_checkInvariants_7 : decode cJ3_checkInvariants 7 = .ok (.getfield 7, 3) := dk_180 0 7 (dk_at dksJ3_checkInvariants_0 7 rfl rfl)
theorem dJ3_checkInvariants_10 : decode cJ3_checkInvariants 10 = .ok (.ifCond .eq 27, 3) := dk_153 0 27 (dk_at dksJ3_checkInvariants_0 10 rfl rfl)
theorem dJ3_checkInvariants_13 : decode cJ3_checkInvariants 13 = .ok (.aload_n 0, 1) := dk_42 (dk_at dksJ3_checkInvariants_0 13 rfl rfl)
theorem dJ3_checkInvariants_14 : decode cJ3_checkInvariants 14 = .ok (.getfield 11, 3) := dk_180 0 11 (dk_at dksJ3_checkInvariants_0 14 rfl rfl)
theorem dJ3_checkInvariants_17 : decode cJ3_checkInvariants 17 = .ok (.aload_n 0, 1) := dk_42 (dk_at dksJ3_checkInvariants_0 17 rfl rfl)
theorem dJ3_checkInvariants_18 : decode cJ3_checkInvariants 18 = .ok (.getfield 7, 3) := dk_180 0 7 (dk_at dksJ3_checkInvariants_0 18 rfl rfl)
theorem dJ3_checkInvariants_21 : decode cJ3_checkInvariants 21 = .ok (.iconst 1, 1) := dk_4 (dk_at dksJ3_checkInvariants_0 21 rfl rfl)
theorem dJ3_checkInvariants_22 : decode cJ3_checkInvariants 22 = .ok (.isub, 1) := dk_100 (dk_at dksJ3_checkInvariants_0 22 rfl rfl)
theorem dJ3_checkInvariants_23 : decode cJ3_checkInvariants 23 = .ok (.laload, 1) := dk_47 (dk_at dksJ3_checkInvariants_0 23 rfl rfl)
theorem dJ3_checkInvariants_24 : decode cJ3_checkInvariants 24 = .ok (.lconst 0, 1) := dk_9 (dk_at dksJ3_checkInvariants_1 0 rfl rfl)
theorem dJ3_checkInvariants_25 : decode cJ3_checkInvariants 25 = .ok (.lcmp, 1) := dk_148 (dk_at dksJ3_checkInvariants_1 1 rfl rfl)
theorem dJ3_checkInvariants_26 : decode cJ3_checkInvariants 26 = .ok (.ifCond .ne 11, 3) := dk_154 0 11 (dk_at dksJ3_checkInvariants_1 2 rfl rfl)
theorem dJ3_checkInvariants_29 : decode cJ3_checkInvariants 29 = .ok (.new 15, 3) := dk_187 0 15 (dk_at dksJ3_checkInvariants_1 5 rfl rfl)
theorem dJ3_checkInvariants_32 : decode cJ3_checkInvariants 32 = .ok (.dup, 1) := dk_89 (dk_at dksJ3_checkInvariants_1 8 rfl rfl)
theorem dJ3_checkInvariants_33 : decode cJ3_checkInvariants 33 = .ok (.invokespecial 17, 3) := dk_183 0 17 (dk_at dksJ3_checkInvariants_1 9 rfl rfl)
theorem dJ3_checkInvariants_36 : decode cJ3_checkInvariants 36 = .ok (.athrow, 1) := dk_191 (dk_at dksJ3_checkInvariants_1 12 rfl rfl)
theorem dJ3_checkInvariants_37 : decode cJ3_checkInvariants 37 = .ok (.getstatic 3, 3) := dk_178 0 3 (dk_at dksJ3_checkInvariants_1 13 rfl rfl)
theorem dJ3_checkInvariants_40 : decode cJ3_checkInvariants 40 = .ok (.ifCond .ne 30, 3) := dk_154 0 30 (dk_at dksJ3_checkInvariants_1 16 rfl rfl)
theorem dJ3_checkInvariants_43 : decode cJ3_checkInvariants 43 = .ok (.aload_n 0, 1) := dk_42 (dk_at dksJ3_checkInvariants_1 19 rfl rfl)
theorem dJ3_checkInvariants_44 : decode cJ3_checkInvariants 44 = .ok (.getfield 7, 3) := dk_180 0 7 (dk_at dksJ3_checkInvariants_1 20 rfl rfl)
theorem dJ3_checkInvariants_47 : decode cJ3_checkInvariants 47 = .ok (.ifCond .lt 15, 3) := dk_155 0 15 (dk_at dksJ3_checkInvariants_2 0 rfl rfl)
theorem dJ3_checkInvariants_50 : decode cJ3_checkInvariants 50 = .ok (.aload_n 0, 1) := dk_42 (dk_at dksJ3_checkInvariants_2 3 rfl rfl)
theorem dJ3_checkInvariants_51 : decode cJ3_checkInvariants 51 = .ok (.getfield 7, 3) := dk_180 0 7 (dk_at dksJ3_checkInvariants_2 4 rfl rfl)
theorem dJ3_checkInvariants_54 : decode cJ3_checkInvariants 54 = .ok (.aload_n 0, 1) := dk_42 (dk_at dksJ3_checkInvariants_2 7 rfl rfl)
theorem dJ3_checkInvariants_55 : decode cJ3_checkInvariants 55 = .ok (.getfield 11, 3) := dk_180 0 11 (dk_at dksJ3_checkInvariants_2 8 rfl rfl)
theorem dJ3_checkInvariants_58 : decode cJ3_checkInvariants 58 = .ok (.arraylength, 1) := dk_190 (dk_at dksJ3_checkInvariants_2 11 rfl rfl)
theorem dJ3_checkInvariants_59 : decode cJ3_checkInvariants 59 = .ok (.if_icmp .le 11, 3) := dk_164 0 11 (dk_at dksJ3_checkInvariants_2 12 rfl rfl)
theorem dJ3_checkInvariants_62 : decode cJ3_checkInvariants 62 = .ok (.new 15, 3) := dk_187 0 15 (dk_at dksJ3_checkInvariants_2 15 rfl rfl)
theorem dJ3_checkInvariants_65 : decode cJ3_checkInvariants 65 = .ok (.dup, 1) := dk_89 (dk_at dksJ3_checkInvariants_2 18 rfl rfl)
theorem dJ3_checkInvariants_66 : decode cJ3_checkInvariants 66 = .ok (.invokespecial 17, 3) := dk_183 0 17 (dk_at dksJ3_checkInvariants_2 19 rfl rfl)
theorem dJ3_checkInvariants_69 : decode cJ3_checkInvariants 69 = .ok (.athrow, 1) := dk_191 (dk_at dksJ3_checkInvariants_2 22 rfl rfl)
theorem dJ3_checkInvariants_70 : decode cJ3_checkInvariants 70 = .ok (.getstatic 3, 3) := dk_178 0 3 (dk_at dksJ3_checkInvariants_3 0 rfl rfl)
theorem dJ3_checkInvariants_73 : decode cJ3_checkInvariants 73 = .ok (.ifCond .ne 37, 3) := dk_154 0 37 (dk_at dksJ3_checkInvariants_3 3 rfl rfl)
theorem dJ3_checkInvariants_76 : decode cJ3_checkInvariants 76 = .ok (.aload_n 0, 1) := dk_42 (dk_at dksJ3_checkInvariants_3 6 rfl rfl)
theorem dJ3_checkInvariants_77 : decode cJ3_checkInvariants 77 = .ok (.getfield 7, 3) := dk_180 0 7 (dk_at dksJ3_checkInvariants_3 7 rfl rfl)
theorem dJ3_checkInvariants_80 : decode cJ3_checkInvariants 80 = .ok (.aload_n 0, 1) := dk_42 (dk_at dksJ3_checkInvariants_3 10 rfl rfl)
theorem dJ3_checkInvariants_81 : decode cJ3_checkInvariants 81 = .ok (.getfield 11, 3) := dk_180 0 11 (dk_at dksJ3_checkInvariants_3 11 rfl rfl)
theorem dJ3_checkInvariants_84 : decode cJ3_checkInvariants 84 = .ok (.arraylength, 1) := dk_190 (dk_at dksJ3_checkInvariants_3 14 rfl rfl)
theorem dJ3_checkInvariants_85 : decode cJ3_checkInvariants 85 = .ok (.if_icmp .eq 25, 3) := dk_159 0 25 (dk_at dksJ3_checkInvariants_3 15 rfl rfl)
theorem dJ3_checkInvariants_88 : decode cJ3_checkInvariants 88 = .ok (.aload_n 0, 1) := dk_42 (dk_at dksJ3_checkInvariants_3 18 rfl rfl)
theorem dJ3_checkInvariants_89 : decode cJ3_checkInvariants 89 = .ok (.getfield 11, 3) := dk_180 0 11 (dk_at dksJ3_checkInvariants_3 19 rfl rfl)
theorem dJ3_checkInvariants_92 : decode cJ3_checkInvariants 92 = .ok (.aload_n 0, 1) := dk_42 (dk_at dksJ3_checkInvariants_3 22 rfl rfl)
theorem dJ3_checkInvariants_93 : decode cJ3_checkInvariants 93 = .ok (.getfield 7, 3) := dk_180 0 7 (dk_at dksJ3_checkInvariants_4 0 rfl rfl)
theorem dJ3_checkInvariants_96 : decode cJ3_checkInvariants 96 = .ok (.laload, 1) := dk_47 (dk_at dksJ3_checkInvariants_4 3 rfl rfl)
theorem dJ3_checkInvariants_97 : decode cJ3_checkInvariants 97 = .ok (.lconst 0, 1) := dk_9 (dk_at dksJ3_checkInvariants_4 4 rfl rfl)
theorem dJ3_checkInvariants_98 : decode cJ3_checkInvariants 98 = .ok (.lcmp, 1) := dk_148 (dk_at dksJ3_checkInvariants_4 5 rfl rfl)
theorem dJ3_checkInvariants_99 : decode cJ3_checkInvariants 99 = .ok (.ifCond .eq 11, 3) := dk_153 0 11 (dk_at dksJ3_checkInvariants_4 6 rfl rfl)
theorem dJ3_checkInvariants_102 : decode cJ3_checkInvariants 102 = .ok (.new 15, 3) := dk_187 0 15 (dk_at dksJ3_checkInvariants_4 9 rfl rfl)
theorem dJ3_checkInvariants_105 : decode cJ3_checkInvariants 105 = .ok (.dup, 1) := dk_89 (dk_at dksJ3_checkInvariants_4 12 rfl rfl)
theorem dJ3_checkInvariants_106 : decode cJ3_checkInvariants 106 = .ok (.invokespecial 17, 3) := dk_183 0 17 (dk_at dksJ3_checkInvariants_4 13 rfl rfl)
theorem dJ3_checkInvariants_109 : decode cJ3_checkInvariants 109 = .ok (.athrow, 1) := dk_191 (dk_at dksJ3_checkInvariants_4 16 rfl rfl)
theorem dJ3_checkInvariants_110 : decode cJ3_checkInvariants 110 = .ok (.return_, 1) := dk_177 (dk_at dksJ3_checkInvariants_4 17 rfl rfl)
theorem c44001 : jtCode 44001 = cJ3_checkInvariants := rfl
theorem E44001_0 (d : Nat) (a0 : Nat) (h : AH) : G d 44001 0 [.ref a0] [] h = if (1 : Int32) = 0 then (zpI (jf (jc h (.ref a0)) [44] 1) (fun x1 => if x1 = 0 then (G d 44001 37 [.ref a0] [] h) else (zpR (jf (jc h (.ref a0)) [44] 0) (fun r2 => zpI (jf (jc h (.ref a0)) [44] 1) (fun x3 => zqG h r2 [1030] (x3 - 1) (fun w4 => zpJ w4 (fun x5 => if (lcm x5 0) = 0 then (G d 44001 29 [.ref a0] [] h) else (G d 44001 37 [.ref a0] [] h)) ()) ()) ()) ())) ()) else (G d 44001 37 [.ref a0] [] h) := by
  refine (g_getsI (x := 1) c44001 dJ3_checkInvariants_0 rfl rfl).trans ?_
  refine (g_if_ne (tgt := 37) c44001 dJ3_checkInvariants_3 rfl).trans (if_cg ?_ ?_)
  · skip
    refine (g_aload_n c44001 dJ3_checkInvariants_6 rfl).trans ?_
    refine (g_getI c44001 dJ3_checkInvariants_7 rfl rfl).trans (rI_cg fun x1 => ?_)
    refine (g_if_eq (tgt := 37) c44001 dJ3_checkInvariants_10 rfl).trans (if_cg ?_ ?_)
    · skip
      rfl
    · skip
      refine (g_aload_n c44001 dJ3_checkInvariants_13 rfl).trans ?_
      refine (g_getR c44001 dJ3_checkInvariants_14 rfl).trans (rR_cg fun r2 => ?_)
      refine (g_aload_n c44001 dJ3_checkInvariants_17 rfl).trans ?_
      refine (g_getI c44001 dJ3_checkInvariants_18 rfl rfl).trans (rI_cg fun x3 => ?_)
      refine (g_iconst (x := 1) c44001 dJ3_checkInvariants_21 rfl).trans ?_
      refine (g_isub c44001 dJ3_checkInvariants_22).trans ?_
      refine (g_laload c44001 dJ3_checkInvariants_23).trans (aG_cg fun w4 => rJ_cg fun x5 => ?_)
      refine (g_lconst (x := 0) c44001 dJ3_checkInvariants_24 rfl).trans ?_
      refine (g_lcmp c44001 dJ3_checkInvariants_25).trans ?_
      refine (g_if_ne (tgt := 37) c44001 dJ3_checkInvariants_26 rfl).trans (if_cg ?_ ?_)
      · skip
        rfl
      · skip
        rfl
  · skip
    rfl
theorem E44001_37 (d : Nat) (a0 : Nat) (h : AH) : G d 44001 37 [.ref a0] [] h = if (1 : Int32) = 0 then (zpI (jf (jc h (.ref a0)) [44] 1) (fun x1 => if x1 < 0 then (G d 44001 62 [.ref a0] [] h) else (zpI (jf (jc h (.ref a0)) [44] 1) (fun x2 => zpR (jf (jc h (.ref a0)) [44] 0) (fun r3 => zqL h r3 (fun x4 => if x2 ≤ x4 then (G d 44001 70 [.ref a0] [] h) else (G d 44001 62 [.ref a0] [] h)) ()) ()) ())) ()) else (G d 44001 70 [.ref a0] [] h) := by
  refine (g_getsI (x := 1) c44001 dJ3_checkInvariants_37 rfl rfl).trans ?_
  refine (g_if_ne (tgt := 70) c44001 dJ3_checkInvariants_40 rfl).trans (if_cg ?_ ?_)
  · skip
    refine (g_aload_n c44001 dJ3_checkInvariants_43 rfl).trans ?_
    refine (g_getI c44001 dJ3_checkInvariants_44 rfl rfl).trans (rI_cg fun x1 => ?_)
    refine (g_if_lt (tgt := 62) c44001 dJ3_checkInvariants_47 rfl).trans (if_cg ?_ ?_)
    · skip
      rfl
    · skip
      refine (g_aload_n c44001 dJ3_checkInvariants_50 rfl).trans ?_
      refine (g_getI c44001 dJ3_checkInvariants_51 rfl rfl).trans (rI_cg fun x2 => ?_)
      refine (g_aload_n c44001 dJ3_checkInvariants_54 rfl).trans ?_
      refine (g_getR c44001 dJ3_checkInvariants_55 rfl).trans (rR_cg fun r3 => ?_)
      refine (g_alen c44001 dJ3_checkInvariants_58).trans (aL_cg fun x4 => ?_)
      refine (g_icmp_le (tgt := 70) c44001 dJ3_checkInvariants_59 rfl).trans (if_cg ?_ ?_)
      · skip
        rfl
      · skip
        rfl
  · skip
    rfl
theorem E44001_70 (d : Nat) (a0 : Nat) (h : AH) : G d 44001 70 [.ref a0] [] h = if (1 : Int32) = 0 then (zpI (jf (jc h (.ref a0)) [44] 1) (fun x1 => zpR (jf (jc h (.ref a0)) [44] 0) (fun r2 => zqL h r2 (fun x3 => if x1 = x3 then (some (.inl none, h)) else (zpR (jf (jc h (.ref a0)) [44] 0) (fun r4 => zpI (jf (jc h (.ref a0)) [44] 1) (fun x5 => zqG h r4 [1030] x5 (fun w6 => zpJ w6 (fun x7 => if (lcm x7 0) = 0 then (some (.inl none, h)) else (G d 44001 102 [.ref a0] [] h)) ()) ()) ()) ())) ()) ()) ()) else (some (.inl none, h)) := by
  refine (g_getsI (x := 1) c44001 dJ3_checkInvariants_70 rfl rfl).trans ?_
  refine (g_if_ne (tgt := 110) c44001 dJ3_checkInvariants_73 rfl).trans (if_cg ?_ ?_)
  · skip
    refine (g_aload_n c44001 dJ3_checkInvariants_76 rfl).trans ?_
    refine (g_getI c44001 dJ3_checkInvariants_77 rfl rfl).trans (rI_cg fun x1 => ?_)
    refine (g_aload_n c44001 dJ3_checkInvariants_80 rfl).trans ?_
    refine (g_getR c44001 dJ3_checkInvariants_81 rfl).trans (rR_cg fun r2 => ?_)
    refine (g_alen c44001 dJ3_checkInvariants_84).trans (aL_cg fun x3 => ?_)
    refine (g_icmp_eq (tgt := 110) c44001 dJ3_checkInvariants_85 rfl).trans (if_cg ?_ ?_)
    · skip
      exact g_return c44001 dJ3_checkInvariants_110 rfl
    · skip
      refine (g_aload_n c44001 dJ3_checkInvariants_88 rfl).trans ?_
      refine (g_getR c44001 dJ3_checkInvariants_89 rfl).trans (rR_cg fun r4 => ?_)
      refine (g_aload_n c44001 dJ3_checkInvariants_92 rfl).trans ?_
      refine (g_getI c44001 dJ3_checkInvariants_93 rfl rfl).trans (rI_cg fun x5 => ?_)
      refine (g_laload c44001 dJ3_checkInvariants_96).trans (aG_cg fun w6 => rJ_cg fun x7 => ?_)
      refine (g_lconst (x := 0) c44001 dJ3_checkInvariants_97 rfl).trans ?_
      refine (g_lcmp c44001 dJ3_checkInvariants_98).trans ?_
      refine (g_if_eq (tgt := 110) c44001 dJ3_checkInvariants_99 rfl).trans (if_cg ?_ ?_)
      · skip
        exact g_return c44001 dJ3_checkInvariants_110 rfl
      · skip
        rfl
  · skip
    exact g_return c44001 dJ3_checkInvariants_110 rfl
theorem X44001 {d : Nat} {a0 : Nat} (h : AH) (hr : jrecv 44001 [.ref a0] h = true) : M (d + 1) 44001 [.ref a0] h = G d 44001 0 [.ref a0] [] h := M_eq rfl hr rfl
/-! java/util/BitSet.clear()V -/
abbrev cJ3_clear : ByteArray := prog_71_method_25_code
def dkwJ3_clear_1 : List UInt8 := [167, 255, 232, 177]
abbrev dktJ3_clear_1 : List UInt8 := dkwJ3_clear_1 ++ []
def dkwJ3_clear_0 : List UInt8 := [42, 180, 0, 7, 158, 0, 23, 42, 180, 0, 11, 42, 89, 180, 0, 7, 4, 100, 90, 181, 0, 7, 9, 80]
abbrev dktJ3_clear_0 : List UInt8 := dkwJ3_clear_0 ++ dktJ3_clear_1
theorem dksJ3_clear_0 : cJ3_clear.data.toList.drop 0 = dktJ3_clear_0 := by decide +kernel
theorem dksJ3_clear_1 : cJ3_clear.data.toList.drop 24 = dktJ3_clear_1 := dk_seg dksJ3_clear_0 24 rfl rfl
theorem dJ3_clear_0 : decode cJ3_clear 0 = .ok (.aload_n 0, 1) := dk_42 (dk_at dksJ3_clear_0 0 rfl rfl)
theorem dJ3_clear_1 : decode cJ3_clear 1 = .ok (.getfield 7, 3) := dk_180 0 7 (dk_at dksJ3_clear_0 1 rfl rfl)
theorem dJ3_clear_4 : decode cJ3_clear 4 = .ok (.ifCond .le 23, 3) := dk_158 0 23 (dk_at dksJ3_clear_0 4 rfl rfl)
theorem dJ3_clear_7 : decode cJ3_clear 7 = .ok (.aload_n 0, 1) := dk_42 (dk_at dksJ3_clear_0 7 rfl rfl)
theorem dJ3_clear_8 : decode cJ3_clear 8 = .ok (.getfield 11, 3) := dk_180 0 11 (dk_at dksJ3_clear_0 8 rfl rfl)
theorem dJ3_clear_11 : decode cJ3_clear 11 = .ok (.aload_n 0, 1) := dk_42 (dk_at dksJ3_clear_0 11 rfl rfl)
theorem dJ3_clear_12 : decode cJ3_clear 12 = .ok (.dup, 1) := dk_89 (dk_at dksJ3_clear_0 12 rfl rfl)
theorem dJ3_clear_13 : decode cJ3_clear 13 = .ok (.getfield 7, 3) := dk_180 0 7 (dk_at dksJ3_clear_0 13 rfl rfl)
theorem dJ3_clear_16 : decode cJ3_clear 16 = .ok (.iconst 1, 1) := dk_4 (dk_at dksJ3_clear_0 16 rfl rfl)
theorem dJ3_clear_17 : decode cJ3_clear 17 = .ok (.isub, 1) := dk_100 (dk_at dksJ3_clear_0 17 rfl rfl)
theorem dJ3_clear_18 : decode cJ3_clear 18 = .ok (.dup_x1, 1) := dk_90 (dk_at dksJ3_clear_0 18 rfl rfl)
theorem dJ3_clear_19 : decode cJ3_clear 19 = .ok (.putfield 7, 3) := dk_181 0 7 (dk_at dksJ3_clear_0 19 rfl rfl)
theorem dJ3_clear_22 : decode cJ3_clear 22 = .ok (.lconst 0, 1) := dk_9 (dk_at dksJ3_clear_0 22 rfl rfl)
theorem dJ3_clear_23 : decode cJ3_clear 23 = .ok (.lastore, 1) := dk_80 (dk_at dksJ3_clear_0 23 rfl rfl)
theorem dJ3_clear_24 : decode cJ3_clear 24 = .ok (.goto (-24), 3) := dk_167 255 232 (dk_at dksJ3_clear_1 0 rfl rfl)
theorem dJ3_clear_27 : decode cJ3_clear 27 = .ok (.return_, 1) := dk_177 (dk_at dksJ3_clear_1 3 rfl rfl)
theorem c44002 : jtCode 44002 = cJ3_clear := rfl
theorem E44002_0 (d : Nat) (a0 : Nat) (h : AH) : G d 44002 0 [.ref a0] [] h = zpI (jf (jc h (.ref a0)) [44] 1) (fun x1 => if x1 ≤ 0 then (some (.inl none, h)) else (zpR (jf (jc h (.ref a0)) [44] 0) (fun r2 => zpI (jf (jc h (.ref a0)) [44] 1) (fun x3 => zqF h (.ref a0) [44] 1 0 (.int (x3 - 1)) (fun h4 => zqS h4 r2 [1030] (x3 - 1) (.long 0) (fun h5 => G d 44002 0 [.ref a0] [] h5) ()) ()) ()) ())) () := by
  refine (g_aload_n c44002 dJ3_clear_0 rfl).trans ?_
  refine (g_getI c44002 dJ3_clear_1 rfl rfl).trans (rI_cg fun x1 => ?_)
  refine (g_if_le (tgt := 27) c44002 dJ3_clear_4 rfl).trans (if_cg ?_ ?_)
  · skip
    exact g_return c44002 dJ3_clear_27 rfl
  · skip
    refine (g_aload_n c44002 dJ3_clear_7 rfl).trans ?_
    refine (g_getR c44002 dJ3_clear_8 rfl).trans (rR_cg fun r2 => ?_)
    refine (g_aload_n c44002 dJ3_clear_11 rfl).trans ?_
    refine (g_dup_r c44002 dJ3_clear_12).trans ?_
    refine (g_getI c44002 dJ3_clear_13 rfl rfl).trans (rI_cg fun x3 => ?_)
    refine (g_iconst (x := 1) c44002 dJ3_clear_16 rfl).trans ?_
    refine (g_isub c44002 dJ3_clear_17).trans ?_
    refine (g_dup_x1_ir c44002 dJ3_clear_18).trans ?_
    refine (g_put c44002 dJ3_clear_19 rfl).trans (pF_cg fun h4 => ?_)
    refine (g_lconst (x := 0) c44002 dJ3_clear_22 rfl).trans ?_
    refine (g_lastore c44002 dJ3_clear_23).trans (aS_cg fun h5 => ?_)
    refine (g_goto (tgt := 0) c44002 dJ3_clear_24 rfl).trans ?_
    rfl
theorem X44002 {d : Nat} {a0 : Nat} (h : AH) (hr : jrecv 44002 [.ref a0] h = true) : M (d + 1) 44002 [.ref a0] h = G d 44002 0 [.ref a0] [] h := M_eq rfl hr rfl
/-! java/util/BitSet.ensureCapacity(I)V -/
abbrev cJ3_ensureCapacity : ByteArray := prog_71_method_14_code
def dkwJ3_ensureCapacity_1 : List UInt8 := [180, 0, 11, 28, 184, 0, 59, 181, 0, 11, 42, 3, 181, 0, 24, 177]
abbrev dktJ3_ensureCapacity_1 : List UInt8 := dkwJ3_ensureCapacity_1 ++ []
def dkwJ3_ensureCapacity_0 : List UInt8 := [42, 180, 0, 11, 190, 27, 162, 0, 32, 5, 42, 180, 0, 11, 190, 104, 27, 184, 0, 133, 61, 42, 42]
abbrev dktJ3_ensureCapacity_0 : List UInt8 := dkwJ3_ensureCapacity_0 ++ dktJ3_ensureCapacity_1
theorem dksJ3_ensureCapacity_0 : cJ3_ensureCapacity.data.toList.drop 0 = dktJ3_ensureCapacity_0 := by decide +kernel
theorem dksJ3_ensureCapacity_1 : cJ3_ensureCapacity.data.toList.drop 23 = dktJ3_ensureCapacity_1 := dk_seg dksJ3_ensureCapacity_0 23 rfl rfl
theorem dJ3_ensureCapacity_0 : decode cJ3_ensureCapacity 0 = .ok (.aload_n 0, 1) := dk_42 (dk_at dksJ3_ensureCapacity_0 0 rfl rfl)
theorem dJ3_ensureCapacity_1 : decode cJ3_ensureCapacity 1 = .ok (.getfield 11, 3) := dk_180 0 11 (dk_at dksJ3_ensureCapacity_0 1 rfl rfl)
theorem dJ3_ensureCapacity_4 : decode cJ3_ensureCapacity 4 = .ok (.arraylength, 1) := dk_190 (dk_at dksJ3_ensureCapacity_0 4 rfl rfl)
theorem dJ3_ensureCapacity_5 : decode cJ3_ensureCapacity 5 = .ok (.iload_n 1, 1) := dk_27 (dk_at dksJ3_ensureCapacity_0 5 rfl rfl)
theorem dJ3_ensureCapacity_6 : decode cJ3_ensureCapacity 6 = .ok (.if_icmp .ge 32, 3) := dk_162 0 32 (dk_at dksJ3_ensureCapacity_0 6 rfl rfl)
theorem dJ3_ensureCapacity_9 : decode cJ3_ensureCapacity 9 = .ok (.iconst 2, 1) := dk_5 (dk_at dksJ3_ensureCapacity_0 9 rfl rfl)
theorem dJ3_ensureCapacity_10 : decode cJ3_ensureCapacity 10 = .ok (.aload_n 0, 1) := dk_42 (dk_at dksJ3_ensureCapacity_0 10 rfl rfl)
theorem dJ3_ensureCapacity_11 : decode cJ3_ensureCapacity 11 = .ok (.getfield 11, 3) := dk_180 0 11 (dk_at dksJ3_ensureCapacity_0 11 rfl rfl)
theorem dJ3_ensureCapacity_14 : decode cJ3_ensureCapacity 14 = .ok (.arraylength, 1) := dk_190 (dk_at dksJ3_ensureCapacity_0 14 rfl rfl)
theorem dJ3_ensureCapacity_15 : decode cJ3_ensureCapacity 15 = .ok (.imul, 1) := dk_104 (dk_at dksJ3_ensureCapacity_0 15 rfl rfl)
theorem dJ3_ensureCapacity_16 : decode cJ3_ensureCapacity 16 = .ok (.iload_n 1, 1) := dk_27 (dk_at dksJ3_ensureCapacity_0 16 rfl rfl)
theorem dJ3_ensureCapacity_17 : decode cJ3_ensureCapacity 17 = .ok (.invokestatic 133, 3) := dk_184 0 133 (dk_at dksJ3_ensureCapacity_0 17 rfl rfl)
theorem dJ3_ensureCapacity_20 : decode cJ3_ensureCapacity 20 = .ok (.istore_n 2, 1) := dk_61 (dk_at dksJ3_ensureCapacity_0 20 rfl rfl)
theorem dJ3_ensureCapacity_21 : decode cJ3_ensureCapacity 21 = .ok (.aload_n 0, 1) := dk_42 (dk_at dksJ3_ensureCapacity_0 21 rfl rfl)
theorem dJ3_ensureCapacity_22 : decode cJ3_ensureCapacity 22 = .ok (.aload_n 0, 1) := dk_42 (dk_at dksJ3_ensureCapacity_0 22 rfl rfl)
theorem dJ3_ensureCapacity_23 : decode cJ3_ensureCapacity 23 = .ok (.getfield 11, 3) := dk_180 0 11 (dk_at dksJ3_ensureCapacity_1 0 rfl rfl)
theorem dJ3_ensureCapacity_26 : decode cJ3_ensureCapacity 26 = .ok (.iload_n 2, 1) := dk_28 (dk_at dksJ3_ensureCapacity_1 3 rfl rfl)
theorem dJ3_ensureCapacity_27 : decode cJ3_ensureCapacity 27 = .ok (.invokestatic 59, 3) := dk_184 0 59 (dk_at dksJ3_ensureCapacity_1 4 rfl rfl)
theorem dJ3_ensureCapacity_30 : decode cJ3_ensureCapacity 30 = .ok (.putfield 11, 3) := dk_181 0 11 (dk_at dksJ3_ensureCapacity_1 7 rfl rfl)
theorem dJ3_ensureCapacity_33 : decode cJ3_ensureCapacity 33 = .ok (.aload_n 0, 1) := dk_42 (dk_at dksJ3_ensureCapacity_1 10 rfl rfl)
theorem dJ3_ensureCapacity_34 : decode cJ3_ensureCapacity 34 = .ok (.iconst 0, 1) := dk_3 (dk_at dksJ3_ensureCapacity_1 11 rfl rfl)
theorem dJ3_ensureCapacity_35 : decode cJ3_ensureCapacity 35 = .ok (.putfield 24, 3) := dk_181 0 24 (dk_at dksJ3_ensureCapacity_1 12 rfl rfl)
theorem dJ3_ensureCapacity_38 : decode cJ3_ensureCapacity 38 = .ok (.return_, 1) := dk_177 (dk_at dksJ3_ensureCapacity_1 15 rfl rfl)
theorem c44003 : jtCode 44003 = cJ3_ensureCapacity := rfl
theorem E44003_0 (d : Nat) (a0 : Nat) (i1 : Int32) (h : AH) : G d 44003 0 [.ref a0, .int i1, jno] [] h = zpR (jf (jc h (.ref a0)) [44] 0) (fun r1 => zqL h r1 (fun x2 => if i1 ≤ x2 then (some (.inl none, h)) else (zpR (jf (jc h (.ref a0)) [44] 0) (fun r3 => zqL h r3 (fun x4 => zcI (M d 53000 [.int (2 * x4), .int i1] h) (fun x5 h6 => zpR (jf (jc h6 (.ref a0)) [44] 0) (fun r7 => zcR (M d 45006 [r7, .int x5] h6) (fun r8 h9 => zqF h9 (.ref a0) [44] 0 2 r8 (fun h10 => zqF h10 (.ref a0) [44] 2 3 (.int 0) (fun h11 => some (.inl none, h11)) ()) ()) ()) ()) ()) ()) ())) ()) () := by
  refine (g_aload_n c44003 dJ3_ensureCapacity_0 rfl).trans ?_
  refine (g_getR c44003 dJ3_ensureCapacity_1 rfl).trans (rR_cg fun r1 => ?_)
  refine (g_alen c44003 dJ3_ensureCapacity_4).trans (aL_cg fun x2 => ?_)
  refine (g_iload_n c44003 dJ3_ensureCapacity_5 rfl).trans ?_
  refine (g_icmp_ge (tgt := 38) c44003 dJ3_ensureCapacity_6 rfl).trans (if_cg ?_ ?_)
  · skip
    exact g_return c44003 dJ3_ensureCapacity_38 rfl
  · skip
    refine (g_iconst (x := 2) c44003 dJ3_ensureCapacity_9 rfl).trans ?_
    refine (g_aload_n c44003 dJ3_ensureCapacity_10 rfl).trans ?_
    refine (g_getR c44003 dJ3_ensureCapacity_11 rfl).trans (rR_cg fun r3 => ?_)
    refine (g_alen c44003 dJ3_ensureCapacity_14).trans (aL_cg fun x4 => ?_)
    refine (g_imul c44003 dJ3_ensureCapacity_15).trans ?_
    refine (g_iload_n c44003 dJ3_ensureCapacity_16 rfl).trans ?_
    refine (g_static (as := [.int (2 * x4), .int i1]) (rest := []) c44003 dJ3_ensureCapacity_17 rfl rfl rfl rfl rfl).trans ((jback_I (κx := cX) (fun e h => jthrow_out rfl)).trans (cI_cg fun x5 h6 => ?_))
    refine (g_istore_n (L' := [.ref a0, .int i1, .int x5]) c44003 dJ3_ensureCapacity_20 rfl rfl).trans ?_
    refine (g_aload_n c44003 dJ3_ensureCapacity_21 rfl).trans ?_
    refine (g_aload_n c44003 dJ3_ensureCapacity_22 rfl).trans ?_
    refine (g_getR c44003 dJ3_ensureCapacity_23 rfl).trans (rR_cg fun r7 => ?_)
    refine (g_iload_n c44003 dJ3_ensureCapacity_26 rfl).trans ?_
    refine (g_static (as := [r7, .int x5]) (rest := [.ref a0]) c44003 dJ3_ensureCapacity_27 rfl rfl rfl rfl rfl).trans ((jback_R (κx := cX) (fun e h => jthrow_out rfl)).trans (cR_cg fun r8 h9 => ?_))
    refine (g_put c44003 dJ3_ensureCapacity_30 rfl).trans (pF_cg fun h10 => ?_)
    refine (g_aload_n c44003 dJ3_ensureCapacity_33 rfl).trans ?_
    refine (g_iconst (x := 0) c44003 dJ3_ensureCapacity_34 rfl).trans ?_
    refine (g_put c44003 dJ3_ensureCapacity_35 rfl).trans (pF_cg fun h11 => ?_)
    exact g_return c44003 dJ3_ensureCapacity_38 rfl
theorem X44003 {d : Nat} {a0 : Nat} {i1 : Int32} (h : AH) (hr : jrecv 44003 [.ref a0, .int i1] h = true) : M (d + 1) 44003 [.ref a0, .int i1] h = G d 44003 0 [.ref a0, .int i1, jno] [] h := M_eq rfl hr rfl
/-! java/util/BitSet.expandTo(I)V -/
abbrev cJ3_expandTo : ByteArray := prog_71_method_15_code
def dkwJ3_expandTo_0 : List UInt8 := [27, 4, 96, 61, 42, 180, 0, 7, 28, 162, 0, 13, 42, 28, 182, 0, 139, 42, 28, 181, 0, 7, 177]
abbrev dktJ3_expandTo_0 : List UInt8 := dkwJ3_expandTo_0 ++ []
theorem dksJ3_expandTo_0 : cJ3_expandTo.data.toList.drop 0 = dktJ3_expandTo_0 := by decide +kernel
theorem dJ3_expandTo_0 : decode cJ3_expandTo 0 = .ok (.iload_n 1, 1) := dk_27 (dk_at dksJ3_expandTo_0 0 rfl rfl)
theorem dJ3_expandTo_1 : decode cJ3_expandTo 1 = .ok (.iconst 1, 1) := dk_4 (dk_at dksJ3_expandTo_0 1 rfl rfl)
theorem dJ3_expandTo_2 : decode cJ3_expandTo 2 = .ok (.iadd, 1) := dk_96 (dk_at dksJ3_expandTo_0 2 rfl rfl)
theorem dJ3_expandTo_3 : decode cJ3_expandTo 3 = .ok (.istore_n 2, 1) := dk_61 (dk_at dksJ3_expandTo_0 3 rfl rfl)
theorem dJ3_expandTo_4 : decode cJ3_expandTo 4 = .ok (.aload_n 0, 1) := dk_42 (dk_at dksJ3_expandTo_0 4 rfl rfl)
theorem dJ3_expandTo_5 : decode cJ3_expandTo 5 = .ok (.getfield 7, 3) := dk_180 0 7 (dk_at dksJ3_expandTo_0 5 rfl rfl)
theorem dJ3_expandTo_8 : decode cJ3_expandTo 8 = .ok (.iload_n 2, 1) := dk_28 (dk_at dksJ3_expandTo_0 8 rfl rfl)
theorem dJ3_expandTo_9 : decode cJ3_expandTo 9 = .ok (.if_icmp .ge 13, 3) := dk_162 0 13 (dk_at dksJ3_expandTo_0 9 rfl rfl)
theorem dJ3_expandTo_12 : decode cJ3_expandTo 12 = .ok (.aload_n 0, 1) := dk_42 (dk_at dksJ3_expandTo_0 12 rfl rfl)
theorem dJ3_expandTo_13 : decode cJ3_expandTo 13 = .ok (.iload_n 2, 1) := dk_28 (dk_at dksJ3_expandTo_0 13 rfl rfl)
theorem dJ3_expandTo_14 : decode cJ3_expandTo 14 = .ok (.invokevirtual 139, 3) := dk_182 0 139 (dk_at dksJ3_expandTo_0 14 rfl rfl)
theorem dJ3_expandTo_17 : decode cJ3_expandTo 17 = .ok (.aload_n 0, 1) := dk_42 (dk_at dksJ3_expandTo_0 17 rfl rfl)
theorem dJ3_expandTo_18 : decode cJ3_expandTo 18 = .ok (.iload_n 2, 1) := dk_28 (dk_at dksJ3_expandTo_0 18 rfl rfl)
theorem dJ3_expandTo_19 : decode cJ3_expandTo 19 = .ok (.putfield 7, 3) := dk_181 0 7 (dk_at dksJ3_expandTo_0 19 rfl rfl)
theorem dJ3_expandTo_22 : decode cJ3_expandTo 22 = .ok (.return_, 1) := dk_177 (dk_at dksJ3_expandTo_0 22 rfl rfl)
theorem c44004 : jtCode 44004 = cJ3_expandTo := rfl
theorem E44004_0 (d : Nat) (a0 : Nat) (i1 : Int32) (h : AH) : G d 44004 0 [.ref a0, .int i1, jno] [] h = zpI (jf (jc h (.ref a0)) [44] 1) (fun x1 => if (i1 + 1) ≤ x1 then (some (.inl none, h)) else (zcV (M d 44003 [.ref a0, .int (i1 + 1)] h) (fun h3 => zqF h3 (.ref a0) [44] 1 0 (.int (i1 + 1)) (fun h4 => some (.inl none, h4)) ()) ())) () := by
  refine (g_iload_n c44004 dJ3_expandTo_0 rfl).trans ?_
  refine (g_iconst (x := 1) c44004 dJ3_expandTo_1 rfl).trans ?_
  refine (g_iadd c44004 dJ3_expandTo_2).trans ?_
  refine (g_istore_n (L' := [.ref a0, .int i1, .int (i1 + 1)]) c44004 dJ3_expandTo_3 rfl rfl).trans ?_
  refine (g_aload_n c44004 dJ3_expandTo_4 rfl).trans ?_
  refine (g_getI c44004 dJ3_expandTo_5 rfl rfl).trans (rI_cg fun x1 => ?_)
  refine (g_iload_n c44004 dJ3_expandTo_8 rfl).trans ?_
  refine (g_icmp_ge (tgt := 22) c44004 dJ3_expandTo_9 rfl).trans (if_cg ?_ ?_)
  · skip
    exact g_return c44004 dJ3_expandTo_22 rfl
  · skip
    refine (g_aload_n c44004 dJ3_expandTo_12 rfl).trans ?_
    refine (g_iload_n c44004 dJ3_expandTo_13 rfl).trans ?_
    refine (g_virtual (as := [.ref a0, .int (i1 + 1)]) (rest := []) c44004 dJ3_expandTo_14 rfl rfl rfl rfl rfl).trans ((jback_V (κx := cX) (fun e h => jthrow_out rfl)).trans (cV_cg fun h3 => ?_))
    refine (g_aload_n c44004 dJ3_expandTo_17 rfl).trans ?_
    refine (g_iload_n c44004 dJ3_expandTo_18 rfl).trans ?_
    refine (g_put c44004 dJ3_expandTo_19 rfl).trans (pF_cg fun h4 => ?_)
    exact g_return c44004 dJ3_expandTo_22 rfl
theorem X44004 {d : Nat} {a0 : Nat} {i1 : Int32} (h : AH) (hr : jrecv 44004 [.ref a0, .int i1] h = true) : M (d + 1) 44004 [.ref a0, .int i1] h = G d 44004 0 [.ref a0, .int i1, jno] [] h := M_eq rfl hr rfl
/-! java/util/BitSet.get(I)Z -/
abbrev cJ3_get : ByteArray := prog_71_method_26_code
def dkwJ3_get_2 : List UInt8 := [42, 180, 0, 11, 28, 47, 10, 27, 121, 127, 9, 148, 153, 0, 7, 4, 167, 0, 4, 3, 172]
abbrev dktJ3_get_2 : List UInt8 := dkwJ3_get_2 ++ []
def dkwJ3_get_1 : List UInt8 := [182, 0, 45, 183, 0, 146, 191, 42, 182, 0, 56, 27, 184, 0, 52, 61, 28, 42, 180, 0, 7, 162, 0, 22]
abbrev dktJ3_get_1 : List UInt8 := dkwJ3_get_1 ++ dktJ3_get_2
def dkwJ3_get_0 : List UInt8 := [27, 156, 0, 30, 187, 0, 142, 89, 187, 0, 33, 89, 183, 0, 35, 18, 153, 182, 0, 38, 27, 182, 0, 42]
abbrev dktJ3_get_0 : List UInt8 := dkwJ3_get_0 ++ dktJ3_get_1
theorem dksJ3_get_0 : cJ3_get.data.toList.drop 0 = dktJ3_get_0 := by decide +kernel
theorem dksJ3_get_1 : cJ3_get.data.toList.drop 24 = dktJ3_get_1 := dk_seg dksJ3_get_0 24 rfl rfl
theorem dksJ3_get_2 : cJ3_get.data.toList.drop 48 = dktJ3_get_2 := dk_seg dksJ3_get_1 24 rfl rfl
theorem dJ3_get_0 : decode cJ3_get 0 = .ok (.iload_n 1, 1) := dk_27 (dk_at dksJ3_get_0 0 rfl rfl)
theorem dJ3_get_1 : decode cJ3_get 1 = .ok (.ifCond .ge 30, 3) := dk_156 0 30 (dk_at dksJ3_get_0 1 rfl rfl)
theorem dJ3_get_4 : decode cJ3_get 4 = .ok (.new 142, 3) := dk_187 0 142 (dk_at dksJ3_get_0 4 rfl rfl)
theorem dJ3_get_7 : decode cJ3_get 7 = .ok (.dup, 1) := dk_89 (dk_at dksJ3_get_0 7 rfl rfl)
theorem dJ3_get_8 : decode cJ3_get 8 = .ok (.new 33, 3) := dk_187 0 33 (dk_at dksJ3_get_0 8 rfl rfl)
theorem dJ3_get_11 : decode cJ3_get 11 = .ok (.dup, 1) := dk_89 (dk_at dksJ3_get_0 11 rfl rfl)
theorem dJ3_get_12 : decode cJ3_get 12 = .ok (.invokespecial 35, 3) := dk_183 0 35 (dk_at dksJ3_get_0 12 rfl rfl)
theorem dJ3_get_15 : decode cJ3_get 15 = .ok (.ldc 153, 2) := dk_18 153 (dk_at dksJ3_get_0 15 rfl rfl)
theorem dJ3_get_17 : decode cJ3_get 17 = .ok (.invokevirtual 38, 3) := dk_182 0 38 (dk_at dksJ3_get_0 17 rfl rfl)
theorem dJ3_get_20 : decode cJ3_get 20 = .ok (.iload_n 1, 1) := dk_27 (dk_at dksJ3_get_0 20 rfl rfl)
theorem dJ3_get_21 : decode cJ3_get 21 = .ok (.invokevirtual 42, 3) := dk_182 0 42 (dk_at dksJ3_get_0 21 rfl rfl)
theorem dJ3_get_24 : decode cJ3_get 24 = .ok (.invokevirtual 45, 3) := dk_182 0 45 (dk_at dksJ3_get_1 0 rfl rfl)
theorem dJ3_get_27 : decode cJ3_get 27 = .ok (.invokespecial 146, 3) := dk_183 0 146 (dk_at dksJ3_get_1 3 rfl rfl)
theorem dJ3_get_30 : decode cJ3_get 30 = .ok (.athrow, 1) := dk_191 (dk_at dksJ3_get_1 6 rfl rfl)
theorem dJ3_get_31 : decode cJ3_get 31 = .ok (.aload_n 0, 1) := dk_42 (dk_at dksJ3_get_1 7 rfl rfl)
theorem dJ3_get_32 : decode cJ3_get 32 = .ok (.invokevirtual 56, 3) := dk_182 0 56 (dk_at dksJ3_get_1 8 rfl rfl)
theorem dJ3_get_35 : decode cJ3_get 35 = .ok (.iload_n 1, 1) := dk_27 (dk_at dksJ3_get_1 11 rfl rfl)
theorem dJ3_get_36 : decode cJ3_get 36 = .ok (.invokestatic 52, 3) := dk_184 0 52 (dk_at dksJ3_get_1 12 rfl rfl)
theorem dJ3_get_39 : decode cJ3_get 39 = .ok (.istore_n 2, 1) := dk_61 (dk_at dksJ3_get_1 15 rfl rfl)
theorem dJ3_get_40 : decode cJ3_get 40 = .ok (.iload_n 2, 1) := dk_28 (dk_at dksJ3_get_1 16 rfl rfl)
theorem dJ3_get_41 : decode cJ3_get 41 = .ok (.aload_n 0, 1) := dk_42 (dk_at dksJ3_get_1 17 rfl rfl)
theorem dJ3_get_42 : decode cJ3_get 42 = .ok (.getfield 7, 3) := dk_180 0 7 (dk_at dksJ3_get_1 18 rfl rfl)
theorem dJ3_get_45 : decode cJ3_get 45 = .ok (.if_icmp .ge 22, 3) := dk_162 0 22 (dk_at dksJ3_get_1 21 rfl rfl)
theorem dJ3_get_48 : decode cJ3_get 48 = .ok (.aload_n 0, 1) := dk_42 (dk_at dksJ3_get_2 0 rfl rfl)
theorem dJ3_get_49 : decode cJ3_get 49 = .ok (.getfield 11, 3) := dk_180 0 11 (dk_at dksJ3_get_2 1 rfl rfl)
theorem dJ3_get_52 : decode cJ3_get 52 = .ok (.iload_n 2, 1) := dk_28 (dk_at dksJ3_get_2 4 rfl rfl)
theorem dJ3_get_53 : decode cJ3_get 53 = .ok (.laload, 1) := dk_47 (dk_at dksJ3_get_2 5 rfl rfl)
theorem dJ3_get_54 : decode cJ3_get 54 = .ok (.lconst 1, 1) := dk_10 (dk_at dksJ3_get_2 6 rfl rfl)
theorem dJ3_get_55 : decode cJ3_get 55 = .ok (.iload_n 1, 1) := dk_27 (dk_at dksJ3_get_2 7 rfl rfl)
theorem dJ3_get_56 : decode cJ3_get 56 = .ok (.lshl, 1) := dk_121 (dk_at dksJ3_get_2 8 rfl rfl)
theorem dJ3_get_57 : decode cJ3_get 57 = .ok (.land, 1) := dk_127 (dk_at dksJ3_get_2 9 rfl rfl)
theorem dJ3_get_58 : decode cJ3_get 58 = .ok (.lconst 0, 1) := dk_9 (dk_at dksJ3_get_2 10 rfl rfl)
theorem dJ3_get_59 : decode cJ3_get 59 = .ok (.lcmp, 1) := dk_148 (dk_at dksJ3_get_2 11 rfl rfl)
theorem dJ3_get_60 : decode cJ3_get 60 = .ok (.ifCond .eq 7, 3) := dk_153 0 7 (dk_at dksJ3_get_2 12 rfl rfl)
theorem dJ3_get_63 : decode cJ3_get 63 = .ok (.iconst 1, 1) := dk_4 (dk_at dksJ3_get_2 15 rfl rfl)
theorem dJ3_get_64 : decode cJ3_get 64 = .ok (.goto 4, 3) := dk_167 0 4 (dk_at dksJ3_get_2 16 rfl rfl)
theorem dJ3_get_67 : decode cJ3_get 67 = .ok (.iconst 0, 1) := dk_3 (dk_at dksJ3_get_2 19 rfl rfl)
theorem dJ3_get_68 : decode cJ3_get 68 = .ok (.ireturn, 1) := dk_172 (dk_at dksJ3_get_2 20 rfl rfl)
theorem c44005 : jtCode 44005 = cJ3_get := rfl
theorem E44005_0 (d : Nat) (a0 : Nat) (i1 : Int32) (h : AH) : G d 44005 0 [.ref a0, .int i1, jno] [] h = if 0 ≤ i1 then (zcV (M d 44001 [.ref a0] h) (fun h2 => zcI (M d 44009 [.int i1] h2) (fun x3 h4 => zpI (jf (jc h4 (.ref a0)) [44] 1) (fun x5 => if x5 ≤ x3 then (some (.inl (some (.int 0)), h4)) else (zpR (jf (jc h4 (.ref a0)) [44] 0) (fun r6 => zqG h4 r6 [1030] x3 (fun w7 => zpJ w7 (fun x8 => if (lcm (x8 &&& ((1 : Int64) <<< (i1.toInt64 &&& 63))) 0) = 0 then (some (.inl (some (.int 0)), h4)) else (some (.inl (some (.int 1)), h4))) ()) ()) ())) ()) ()) ()) else (G d 44005 4 [.ref a0, .int i1, jno] [] h) := by
  refine (g_iload_n c44005 dJ3_get_0 rfl).trans ?_
  refine (g_if_ge (tgt := 31) c44005 dJ3_get_1 rfl).trans (if_cg ?_ ?_)
  · skip
    refine (g_aload_n c44005 dJ3_get_31 rfl).trans ?_
    refine (g_virtual (as := [.ref a0]) (rest := []) c44005 dJ3_get_32 rfl rfl rfl rfl rfl).trans ((jback_V (κx := cX) (fun e h => jthrow_out rfl)).trans (cV_cg fun h2 => ?_))
    refine (g_iload_n c44005 dJ3_get_35 rfl).trans ?_
    refine (g_static (as := [.int i1]) (rest := []) c44005 dJ3_get_36 rfl rfl rfl rfl rfl).trans ((jback_I (κx := cX) (fun e h => jthrow_out rfl)).trans (cI_cg fun x3 h4 => ?_))
    refine (g_istore_n (L' := [.ref a0, .int i1, .int x3]) c44005 dJ3_get_39 rfl rfl).trans ?_
    refine (g_iload_n c44005 dJ3_get_40 rfl).trans ?_
    refine (g_aload_n c44005 dJ3_get_41 rfl).trans ?_
    refine (g_getI c44005 dJ3_get_42 rfl rfl).trans (rI_cg fun x5 => ?_)
    refine (g_icmp_ge (tgt := 67) c44005 dJ3_get_45 rfl).trans (if_cg ?_ ?_)
    · skip
      refine (g_iconst (x := 0) c44005 dJ3_get_67 rfl).trans ?_
      exact g_zreturn0 c44005 dJ3_get_68 rfl
    · skip
      refine (g_aload_n c44005 dJ3_get_48 rfl).trans ?_
      refine (g_getR c44005 dJ3_get_49 rfl).trans (rR_cg fun r6 => ?_)
      refine (g_iload_n c44005 dJ3_get_52 rfl).trans ?_
      refine (g_laload c44005 dJ3_get_53).trans (aG_cg fun w7 => rJ_cg fun x8 => ?_)
      refine (g_lconst (x := 1) c44005 dJ3_get_54 rfl).trans ?_
      refine (g_iload_n c44005 dJ3_get_55 rfl).trans ?_
      refine (g_lshl c44005 dJ3_get_56).trans ?_
      refine (g_land c44005 dJ3_get_57).trans ?_
      refine (g_lconst (x := 0) c44005 dJ3_get_58 rfl).trans ?_
      refine (g_lcmp c44005 dJ3_get_59).trans ?_
      refine (g_if_eq (tgt := 67) c44005 dJ3_get_60 rfl).trans (if_cg ?_ ?_)
      · skip
        refine (g_iconst (x := 0) c44005 dJ3_get_67 rfl).trans ?_
        exact g_zreturn0 c44005 dJ3_get_68 rfl
      · skip
        refine (g_iconst (x := 1) c44005 dJ3_get_63 rfl).trans ?_
        refine (g_goto (tgt := 68) c44005 dJ3_get_64 rfl).trans ?_
        exact g_zreturn1 c44005 dJ3_get_68 rfl
  · skip
    rfl
theorem X44005 {d : Nat} {a0 : Nat} {i1 : Int32} (h : AH) (hr : jrecv 44005 [.ref a0, .int i1] h = true) : M (d + 1) 44005 [.ref a0, .int i1] h = G d 44005 0 [.ref a0, .int i1, jno] [] h := M_eq rfl hr rfl
/-! java/util/BitSet.initWords(I)V -/
abbrev cJ3_initWords : ByteArray := prog_71_method_6_code
def dkwJ3_initWords_0 : List UInt8 := [42, 27, 4, 100, 184, 0, 52, 4, 96, 188, 11, 181, 0, 11, 177]
abbrev dktJ3_initWords_0 : List UInt8 := dkwJ3_initWords_0 ++ []
theorem dksJ3_initWords_0 : cJ3_initWords.data.toList.drop 0 = dktJ3_initWords_0 := by decide +kernel
theorem dJ3_initWords_0 : decode cJ3_initWords 0 = .ok (.aload_n 0, 1) := dk_42 (dk_at dksJ3_initWords_0 0 rfl rfl)
theorem dJ3_initWords_1 : decode cJ3_initWords 1 = .ok (.iload_n 1, 1) := dk_27 (dk_at dksJ3_initWords_0 1 rfl rfl)
theorem dJ3_initWords_2 : decode cJ3_initWords 2 = .ok (.iconst 1, 1) := dk_4 (dk_at dksJ3_initWords_0 2 rfl rfl)
theorem dJ3_initWords_3 : decode cJ3_initWords 3 = .ok (.isub, 1) := dk_100 (dk_at dksJ3_initWords_0 3 rfl rfl)
theorem dJ3_initWords_4 : decode cJ3_initWords 4 = .ok (.invokestatic 52, 3) := dk_184 0 52 (dk_at dksJ3_initWords_0 4 rfl rfl)
theorem dJ3_initWords_7 : decode cJ3_initWords 7 = .ok (.iconst 1, 1) := dk_4 (dk_at dksJ3_initWords_0 7 rfl rfl)
theorem dJ3_initWords_8 : decode cJ3_initWords 8 = .ok (.iadd, 1) := dk_96 (dk_at dksJ3_initWords_0 8 rfl rfl)
theorem dJ3_initWords_9 : decode cJ3_initWords 9 = .ok (.newarray .long, 2) := dk_188_11 (dk_at dksJ3_initWords_0 9 rfl rfl)
theorem dJ3_initWords_11 : decode cJ3_initWords 11 = .ok (.putfield 11, 3) := dk_181 0 11 (dk_at dksJ3_initWords_0 11 rfl rfl)
theorem dJ3_initWords_14 : decode cJ3_initWords 14 = .ok (.return_, 1) := dk_177 (dk_at dksJ3_initWords_0 14 rfl rfl)
theorem c44006 : jtCode 44006 = cJ3_initWords := rfl
theorem E44006_0 (d : Nat) (a0 : Nat) (i1 : Int32) (h : AH) : G d 44006 0 [.ref a0, .int i1] [] h = zcI (M d 44009 [.int (i1 - 1)] h) (fun x1 h2 => zqN (x1 + 1) (zqH (jpush h2 (1030, (x1 + 1).toNatClampNeg, fun _ => .long 0)) (fun h3 => zqF h3 (.ref a0) [44] 0 2 (.ref h2.1) (fun h4 => some (.inl none, h4)) ()) ()) ()) () := by
  refine (g_aload_n c44006 dJ3_initWords_0 rfl).trans ?_
  refine (g_iload_n c44006 dJ3_initWords_1 rfl).trans ?_
  refine (g_iconst (x := 1) c44006 dJ3_initWords_2 rfl).trans ?_
  refine (g_isub c44006 dJ3_initWords_3).trans ?_
  refine (g_static (as := [.int (i1 - 1)]) (rest := [.ref a0]) c44006 dJ3_initWords_4 rfl rfl rfl rfl rfl).trans ((jback_I (κx := cX) (fun e h => jthrow_out rfl)).trans (cI_cg fun x1 h2 => ?_))
  refine (g_iconst (x := 1) c44006 dJ3_initWords_7 rfl).trans ?_
  refine (g_iadd c44006 dJ3_initWords_8).trans ?_
  refine (g_newJ c44006 dJ3_initWords_9).trans (nA_cg ?_)
  refine nmZ ?_
  generalize jpush h2 (1030, (x1 + 1).toNatClampNeg, fun _ => .long 0) = h3
  refine (g_put c44006 dJ3_initWords_11 rfl).trans (pF_cg fun h4 => ?_)
  exact g_return c44006 dJ3_initWords_14 rfl
theorem X44006 {d : Nat} {a0 : Nat} {i1 : Int32} (h : AH) (hr : jrecv 44006 [.ref a0, .int i1] h = true) : M (d + 1) 44006 [.ref a0, .int i1] h = G d 44006 0 [.ref a0, .int i1] [] h := M_eq rfl hr rfl
/-! java/util/BitSet.nextSetBit(I)I -/
abbrev cJ3_nextSetBit : ByteArray := prog_71_method_28_code
def dkwJ3_nextSetBit_4 : List UInt8 := [28, 47, 66, 167, 255, 220]
abbrev dktJ3_nextSetBit_4 : List UInt8 := dkwJ3_nextSetBit_4 ++ []
def dkwJ3_nextSetBit_3 : List UInt8 := [104, 33, 184, 0, 182, 96, 172, 132, 2, 1, 28, 42, 180, 0, 7, 160, 0, 5, 2, 172, 42, 180, 0, 11]
abbrev dktJ3_nextSetBit_3 : List UInt8 := dkwJ3_nextSetBit_3 ++ dktJ3_nextSetBit_4
def dkwJ3_nextSetBit_2 : List UInt8 := [2, 172, 42, 180, 0, 11, 28, 47, 20, 0, 165, 27, 121, 127, 66, 33, 9, 148, 153, 0, 13, 28, 16, 64]
abbrev dktJ3_nextSetBit_2 : List UInt8 := dkwJ3_nextSetBit_2 ++ dktJ3_nextSetBit_3
def dkwJ3_nextSetBit_1 : List UInt8 := [182, 0, 45, 183, 0, 146, 191, 42, 182, 0, 56, 27, 184, 0, 52, 61, 28, 42, 180, 0, 7, 161, 0, 5]
abbrev dktJ3_nextSetBit_1 : List UInt8 := dkwJ3_nextSetBit_1 ++ dktJ3_nextSetBit_2
def dkwJ3_nextSetBit_0 : List UInt8 := [27, 156, 0, 30, 187, 0, 142, 89, 187, 0, 33, 89, 183, 0, 35, 18, 144, 182, 0, 38, 27, 182, 0, 42]
abbrev dktJ3_nextSetBit_0 : List UInt8 := dkwJ3_nextSetBit_0 ++ dktJ3_nextSetBit_1
theorem dksJ3_nextSetBit_0 : cJ3_nextSetBit.data.toList.drop 0 = dktJ3_nextSetBit_0 := by decide +kernel
theorem dksJ3_nextSetBit_1 : cJ3_nextSetBit.data.toList.drop 24 = dktJ3_nextSetBit_1 := dk_seg dksJ3_nextSetBit_0 24 rfl rfl
theorem dksJ3_nextSetBit_2 : cJ3_nextSetBit.data.toList.drop 48 = dktJ3_nextSetBit_2 := dk_seg dksJ3_nextSetBit_1 24 rfl rfl
theorem dksJ3_nextSetBit_3 : cJ3_nextSetBit.data.toList.drop 72 = dktJ3_nextSetBit_3 := dk_seg dksJ3_nextSetBit_2 24 rfl rfl
theorem dksJ3_nextSetBit_4 : cJ3_nextSetBit.data.toList.drop 96 = dktJ3_nextSetBit_4 := dk_seg dksJ3_nextSetBit_3 24 rfl rfl
theorem dJ3_nextSetBit_0 : decode cJ3_nextSetBit 0 = .ok (.iload_n 1, 1) := dk_27 (dk_at dksJ3_nextSetBit_0 0 rfl rfl)
theorem dJ3_nextSetBit_1 : decode cJ3_nextSetBit 1 = .ok (.ifCond .ge 30, 3) := dk_156 0 30 (dk_at dksJ3_nextSetBit_0 1 rfl rfl)
theorem dJ3_nextSetBit_4 : decode cJ3_nextSetBit 4 = .ok (.new 142, 3) := dk_187 0 142 (dk_at dksJ3_nextSetBit_0 4 rfl rfl)
theorem dJ3_nextSetBit_7 : decode cJ3_nextSetBit 7 = .ok (.dup, 1) := dk_89 (dk_at dksJ3_nextSetBit_0 7 rfl rfl)
theorem dJ3_nextSetBit_8 : decode cJ3_nextSetBit 8 = .ok (.new 33, 3) := dk_187 0 33 (dk_at dksJ3_nextSetBit_0 8 rfl rfl)
theorem dJ3_nextSetBit_11 : decode cJ3_nextSetBit 11 = .ok (.dup, 1) := dk_89 (dk_at dksJ3_nextSetBit_0 11 rfl rfl)
theorem dJ3_nextSetBit_12 : decode cJ3_nextSetBit 12 = .ok (.invokespecial 35, 3) := dk_183 0 35 (dk_at dksJ3_nextSetBit_0 12 rfl rfl)
theorem dJ3_nextSetBit_15 : decode cJ3_nextSetBit 15 = .ok (.ldc 144, 2) := dk_18 144 (dk_at dksJ3_nextSetBit_0 15 rfl rfl)
theorem dJ3_nextSetBit_17 : decode cJ3_nextSetBit 17 = .ok (.invokevirtual 38, 3) := dk_182 0 38 (dk_at dksJ3_nextSetBit_0 17 rfl rfl)
theorem dJ3_nextSetBit_20 : decode cJ3_nextSetBit 20 = .ok (.iload_n 1, 1) := dk_27 (dk_at dksJ3_nextSetBit_0 20 rfl rfl)
theorem dJ3_nextSetBit_21 : decode cJ3_nextSetBit 21 = .ok (.invokevirtual 42, 3) := dk_182 0 42 (dk_at dksJ3_nextSetBit_0 21 rfl rfl)
theorem dJ3_nextSetBit_24 : decode cJ3_nextSetBit 24 = .ok (.invokevirtual 45, 3) := dk_182 0 45 (dk_at dksJ3_nextSetBit_1 0 rfl rfl)
theorem dJ3_nextSetBit_27 : decode cJ3_nextSetBit 27 = .ok (.invokespecial 146, 3) := dk_183 0 146 (dk_at dksJ3_nextSetBit_1 3 rfl rfl)
theorem dJ3_nextSetBit_30 : decode cJ3_nextSetBit 30 = .ok (.athrow, 1) := dk_191 (dk_at dksJ3_nextSetBit_1 6 rfl rfl)
theorem dJ3_nextSetBit_31 : decode cJ3_nextSetBit 31 = .ok (.aload_n 0, 1) := dk_42 (dk_at dksJ3_nextSetBit_1 7 rfl rfl)
theorem dJ3_nextSetBit_32 : decode cJ3_nextSetBit 32 = .ok (.invokevirtual 56, 3) := dk_182 0 56 (dk_at dksJ3_nextSetBit_1 8 rfl rfl)
theorem dJ3_nextSetBit_35 : decode cJ3_nextSetBit 35 = .ok (.iload_n 1, 1) := dk_27 (dk_at dksJ3_nextSetBit_1 11 rfl rfl)
theorem dJ3_nextSetBit_36 : decode cJ3_nextSetBit 36 = .ok (.invokestatic 52, 3) := dk_184 0 52 (dk_at dksJ3_nextSetBit_1 12 rfl rfl)
theorem dJ3_nextSetBit_39 : decode cJ3_nextSetBit 39 = .ok (.istore_n 2, 1) := dk_61 (dk_at dksJ3_nextSetBit_1 15 rfl rfl)
theorem dJ3_nextSetBit_40 : decode cJ3_nextSetBit 40 = .ok (.iload_n 2, 1) := dk_28 (dk_at dksJ3_nextSetBit_1 16 rfl rfl)
theorem dJ3_nextSetBit_41 : decode cJ3_nextSetBit 41 = .ok (.aload_n 0, 1) := dk_42 (dk_at dksJ3_nextSetBit_1 17 rfl rfl)
theorem dJ3_nextSetBit_42 : decode cJ3_nextSetBit 42 = .ok (.getfield 7, 3) := dk_180 0 7 (dk_at dksJ3_nextSetBit_1 18 rfl rfl)
theorem dJ3_nextSetBit_45 : decode cJ3_nextSetBit 45 = .ok (.if_icmp .lt 5, 3) := dk_161 0 5 (dk_at dksJ3_nextSetBit_1 21 rfl rfl)
theorem dJ3_nextSetBit_48 : decode cJ3_nextSetBit 48 = .ok (.iconst (-1), 1) := dk_2 (dk_at dksJ3_nextSetBit_2 0 rfl rfl)
theorem dJ3_nextSetBit_49 : decode cJ3_nextSetBit 49 = .ok (.ireturn, 1) := dk_172 (dk_at dksJ3_nextSetBit_2 1 rfl rfl)
theorem dJ3_nextSetBit_50 : decode cJ3_nextSetBit 50 = .ok (.aload_n 0, 1) := dk_42 (dk_at dksJ3_nextSetBit_2 2 rfl rfl)
theorem dJ3_nextSetBit_51 : decode cJ3_nextSetBit 51 = .ok (.getfield 11, 3) := dk_180 0 11 (dk_at dksJ3_nextSetBit_2 3 rfl rfl)
theorem dJ3_nextSetBit_54 : decode cJ3_nextSetBit 54 = .ok (.iload_n 2, 1) := dk_28 (dk_at dksJ3_nextSetBit_2 6 rfl rfl)
theorem dJ3_nextSetBit_55 : decode cJ3_nextSetBit 55 = .ok (.laload, 1) := dk_47 (dk_at dksJ3_nextSetBit_2 7 rfl rfl)
theorem dJ3_nextSetBit_56 : decode cJ3_nextSetBit 56 = .ok (.ldc2_w 165, 3) := dk_20 0 165 (dk_at dksJ3_nextSetBit_2 8 rfl rfl)
theorem dJ3_nextSetBit_59 : decode cJ3_nextSetBit 59 = .ok (.iload_n 1, 1) := dk_27 (dk_at dksJ3_nextSetBit_2 11 rfl rfl)
theorem dJ3_nextSetBit_60 : decode cJ3_nextSetBit 60 = .ok (.lshl, 1) := dk_121 (dk_at dksJ3_nextSetBit_2 12 rfl rfl)
theorem dJ3_nextSetBit_61 : decode cJ3_nextSetBit 61 = .ok (.land, 1) := dk_127 (dk_at dksJ3_nextSetBit_2 13 rfl rfl)
theorem dJ3_nextSetBit_62 : decode cJ3_nextSetBit 62 = .ok (.lstore_n 3, 1) := dk_66 (dk_at dksJ3_nextSetBit_2 14 rfl rfl)
theorem dJ3_nextSetBit_63 : decode cJ3_nextSetBit 63 = .ok (.lload_n 3, 1) := dk_33 (dk_at dksJ3_nextSetBit_2 15 rfl rfl)
theorem dJ3_nextSetBit_64 : decode cJ3_nextSetBit 64 = .ok (.lconst 0, 1) := dk_9 (dk_at dksJ3_nextSetBit_2 16 rfl rfl)
theorem dJ3_nextSetBit_65 : decode cJ3_nextSetBit 65 = .ok (.lcmp, 1) := dk_148 (dk_at dksJ3_nextSetBit_2 17 rfl rfl)
theorem dJ3_nextSetBit_66 : decode cJ3_nextSetBit 66 = .ok (.ifCond .eq 13, 3) := dk_153 0 13 (dk_at dksJ3_nextSetBit_2 18 rfl rfl)
theorem dJ3_nextSetBit_69 : decode cJ3_nextSetBit 69 = .ok (.iload_n 2, 1) := dk_28 (dk_at dksJ3_nextSetBit_2 21 rfl rfl)
theorem dJ3_nextSetBit_70 : decode cJ3_nextSetBit 70 = .ok (.bipush 64, 2) := dk_16 64 (dk_at dksJ3_nextSetBit_2 22 rfl rfl)
theorem dJ3_nextSetBit_72 : decode cJ3_nextSetBit 72 = .ok (.imul, 1) := dk_104 (dk_at dksJ3_nextSetBit_3 0 rfl rfl)
theorem dJ3_nextSetBit_73 : decode cJ3_nextSetBit 73 = .ok (.lload_n 3, 1) := dk_33 (dk_at dksJ3_nextSetBit_3 1 rfl rfl)
theorem dJ3_nextSetBit_74 : decode cJ3_nextSetBit 74 = .ok (.invokestatic 182, 3) := dk_184 0 182 (dk_at dksJ3_nextSetBit_3 2 rfl rfl)
theorem dJ3_nextSetBit_77 : decode cJ3_nextSetBit 77 = .ok (.iadd, 1) := dk_96 (dk_at dksJ3_nextSetBit_3 5 rfl rfl)
theorem dJ3_nextSetBit_78 : decode cJ3_nextSetBit 78 = .ok (.ireturn, 1) := dk_172 (dk_at dksJ3_nextSetBit_3 6 rfl rfl)
theorem dJ3_nextSetBit_79 : decode cJ3_nextSetBit 79 = .ok (.iinc 2 1, 3) := dk_132 2 1 (dk_at dksJ3_nextSetBit_3 7 rfl rfl)
theorem dJ3_nextSetBit_82 : decode cJ3_nextSetBit 82 = .ok (.iload_n 2, 1) := dk_28 (dk_at dksJ3_nextSetBit_3 10 rfl rfl)
theorem dJ3_nextSetBit_83 : decode cJ3_nextSetBit 83 = .ok (.aload_n 0, 1) := dk_42 (dk_at dksJ3_nextSetBit_3 11 rfl rfl)
theorem dJ3_nextSetBit_84 : decode cJ3_nextSetBit 84 = .ok (.getfield 7, 3) := dk_180 0 7 (dk_at dksJ3_nextSetBit_3 12 rfl rfl)
theorem dJ3_nextSetBit_87 : decode cJ3_nextSetBit 87 = .ok (.if_icmp .ne 5, 3) := dk_160 0 5 (dk_at dksJ3_nextSetBit_3 15 rfl rfl)
theorem dJ3_nextSetBit_90 : decode cJ3_nextSetBit 90 = .ok (.iconst (-1), 1) := dk_2 (dk_at dksJ3_nextSetBit_3 18 rfl rfl)
theorem dJ3_nextSetBit_91 : decode cJ3_nextSetBit 91 = .ok (.ireturn, 1) := dk_172 (dk_at dksJ3_nextSetBit_3 19 rfl rfl)
theorem dJ3_nextSetBit_92 : decode cJ3_nextSetBit 92 = .ok (.aload_n 0, 1) := dk_42 (dk_at dksJ3_nextSetBit_3 20 rfl rfl)
theorem dJ3_nextSetBit_93 : decode cJ3_nextSetBit 93 = .ok (.getfield 11, 3) := dk_180 0 11 (dk_at dksJ3_nextSetBit_3 21 rfl rfl)
theorem dJ3_nextSetBit_96 : decode cJ3_nextSetBit 96 = .ok (.iload_n 2, 1) := dk_28 (dk_at dksJ3_nextSetBit_4 0 rfl rfl)
theorem dJ3_nextSetBit_97 : decode cJ3_nextSetBit 97 = .ok (.laload, 1) := dk_47 (dk_at dksJ3_nextSetBit_4 1 rfl rfl)
theorem dJ3_nextSetBit_98 : decode cJ3_nextSetBit 98 = .ok (.lstore_n 3, 1) := dk_66 (dk_at dksJ3_nextSetBit_4 2 rfl rfl)
theorem dJ3_nextSetBit_99 : decode cJ3_nextSetBit 99 = .ok (.goto (-36), 3) := dk_167 255 220 (dk_at dksJ3_nextSetBit_4 3 rfl rfl)
theorem c44007 : jtCode 44007 = cJ3_nextSetBit := rfl
theorem E44007_0 (d : Nat) (a0 : Nat) (i1 : Int32) (h : AH) : G d 44007 0 [.ref a0, .int i1, jno, jno, jno] [] h = if 0 ≤ i1 then (zcV (M d 44001 [.ref a0] h) (fun h2 => zcI (M d 44009 [.int i1] h2) (fun x3 h4 => zpI (jf (jc h4 (.ref a0)) [44] 1) (fun x5 => if x3 < x5 then (zpR (jf (jc h4 (.ref a0)) [44] 0) (fun r6 => zqG h4 r6 [1030] x3 (fun w7 => zpJ w7 (fun x8 => G d 44007 63 [.ref a0, .int i1, .int x3, .long (x8 &&& ((-1 : Int64) <<< (i1.toInt64 &&& 63))), jhalf] [] h4) ()) ()) ()) else (some (.inl (some (.int (-1))), h4))) ()) ()) ()) else (G d 44007 4 [.ref a0, .int i1, jno, jno, jno] [] h) := by
  refine (g_iload_n c44007 dJ3_nextSetBit_0 rfl).trans ?_
  refine (g_if_ge (tgt := 31) c44007 dJ3_nextSetBit_1 rfl).trans (if_cg ?_ ?_)
  · skip
    refine (g_aload_n c44007 dJ3_nextSetBit_31 rfl).trans ?_
    refine (g_virtual (as := [.ref a0]) (rest := []) c44007 dJ3_nextSetBit_32 rfl rfl rfl rfl rfl).trans ((jback_V (κx := cX) (fun e h => jthrow_out rfl)).trans (cV_cg fun h2 => ?_))
    refine (g_iload_n c44007 dJ3_nextSetBit_35 rfl).trans ?_
    refine (g_static (as := [.int i1]) (rest := []) c44007 dJ3_nextSetBit_36 rfl rfl rfl rfl rfl).trans ((jback_I (κx := cX) (fun e h => jthrow_out rfl)).trans (cI_cg fun x3 h4 => ?_))
    refine (g_istore_n (L' := [.ref a0, .int i1, .int x3, jno, jno]) c44007 dJ3_nextSetBit_39 rfl rfl).trans ?_
    refine (g_iload_n c44007 dJ3_nextSetBit_40 rfl).trans ?_
    refine (g_aload_n c44007 dJ3_nextSetBit_41 rfl).trans ?_
    refine (g_getI c44007 dJ3_nextSetBit_42 rfl rfl).trans (rI_cg fun x5 => ?_)
    refine (g_icmp_lt (tgt := 50) c44007 dJ3_nextSetBit_45 rfl).trans (if_cg ?_ ?_)
    · skip
      refine (g_aload_n c44007 dJ3_nextSetBit_50 rfl).trans ?_
      refine (g_getR c44007 dJ3_nextSetBit_51 rfl).trans (rR_cg fun r6 => ?_)
      refine (g_iload_n c44007 dJ3_nextSetBit_54 rfl).trans ?_
      refine (g_laload c44007 dJ3_nextSetBit_55).trans (aG_cg fun w7 => rJ_cg fun x8 => ?_)
      refine (g_ldc2 (x := (-1)) c44007 dJ3_nextSetBit_56 rfl).trans ?_
      refine (g_iload_n c44007 dJ3_nextSetBit_59 rfl).trans ?_
      refine (g_lshl c44007 dJ3_nextSetBit_60).trans ?_
      refine (g_land c44007 dJ3_nextSetBit_61).trans ?_
      refine (g_lstore_n (L' := [.ref a0, .int i1, .int x3, .long (x8 &&& ((-1 : Int64) <<< (i1.toInt64 &&& 63))), jhalf]) c44007 dJ3_nextSetBit_62 rfl rfl).trans ?_
      rfl
    · skip
      refine (g_iconst (x := (-1)) c44007 dJ3_nextSetBit_48 rfl).trans ?_
      exact g_ireturn c44007 dJ3_nextSetBit_49 rfl
  · skip
    rfl
theorem E44007_63 (d : Nat) (a0 : Nat) (i1 : Int32) (i2 : Int32) (j3 : Int64) (h : AH) : G d 44007 63 [.ref a0, .int i1, .int i2, .long j3, jhalf] [] h = if (lcm j3 0) = 0 then (zpI (jf (jc h (.ref a0)) [44] 1) (fun x1 => if (i2 + 1) = x1 then (some (.inl (some (.int (-1))), h)) else (zpR (jf (jc h (.ref a0)) [44] 0) (fun r2 => zqG h r2 [1030] (i2 + 1) (fun w3 => zpJ w3 (fun x4 => G d 44007 63 [.ref a0, .int i1, .int (i2 + 1), .long x4, jhalf] [] h) ()) ()) ())) ()) else (zcI (M d 61002 [.long j3] h) (fun x5 h6 => some (.inl (some (.int ((i2 * 64) + x5))), h6)) ()) := by
  refine (g_lload_n c44007 dJ3_nextSetBit_63 rfl rfl).trans ?_
  refine (g_lconst (x := 0) c44007 dJ3_nextSetBit_64 rfl).trans ?_
  refine (g_lcmp c44007 dJ3_nextSetBit_65).trans ?_
  refine (g_if_eq (tgt := 79) c44007 dJ3_nextSetBit_66 rfl).trans (if_cg ?_ ?_)
  · skip
    refine (g_iinc (c := 1) (L' := [.ref a0, .int i1, .int (i2 + 1), .long j3, jhalf]) c44007 dJ3_nextSetBit_79 rfl rfl rfl rfl).trans ?_
    refine (g_iload_n c44007 dJ3_nextSetBit_82 rfl).trans ?_
    refine (g_aload_n c44007 dJ3_nextSetBit_83 rfl).trans ?_
    refine (g_getI c44007 dJ3_nextSetBit_84 rfl rfl).trans (rI_cg fun x1 => ?_)
    refine (g_icmp_ne (tgt := 92) c44007 dJ3_nextSetBit_87 rfl).trans (if_cg ?_ ?_)
    · skip
      refine (g_iconst (x := (-1)) c44007 dJ3_nextSetBit_90 rfl).trans ?_
      exact g_ireturn c44007 dJ3_nextSetBit_91 rfl
    · skip
      refine (g_aload_n c44007 dJ3_nextSetBit_92 rfl).trans ?_
      refine (g_getR c44007 dJ3_nextSetBit_93 rfl).trans (rR_cg fun r2 => ?_)
      refine (g_iload_n c44007 dJ3_nextSetBit_96 rfl).trans ?_
      refine (g_laload c44007 dJ3_nextSetBit_97).trans (aG_cg fun w3 => rJ_cg fun x4 => ?_)
      refine (g_lstore_n (L' := [.ref a0, .int i1, .int (i2 + 1), .long x4, jhalf]) c44007 dJ3_nextSetBit_98 rfl rfl).trans ?_
      refine (g_goto (tgt := 63) c44007 dJ3_nextSetBit_99 rfl).trans ?_
      rfl
  · skip
    refine (g_iload_n c44007 dJ3_nextSetBit_69 rfl).trans ?_
    refine (g_bipush (x := 64) c44007 dJ3_nextSetBit_70 rfl).trans ?_
    refine (g_imul c44007 dJ3_nextSetBit_72).trans ?_
    refine (g_lload_n c44007 dJ3_nextSetBit_73 rfl rfl).trans ?_
    refine (g_static (as := [.long j3]) (rest := [.int (i2 * 64)]) c44007 dJ3_nextSetBit_74 rfl rfl rfl rfl rfl).trans ((jback_I (κx := cX) (fun e h => jthrow_out rfl)).trans (cI_cg fun x5 h6 => ?_))
    refine (g_iadd c44007 dJ3_nextSetBit_77).trans ?_
    exact g_ireturn c44007 dJ3_nextSetBit_78 rfl
theorem X44007 {d : Nat} {a0 : Nat} {i1 : Int32} (h : AH) (hr : jrecv 44007 [.ref a0, .int i1] h = true) : M (d + 1) 44007 [.ref a0, .int i1] h = G d 44007 0 [.ref a0, .int i1, jno, jno, jno] [] h := M_eq rfl hr rfl
/-! java/util/BitSet.set(I)V -/
abbrev cJ3_set : ByteArray := prog_71_method_19_code
def dkwJ3_set_2 : List UInt8 := [10, 27, 121, 129, 80, 42, 182, 0, 56, 177]
abbrev dktJ3_set_2 : List UInt8 := dkwJ3_set_2 ++ []
def dkwJ3_set_1 : List UInt8 := [182, 0, 45, 183, 0, 146, 191, 27, 184, 0, 52, 61, 42, 28, 182, 0, 155, 42, 180, 0, 11, 28, 92, 47]
abbrev dktJ3_set_1 : List UInt8 := dkwJ3_set_1 ++ dktJ3_set_2
def dkwJ3_set_0 : List UInt8 := [27, 156, 0, 30, 187, 0, 142, 89, 187, 0, 33, 89, 183, 0, 35, 18, 153, 182, 0, 38, 27, 182, 0, 42]
abbrev dktJ3_set_0 : List UInt8 := dkwJ3_set_0 ++ dktJ3_set_1
theorem dksJ3_set_0 : cJ3_set.data.toList.drop 0 = dktJ3_set_0 := by decide +kernel
theorem dksJ3_set_1 : cJ3_set.data.toList.drop 24 = dktJ3_set_1 := dk_seg dksJ3_set_0 24 rfl rfl
theorem dksJ3_set_2 : cJ3_set.data.toList.drop 48 = dktJ3_set_2 := dk_seg dksJ3_set_1 24 rfl rfl
theorem dJ3_set_0 : decode cJ3_set 0 = .ok (.iload_n 1, 1) := dk_27 (dk_at dksJ3_set_0 0 rfl rfl)
theorem dJ3_set_1 : decode cJ3_set 1 = .ok (.ifCond .ge 30, 3) := dk_156 0 30 (dk_at dksJ3_set_0 1 rfl rfl)
theorem dJ3_set_4 : decode cJ3_set 4 = .ok (.new 142, 3) := dk_187 0 142 (dk_at dksJ3_set_0 4 rfl rfl)
theorem dJ3_set_7 : decode cJ3_set 7 = .ok (.dup, 1) := dk_89 (dk_at dksJ3_set_0 7 rfl rfl)
theorem dJ3_set_8 : decode cJ3_set 8 = .ok (.new 33, 3) := dk_187 0 33 (dk_at dksJ3_set_0 8 rfl rfl)
theorem dJ3_set_11 : decode cJ3_set 11 = .ok (.dup, 1) := dk_89 (dk_at dksJ3_set_0 11 rfl rfl)
theorem dJ3_set_12 : decode cJ3_set 12 = .ok (.invokespecial 35, 3) := dk_183 0 35 (dk_at dksJ3_set_0 12 rfl rfl)
theorem dJ3_set_15 : decode cJ3_set 15 = .ok (.ldc 153, 2) := dk_18 153 (dk_at dksJ3_set_0 15 rfl rfl)
theorem dJ3_set_17 : decode cJ3_set 17 = .ok (.invokevirtual 38, 3) := dk_182 0 38 (dk_at dksJ3_set_0 17 rfl rfl)
theorem dJ3_set_20 : decode cJ3_set 20 = .ok (.iload_n 1, 1) := dk_27 (dk_at dksJ3_set_0 20 rfl rfl)
theorem dJ3_set_21 : decode cJ3_set 21 = .ok (.invokevirtual 42, 3) := dk_182 0 42 (dk_at dksJ3_set_0 21 rfl rfl)
theorem dJ3_set_24 : decode cJ3_set 24 = .ok (.invokevirtual 45, 3) := dk_182 0 45 (dk_at dksJ3_set_1 0 rfl rfl)
theorem dJ3_set_27 : decode cJ3_set 27 = .ok (.invokespecial 146, 3) := dk_183 0 146 (dk_at dksJ3_set_1 3 rfl rfl)
theorem dJ3_set_30 : decode cJ3_set 30 = .ok (.athrow, 1) := dk_191 (dk_at dksJ3_set_1 6 rfl rfl)
theorem dJ3_set_31 : decode cJ3_set 31 = .ok (.iload_n 1, 1) := dk_27 (dk_at dksJ3_set_1 7 rfl rfl)
theorem dJ3_set_32 : decode cJ3_set 32 = .ok (.invokestatic 52, 3) := dk_184 0 52 (dk_at dksJ3_set_1 8 rfl rfl)
theorem dJ3_set_35 : decode cJ3_set 35 = .ok (.istore_n 2, 1) := dk_61 (dk_at dksJ3_set_1 11 rfl rfl)
theorem dJ3_set_36 : decode cJ3_set 36 = .ok (.aload_n 0, 1) := dk_42 (dk_at dksJ3_set_1 12 rfl rfl)
theorem dJ3_set_37 : decode cJ3_set 37 = .ok (.iload_n 2, 1) := dk_28 (dk_at dksJ3_set_1 13 rfl rfl)
theorem dJ3_set_38 : decode cJ3_set 38 = .ok (.invokevirtual 155, 3) := dk_182 0 155 (dk_at dksJ3_set_1 14 rfl rfl)
theorem dJ3_set_41 : decode cJ3_set 41 = .ok (.aload_n 0, 1) := dk_42 (dk_at dksJ3_set_1 17 rfl rfl)
theorem dJ3_set_42 : decode cJ3_set 42 = .ok (.getfield 11, 3) := dk_180 0 11 (dk_at dksJ3_set_1 18 rfl rfl)
theorem dJ3_set_45 : decode cJ3_set 45 = .ok (.iload_n 2, 1) := dk_28 (dk_at dksJ3_set_1 21 rfl rfl)
theorem dJ3_set_46 : decode cJ3_set 46 = .ok (.dup2, 1) := dk_92 (dk_at dksJ3_set_1 22 rfl rfl)
theorem dJ3_set_47 : decode cJ3_set 47 = .ok (.laload, 1) := dk_47 (dk_at dksJ3_set_1 23 rfl rfl)
theorem dJ3_set_48 : decode cJ3_set 48 = .ok (.lconst 1, 1) := dk_10 (dk_at dksJ3_set_2 0 rfl rfl)
theorem dJ3_set_49 : decode cJ3_set 49 = .ok (.iload_n 1, 1) := dk_27 (dk_at dksJ3_set_2 1 rfl rfl)
theorem dJ3_set_50 : decode cJ3_set 50 = .ok (.lshl, 1) := dk_121 (dk_at dksJ3_set_2 2 rfl rfl)
theorem dJ3_set_51 : decode cJ3_set 51 = .ok (.lor, 1) := dk_129 (dk_at dksJ3_set_2 3 rfl rfl)
theorem dJ3_set_52 : decode cJ3_set 52 = .ok (.lastore, 1) := dk_80 (dk_at dksJ3_set_2 4 rfl rfl)
theorem dJ3_set_53 : decode cJ3_set 53 = .ok (.aload_n 0, 1) := dk_42 (dk_at dksJ3_set_2 5 rfl rfl)
theorem dJ3_set_54 : decode cJ3_set 54 = .ok (.invokevirtual 56, 3) := dk_182 0 56 (dk_at dksJ3_set_2 6 rfl rfl)
theorem dJ3_set_57 : decode cJ3_set 57 = .ok (.return_, 1) := dk_177 (dk_at dksJ3_set_2 9 rfl rfl)
theorem c44008 : jtCode 44008 = cJ3_set := rfl
theorem E44008_0 (d : Nat) (a0 : Nat) (i1 : Int32) (h : AH) : G d 44008 0 [.ref a0, .int i1, jno] [] h = if 0 ≤ i1 then (zcI (M d 44009 [.int i1] h) (fun x1 h2 => zcV (M d 44004 [.ref a0, .int x1] h2) (fun h4 => zpR (jf (jc h4 (.ref a0)) [44] 0) (fun r5 => zkW r5 (zqG h4 r5 [1030] x1 (fun w6 => zpJ w6 (fun x7 => zqS h4 r5 [1030] x1 (.long (x7 ||| ((1 : Int64) <<< (i1.toInt64 &&& 63)))) (fun h8 => zcV (M d 44001 [.ref a0] h8) (fun h10 => some (.inl none, h10)) ()) ()) ()) ()) ()) ()) ()) ()) else (G d 44008 4 [.ref a0, .int i1, jno] [] h) := by
  refine (g_iload_n c44008 dJ3_set_0 rfl).trans ?_
  refine (g_if_ge (tgt := 31) c44008 dJ3_set_1 rfl).trans (if_cg ?_ ?_)
  · skip
    refine (g_iload_n c44008 dJ3_set_31 rfl).trans ?_
    refine (g_static (as := [.int i1]) (rest := []) c44008 dJ3_set_32 rfl rfl rfl rfl rfl).trans ((jback_I (κx := cX) (fun e h => jthrow_out rfl)).trans (cI_cg fun x1 h2 => ?_))
    refine (g_istore_n (L' := [.ref a0, .int i1, .int x1]) c44008 dJ3_set_35 rfl rfl).trans ?_
    refine (g_aload_n c44008 dJ3_set_36 rfl).trans ?_
    refine (g_iload_n c44008 dJ3_set_37 rfl).trans ?_
    refine (g_virtual (as := [.ref a0, .int x1]) (rest := []) c44008 dJ3_set_38 rfl rfl rfl rfl rfl).trans ((jback_V (κx := cX) (fun e h => jthrow_out rfl)).trans (cV_cg fun h4 => ?_))
    refine (g_aload_n c44008 dJ3_set_41 rfl).trans ?_
    refine (g_getR c44008 dJ3_set_42 rfl).trans (rR_cg fun r5 => ?_)
    refine (g_iload_n c44008 dJ3_set_45 rfl).trans ?_
    refine (g_dup2_iv c44008 dJ3_set_46).trans (ckW_cg ?_)
    refine (g_laload c44008 dJ3_set_47).trans (aG_cg fun w6 => rJ_cg fun x7 => ?_)
    refine (g_lconst (x := 1) c44008 dJ3_set_48 rfl).trans ?_
    refine (g_iload_n c44008 dJ3_set_49 rfl).trans ?_
    refine (g_lshl c44008 dJ3_set_50).trans ?_
    refine (g_lor c44008 dJ3_set_51).trans ?_
    refine (g_lastore c44008 dJ3_set_52).trans (aS_cg fun h8 => ?_)
    refine (g_aload_n c44008 dJ3_set_53 rfl).trans ?_
    refine (g_virtual (as := [.ref a0]) (rest := []) c44008 dJ3_set_54 rfl rfl rfl rfl rfl).trans ((jback_V (κx := cX) (fun e h => jthrow_out rfl)).trans (cV_cg fun h10 => ?_))
    exact g_return c44008 dJ3_set_57 rfl
  · skip
    rfl
theorem X44008 {d : Nat} {a0 : Nat} {i1 : Int32} (h : AH) (hr : jrecv 44008 [.ref a0, .int i1] h = true) : M (d + 1) 44008 [.ref a0, .int i1] h = G d 44008 0 [.ref a0, .int i1, jno] [] h := M_eq rfl hr rfl
/-! java/util/BitSet.wordIndex(I)I -/
abbrev cJ3_wordIndex : ByteArray := prog_71_method_1_code
def dkwJ3_wordIndex_0 : List UInt8 := [26, 16, 6, 122, 172]
abbrev dktJ3_wordIndex_0 : List UInt8 := dkwJ3_wordIndex_0 ++ []
theorem dksJ3_wordIndex_0 : cJ3_wordIndex.data.toList.drop 0 = dktJ3_wordIndex_0 := by decide +kernel
theorem dJ3_wordIndex_0 : decode cJ3_wordIndex 0 = .ok (.iload_n 0, 1) := dk_26 (dk_at dksJ3_wordIndex_0 0 rfl rfl)
theorem dJ3_wordIndex_1 : decode cJ3_wordIndex 1 = .ok (.bipush 6, 2) := dk_16 6 (dk_at dksJ3_wordIndex_0 1 rfl rfl)
theorem dJ3_wordIndex_3 : decode cJ3_wordIndex 3 = .ok (.ishr, 1) := dk_122 (dk_at dksJ3_wordIndex_0 3 rfl rfl)
theorem dJ3_wordIndex_4 : decode cJ3_wordIndex 4 = .ok (.ireturn, 1) := dk_172 (dk_at dksJ3_wordIndex_0 4 rfl rfl)
theorem c44009 : jtCode 44009 = cJ3_wordIndex := rfl
theorem E44009_0 (d : Nat) (i0 : Int32) (h : AH) : G d 44009 0 [.int i0] [] h = some (.inl (some (.int (i0 >>> ((6 : Int32) &&& 31)))), h) := by
  refine (g_iload_n c44009 dJ3_wordIndex_0 rfl).trans ?_
  refine (g_bipush (x := 6) c44009 dJ3_wordIndex_1 rfl).trans ?_
  refine (g_ishr c44009 dJ3_wordIndex_3).trans ?_
  exact g_ireturn c44009 dJ3_wordIndex_4 rfl
theorem X44009 {d : Nat} {i0 : Int32} (h : AH) : M (d + 1) 44009 [.int i0] h = G d 44009 0 [.int i0] [] h := M_eq rfl rfl rfl
/-! java/util/BitSet.<init>()V -/
abbrev cJ3_init : ByteArray := prog_71_method_4_code
def dkwJ3_init_1 : List UInt8 := [181, 0, 24, 177]
abbrev dktJ3_init_1 : List UInt8 := dkwJ3_init_1 ++ []
def dkwJ3_init_0 : List UInt8 := [42, 183, 0, 21, 42, 3, 181, 0, 7, 42, 3, 181, 0, 24, 42, 16, 64, 182, 0, 27, 42, 3]
abbrev dktJ3_init_0 : List UInt8 := dkwJ3_init_0 ++ dktJ3_init_1
theorem dksJ3_init_0 : cJ3_init.data.toList.drop 0 = dktJ3_init_0 := by decide +kernel
theorem dksJ3_init_1 : cJ3_init.data.toList.drop 22 = dktJ3_init_1 := dk_seg dksJ3_init_0 22 rfl rfl
theorem dJ3_init_0 : decode cJ3_init 0 = .ok (.aload_n 0, 1) := dk_42 (dk_at dksJ3_init_0 0 rfl rfl)
theorem dJ3_init_1 : decode cJ3_init 1 = .ok (.invokespecial 21, 3) := dk_183 0 21 (dk_at dksJ3_init_0 1 rfl rfl)
theorem dJ3_init_4 : decode cJ3_init 4 = .ok (.aload_n 0, 1) := dk_42 (dk_at dksJ3_init_0 4 rfl rfl)
theorem dJ3_init_5 : decode cJ3_init 5 = .ok (.iconst 0, 1) := dk_3 (dk_at dksJ3_init_0 5 rfl rfl)
theorem dJ3_init_6 : decode cJ3_init 6 = .ok (.putfield 7, 3) := dk_181 0 7 (dk_at dksJ3_init_0 6 rfl rfl)
theorem dJ3_init_9 : decode cJ3_init 9 = .ok (.aload_n 0, 1) := dk_42 (dk_at dksJ3_init_0 9 rfl rfl)
theorem dJ3_init_10 : decode cJ3_init 10 = .ok (.iconst 0, 1) := dk_3 (dk_at dksJ3_init_0 10 rfl rfl)
theorem dJ3_init_11 : decode cJ3_init 11 = .ok (.putfield 24, 3) := dk_181 0 24 (dk_at dksJ3_init_0 11 rfl rfl)
theorem dJ3_init_14 : decode cJ3_init 14 = .ok (.aload_n 0, 1) := dk_42 (dk_at dksJ3_init_0 14 rfl rfl)
theorem dJ3_init_15 : decode cJ3_init 15 = .ok (.bipush 64, 2) := dk_16 64 (dk_at dksJ3_init_0 15 rfl rfl)
theorem dJ3_init_17 : decode cJ3_init 17 = .ok (.invokevirtual 27, 3) := dk_182 0 27 (dk_at dksJ3_init_0 17 rfl rfl)
theorem dJ3_init_20 : decode cJ3_init 20 = .ok (.aload_n 0, 1) := dk_42 (dk_at dksJ3_init_0 20 rfl rfl)
theorem dJ3_init_21 : decode cJ3_init 21 = .ok (.iconst 0, 1) := dk_3 (dk_at dksJ3_init_0 21 rfl rfl)
theorem dJ3_init_22 : decode cJ3_init 22 = .ok (.putfield 24, 3) := dk_181 0 24 (dk_at dksJ3_init_1 0 rfl rfl)
theorem dJ3_init_25 : decode cJ3_init 25 = .ok (.return_, 1) := dk_177 (dk_at dksJ3_init_1 3 rfl rfl)
theorem c44900 : jtCode 44900 = cJ3_init := rfl
theorem E44900_0 (d : Nat) (a0 : Nat) (h : AH) : G d 44900 0 [.ref a0] [] h = zcV (M d 90000 [.ref a0] h) (fun h2 => zqF h2 (.ref a0) [44] 1 0 (.int 0) (fun h3 => zqF h3 (.ref a0) [44] 2 3 (.int 0) (fun h4 => zcV (M d 44006 [.ref a0, .int 64] h4) (fun h6 => zqF h6 (.ref a0) [44] 2 3 (.int 0) (fun h7 => some (.inl none, h7)) ()) ()) ()) ()) () := by
  refine (g_aload_n c44900 dJ3_init_0 rfl).trans ?_
  refine (g_special (as := [.ref a0]) (rest := []) c44900 dJ3_init_1 rfl rfl rfl rfl rfl).trans ((jback_V (κx := cX) (fun e h => jthrow_out rfl)).trans (cV_cg fun h2 => ?_))
  refine (g_aload_n c44900 dJ3_init_4 rfl).trans ?_
  refine (g_iconst (x := 0) c44900 dJ3_init_5 rfl).trans ?_
  refine (g_put c44900 dJ3_init_6 rfl).trans (pF_cg fun h3 => ?_)
  refine (g_aload_n c44900 dJ3_init_9 rfl).trans ?_
  refine (g_iconst (x := 0) c44900 dJ3_init_10 rfl).trans ?_
  refine (g_put c44900 dJ3_init_11 rfl).trans (pF_cg fun h4 => ?_)
  refine (g_aload_n c44900 dJ3_init_14 rfl).trans ?_
  refine (g_bipush (x := 64) c44900 dJ3_init_15 rfl).trans ?_
  refine (g_virtual (as := [.ref a0, .int 64]) (rest := []) c44900 dJ3_init_17 rfl rfl rfl rfl rfl).trans ((jback_V (κx := cX) (fun e h => jthrow_out rfl)).trans (cV_cg fun h6 => ?_))
  refine (g_aload_n c44900 dJ3_init_20 rfl).trans ?_
  refine (g_iconst (x := 0) c44900 dJ3_init_21 rfl).trans ?_
  refine (g_put c44900 dJ3_init_22 rfl).trans (pF_cg fun h7 => ?_)
  exact g_return c44900 dJ3_init_25 rfl
theorem X44900 {d : Nat} {a0 : Nat} (h : AH) (hr : jrecv 44900 [.ref a0] h = true) : M (d + 1) 44900 [.ref a0] h = G d 44900 0 [.ref a0] [] h := M_eq rfl hr rfl
/-! java/util/Arrays.checkLength(II)V -/
abbrev cJ4_checkLength : ByteArray := prog_69_method_131_code
def dkwJ4_checkLength_1 : List UInt8 := [182, 0, 50, 27, 182, 0, 54, 182, 0, 61, 183, 0, 65, 191, 177]
abbrev dktJ4_checkLength_1 : List UInt8 := dkwJ4_checkLength_1 ++ []
def dkwJ4_checkLength_0 : List UInt8 := [27, 26, 162, 0, 35, 187, 0, 43, 89, 187, 0, 45, 89, 183, 0, 47, 26, 182, 0, 54, 19, 1, 81]
abbrev dktJ4_checkLength_0 : List UInt8 := dkwJ4_checkLength_0 ++ dktJ4_checkLength_1
theorem dksJ4_checkLength_0 : cJ4_checkLength.data.toList.drop 0 = dktJ4_checkLength_0 := by decide +kernel
theorem dksJ4_checkLength_1 : cJ4_checkLength.data.toList.drop 23 = dktJ4_checkLength_1 := dk_seg dksJ4_checkLength_0 23 rfl rfl
theorem dJ4_checkLength_0 : decode cJ4_checkLength 0 = .ok (.iload_n 1, 1) := dk_27 (dk_at dksJ4_checkLength_0 0 rfl rfl)
theorem dJ4_checkLength_1 : decode cJ4_checkLength 1 = .ok (.iload_n 0, 1) := dk_26 (dk_at dksJ4_checkLength_0 1 rfl rfl)
theorem dJ4_checkLength_2 : decode cJ4_checkLength 2 = .ok (.if_icmp .ge 35, 3) := dk_162 0 35 (dk_at dksJ4_checkLength_0 2 rfl rfl)
theorem dJ4_checkLength_5 : decode cJ4_checkLength 5 = .ok (.new 43, 3) := dk_187 0 43 (dk_at dksJ4_checkLength_0 5 rfl rfl)
theorem dJ4_checkLength_8 : decode cJ4_checkLength 8 = .ok (.dup, 1) := dk_89 (dk_at dksJ4_checkLength_0 8 rfl rfl)
theorem dJ4_checkLength_9 : decode cJ4_checkLength 9 = .ok (.new 45, 3) := dk_187 0 45 (dk_at dksJ4_checkLength_0 9 rfl rfl)
theorem dJ4_checkLength_12 : decode cJ4_checkLength 12 = .ok (.dup, 1) := dk_89 (dk_at dksJ4_checkLength_0 12 rfl rfl)
theorem dJ4_checkLength_13 : decode cJ4_checkLength 13 = .ok (.invokespecial 47, 3) := dk_183 0 47 (dk_at dksJ4_checkLength_0 13 rfl rfl)
theorem dJ4_checkLength_16 : decode cJ4_checkLength 16 = .ok (.iload_n 0, 1) := dk_26 (dk_at dksJ4_checkLength_0 16 rfl rfl)
theorem dJ4_checkLength_17 : decode cJ4_checkLength 17 = .ok (.invokevirtual 54, 3) := dk_182 0 54 (dk_at dksJ4_checkLength_0 17 rfl rfl)
theorem dJ4_checkLength_20 : decode cJ4_checkLength 20 = .ok (.ldc_w 337, 3) := dk_19 1 81 (dk_at dksJ4_checkLength_0 20 rfl rfl)
theorem dJ4_checkLength_23 : decode cJ4_checkLength 23 = .ok (.invokevirtual 50, 3) := dk_182 0 50 (dk_at dksJ4_checkLength_1 0 rfl rfl)
theorem dJ4_checkLength_26 : decode cJ4_checkLength 26 = .ok (.iload_n 1, 1) := dk_27 (dk_at dksJ4_checkLength_1 3 rfl rfl)
theorem dJ4_checkLength_27 : decode cJ4_checkLength 27 = .ok (.invokevirtual 54, 3) := dk_182 0 54 (dk_at dksJ4_checkLength_1 4 rfl rfl)
theorem dJ4_checkLength_30 : decode cJ4_checkLength 30 = .ok (.invokevirtual 61, 3) := dk_182 0 61 (dk_at dksJ4_checkLength_1 7 rfl rfl)
theorem dJ4_checkLength_33 : decode cJ4_checkLength 33 = .ok (.invokespecial 65, 3) := dk_183 0 65 (dk_at dksJ4_checkLength_1 10 rfl rfl)
theorem dJ4_checkLength_36 : decode cJ4_checkLength 36 = .ok (.athrow, 1) := dk_191 (dk_at dksJ4_checkLength_1 13 rfl rfl)
theorem dJ4_checkLength_37 : decode cJ4_checkLength 37 = .ok (.return_, 1) := dk_177 (dk_at dksJ4_checkLength_1 14 rfl rfl)
theorem c45000 : jtCode 45000 = cJ4_checkLength := rfl
theorem E45000_0 (d : Nat) (i0 : Int32) (i1 : Int32) (h : AH) : G d 45000 0 [.int i0, .int i1] [] h = if i0 ≤ i1 then (some (.inl none, h)) else (G d 45000 5 [.int i0, .int i1] [] h) := by
  refine (g_iload_n c45000 dJ4_checkLength_0 rfl).trans ?_
  refine (g_iload_n c45000 dJ4_checkLength_1 rfl).trans ?_
  refine (g_icmp_ge (tgt := 37) c45000 dJ4_checkLength_2 rfl).trans (if_cg ?_ ?_)
  · skip
    exact g_return c45000 dJ4_checkLength_37 rfl
  · skip
    rfl
theorem X45000 {d : Nat} {i0 : Int32} {i1 : Int32} (h : AH) : M (d + 1) 45000 [.int i0, .int i1] h = G d 45000 0 [.int i0, .int i1] [] h := M_eq rfl rfl rfl
/-! java/util/Arrays.copyOf([BI)[B -/
abbrev cJ4_copyOf : ByteArray := prog_69_method_121_code
def dkwJ4_copyOf_1 : List UInt8 := [27, 184, 1, 48, 184, 0, 150, 44, 176]
abbrev dktJ4_copyOf_1 : List UInt8 := dkwJ4_copyOf_1 ++ []
def dkwJ4_copyOf_0 : List UInt8 := [27, 42, 190, 160, 0, 11, 42, 182, 1, 54, 192, 1, 55, 176, 27, 188, 8, 77, 42, 3, 44, 3, 42, 190]
abbrev dktJ4_copyOf_0 : List UInt8 := dkwJ4_copyOf_0 ++ dktJ4_copyOf_1
theorem dksJ4_copyOf_0 : cJ4_copyOf.data.toList.drop 0 = dktJ4_copyOf_0 := by decide +kernel
theorem dksJ4_copyOf_1 : cJ4_copyOf.data.toList.drop 24 = dktJ4_copyOf_1 := dk_seg dksJ4_copyOf_0 24 rfl rfl
theorem dJ4_copyOf_0 : decode cJ4_copyOf 0 = .ok (.iload_n 1, 1) := dk_27 (dk_at dksJ4_copyOf_0 0 rfl rfl)
theorem dJ4_copyOf_1 : decode cJ4_copyOf 1 = .ok (.aload_n 0, 1) := dk_42 (dk_at dksJ4_copyOf_0 1 rfl rfl)
theorem dJ4_copyOf_2 : decode cJ4_copyOf 2 = .ok (.arraylength, 1) := dk_190 (dk_at dksJ4_copyOf_0 2 rfl rfl)
theorem dJ4_copyOf_3 : decode cJ4_copyOf 3 = .ok (.if_icmp .ne 11, 3) := dk_160 0 11 (dk_at dksJ4_copyOf_0 3 rfl rfl)
theorem dJ4_copyOf_6 : decode cJ4_copyOf 6 = .ok (.aload_n 0, 1) := dk_42 (dk_at dksJ4_copyOf_0 6 rfl rfl)
theorem dJ4_copyOf_7 : decode cJ4_copyOf 7 = .ok (.invokevirtual 310, 3) := dk_182 1 54 (dk_at dksJ4_copyOf_0 7 rfl rfl)
theorem dJ4_copyOf_10 : decode cJ4_copyOf 10 = .ok (.checkcast 311, 3) := dk_192 1 55 (dk_at dksJ4_copyOf_0 10 rfl rfl)
theorem dJ4_copyOf_13 : decode cJ4_copyOf 13 = .ok (.areturn, 1) := dk_176 (dk_at dksJ4_copyOf_0 13 rfl rfl)
theorem dJ4_copyOf_14 : decode cJ4_copyOf 14 = .ok (.iload_n 1, 1) := dk_27 (dk_at dksJ4_copyOf_0 14 rfl rfl)
theorem dJ4_copyOf_15 : decode cJ4_copyOf 15 = .ok (.newarray .byte, 2) := dk_188_8 (dk_at dksJ4_copyOf_0 15 rfl rfl)
theorem dJ4_copyOf_17 : decode cJ4_copyOf 17 = .ok (.astore_n 2, 1) := dk_77 (dk_at dksJ4_copyOf_0 17 rfl rfl)
theorem dJ4_copyOf_18 : decode cJ4_copyOf 18 = .ok (.aload_n 0, 1) := dk_42 (dk_at dksJ4_copyOf_0 18 rfl rfl)
theorem dJ4_copyOf_19 : decode cJ4_copyOf 19 = .ok (.iconst 0, 1) := dk_3 (dk_at dksJ4_copyOf_0 19 rfl rfl)
theorem dJ4_copyOf_20 : decode cJ4_copyOf 20 = .ok (.aload_n 2, 1) := dk_44 (dk_at dksJ4_copyOf_0 20 rfl rfl)
theorem dJ4_copyOf_21 : decode cJ4_copyOf 21 = .ok (.iconst 0, 1) := dk_3 (dk_at dksJ4_copyOf_0 21 rfl rfl)
theorem dJ4_copyOf_22 : decode cJ4_copyOf 22 = .ok (.aload_n 0, 1) := dk_42 (dk_at dksJ4_copyOf_0 22 rfl rfl)
theorem dJ4_copyOf_23 : decode cJ4_copyOf 23 = .ok (.arraylength, 1) := dk_190 (dk_at dksJ4_copyOf_0 23 rfl rfl)
theorem dJ4_copyOf_24 : decode cJ4_copyOf 24 = .ok (.iload_n 1, 1) := dk_27 (dk_at dksJ4_copyOf_1 0 rfl rfl)
theorem dJ4_copyOf_25 : decode cJ4_copyOf 25 = .ok (.invokestatic 304, 3) := dk_184 1 48 (dk_at dksJ4_copyOf_1 1 rfl rfl)
theorem dJ4_copyOf_28 : decode cJ4_copyOf 28 = .ok (.invokestatic 150, 3) := dk_184 0 150 (dk_at dksJ4_copyOf_1 4 rfl rfl)
theorem dJ4_copyOf_31 : decode cJ4_copyOf 31 = .ok (.aload_n 2, 1) := dk_44 (dk_at dksJ4_copyOf_1 7 rfl rfl)
theorem dJ4_copyOf_32 : decode cJ4_copyOf 32 = .ok (.areturn, 1) := dk_176 (dk_at dksJ4_copyOf_1 8 rfl rfl)
theorem c45001 : jtCode 45001 = cJ4_copyOf := rfl
theorem E45001_0 (d : Nat) (v0 : Value) (i1 : Int32) (h : AH) : G d 45001 0 [v0, .int i1, jno] [] h = zkR v0 (zqL h v0 (fun x1 => if i1 = x1 then (zkR v0 (G d 45001 7 [v0, .int i1, jno] [v0] h) ()) else (zqN i1 (zqH (jpush h (1010, i1.toNatClampNeg, fun _ => .int 0)) (fun h2 => zkR v0 (zkR v0 (zqL h2 v0 (fun x3 => zcI (M d 53001 [.int x3, .int i1] h2) (fun x4 h5 => zcV (M d 90001 [v0, .int 0, .ref h.1, .int 0, .int x4] h5) (fun h7 => some (.inl (some (.ref h.1)), h7)) ()) ()) ()) ()) ()) ()) ())) ()) () := by
  refine (g_iload_n c45001 dJ4_copyOf_0 rfl).trans ?_
  refine (g_aload_nV c45001 dJ4_copyOf_1 rfl).trans (ckR_cg ?_)
  refine (g_alen c45001 dJ4_copyOf_2).trans (aL_cg fun x1 => ?_)
  refine (g_icmp_ne (tgt := 14) c45001 dJ4_copyOf_3 rfl).trans (if_cg ?_ ?_)
  · skip
    refine (g_aload_nV c45001 dJ4_copyOf_6 rfl).trans (ckR_cg ?_)
    rfl
  · skip
    refine (g_iload_n c45001 dJ4_copyOf_14 rfl).trans ?_
    refine (g_newB c45001 dJ4_copyOf_15).trans (nA_cg ?_)
    refine nmZ ?_
    generalize jpush h (1010, i1.toNatClampNeg, fun _ => .int 0) = h2
    refine (g_astore_n (L' := [v0, .int i1, .ref h.1]) c45001 dJ4_copyOf_17 rfl rfl).trans ?_
    refine (g_aload_nV c45001 dJ4_copyOf_18 rfl).trans (ckR_cg ?_)
    refine (g_iconst (x := 0) c45001 dJ4_copyOf_19 rfl).trans ?_
    refine (g_aload_n c45001 dJ4_copyOf_20 rfl).trans ?_
    refine (g_iconst (x := 0) c45001 dJ4_copyOf_21 rfl).trans ?_
    refine (g_aload_nV c45001 dJ4_copyOf_22 rfl).trans (ckR_cg ?_)
    refine (g_alen c45001 dJ4_copyOf_23).trans (aL_cg fun x3 => ?_)
    refine (g_iload_n c45001 dJ4_copyOf_24 rfl).trans ?_
    refine (g_static (as := [.int x3, .int i1]) (rest := [.int 0, .ref h.1, .int 0, v0]) c45001 dJ4_copyOf_25 rfl rfl rfl rfl rfl).trans ((jback_I (κx := cX) (fun e h => jthrow_out rfl)).trans (cI_cg fun x4 h5 => ?_))
    refine (g_static (as := [v0, .int 0, .ref h.1, .int 0, .int x4]) (rest := []) c45001 dJ4_copyOf_28 rfl rfl rfl rfl rfl).trans ((jback_V (κx := cX) (fun e h => jthrow_out rfl)).trans (cV_cg fun h7 => ?_))
    refine (g_aload_n c45001 dJ4_copyOf_31 rfl).trans ?_
    exact g_areturnA_r c45001 dJ4_copyOf_32 rfl
theorem X45001 {d : Nat} {v0 : Value} {i1 : Int32} (h : AH) (hv0 : isR v0 = true) : M (d + 1) 45001 [v0, .int i1] h = G d 45001 0 [v0, .int i1, jno] [] h := M_eq rfl rfl (by simp only [jent, jargL_R hv0, jargL]; rfl)
/-! java/util/Arrays.copyOfRange([BII)[B -/
abbrev cJ4_copyOfRange : ByteArray := prog_69_method_132_code
def dkwJ4_copyOfRange_1 : List UInt8 := [176]
abbrev dktJ4_copyOfRange_1 : List UInt8 := dkwJ4_copyOfRange_1 ++ []
def dkwJ4_copyOfRange_0 : List UInt8 := [27, 154, 0, 9, 28, 42, 190, 159, 0, 10, 42, 27, 28, 184, 1, 83, 176, 42, 182, 1, 54, 192, 1, 55]
abbrev dktJ4_copyOfRange_0 : List UInt8 := dkwJ4_copyOfRange_0 ++ dktJ4_copyOfRange_1
theorem dksJ4_copyOfRange_0 : cJ4_copyOfRange.data.toList.drop 0 = dktJ4_copyOfRange_0 := by decide +kernel
theorem dksJ4_copyOfRange_1 : cJ4_copyOfRange.data.toList.drop 24 = dktJ4_copyOfRange_1 := dk_seg dksJ4_copyOfRange_0 24 rfl rfl
theorem dJ4_copyOfRange_0 : decode cJ4_copyOfRange 0 = .ok (.iload_n 1, 1) := dk_27 (dk_at dksJ4_copyOfRange_0 0 rfl rfl)
theorem dJ4_copyOfRange_1 : decode cJ4_copyOfRange 1 = .ok (.ifCond .ne 9, 3) := dk_154 0 9 (dk_at dksJ4_copyOfRange_0 1 rfl rfl)
theorem dJ4_copyOfRange_4 : decode cJ4_copyOfRange 4 = .ok (.iload_n 2, 1) := dk_28 (dk_at dksJ4_copyOfRange_0 4 rfl rfl)
theorem dJ4_copyOfRange_5 : decode cJ4_copyOfRange 5 = .ok (.aload_n 0, 1) := dk_42 (dk_at dksJ4_copyOfRange_0 5 rfl rfl)
theorem dJ4_copyOfRange_6 : decode cJ4_copyOfRange 6 = .ok (.arraylength, 1) := dk_190 (dk_at dksJ4_copyOfRange_0 6 rfl rfl)
theorem dJ4_copyOfRange_7 : decode cJ4_copyOfRange 7 = .ok (.if_icmp .eq 10, 3) := dk_159 0 10 (dk_at dksJ4_copyOfRange_0 7 rfl rfl)
theorem dJ4_copyOfRange_10 : decode cJ4_copyOfRange 10 = .ok (.aload_n 0, 1) := dk_42 (dk_at dksJ4_copyOfRange_0 10 rfl rfl)
theorem dJ4_copyOfRange_11 : decode cJ4_copyOfRange 11 = .ok (.iload_n 1, 1) := dk_27 (dk_at dksJ4_copyOfRange_0 11 rfl rfl)
theorem dJ4_copyOfRange_12 : decode cJ4_copyOfRange 12 = .ok (.iload_n 2, 1) := dk_28 (dk_at dksJ4_copyOfRange_0 12 rfl rfl)
theorem dJ4_copyOfRange_13 : decode cJ4_copyOfRange 13 = .ok (.invokestatic 339, 3) := dk_184 1 83 (dk_at dksJ4_copyOfRange_0 13 rfl rfl)
theorem dJ4_copyOfRange_16 : decode cJ4_copyOfRange 16 = .ok (.areturn, 1) := dk_176 (dk_at dksJ4_copyOfRange_0 16 rfl rfl)
theorem dJ4_copyOfRange_17 : decode cJ4_copyOfRange 17 = .ok (.aload_n 0, 1) := dk_42 (dk_at dksJ4_copyOfRange_0 17 rfl rfl)
theorem dJ4_copyOfRange_18 : decode cJ4_copyOfRange 18 = .ok (.invokevirtual 310, 3) := dk_182 1 54 (dk_at dksJ4_copyOfRange_0 18 rfl rfl)
theorem dJ4_copyOfRange_21 : decode cJ4_copyOfRange 21 = .ok (.checkcast 311, 3) := dk_192 1 55 (dk_at dksJ4_copyOfRange_0 21 rfl rfl)
theorem dJ4_copyOfRange_24 : decode cJ4_copyOfRange 24 = .ok (.areturn, 1) := dk_176 (dk_at dksJ4_copyOfRange_1 0 rfl rfl)
theorem c45002 : jtCode 45002 = cJ4_copyOfRange := rfl
theorem E45002_0 (d : Nat) (v0 : Value) (i1 : Int32) (i2 : Int32) (h : AH) : G d 45002 0 [v0, .int i1, .int i2] [] h = if i1 = 0 then (zkR v0 (zqL h v0 (fun x1 => if i2 = x1 then (zkR v0 (G d 45002 18 [v0, .int i1, .int i2] [v0] h) ()) else (zkR v0 (zcR (M d 45003 [v0, .int i1, .int i2] h) (fun r2 h3 => ckR r2 (some (.inl (some r2), h3))) ()) ())) ()) ()) else (zkR v0 (zcR (M d 45003 [v0, .int i1, .int i2] h) (fun r4 h5 => ckR r4 (some (.inl (some r4), h5))) ()) ()) := by
  refine (g_iload_n c45002 dJ4_copyOfRange_0 rfl).trans ?_
  refine (g_if_ne (tgt := 10) c45002 dJ4_copyOfRange_1 rfl).trans (if_cg ?_ ?_)
  · skip
    refine (g_iload_n c45002 dJ4_copyOfRange_4 rfl).trans ?_
    refine (g_aload_nV c45002 dJ4_copyOfRange_5 rfl).trans (ckR_cg ?_)
    refine (g_alen c45002 dJ4_copyOfRange_6).trans (aL_cg fun x1 => ?_)
    refine (g_icmp_eq (tgt := 17) c45002 dJ4_copyOfRange_7 rfl).trans (if_cg ?_ ?_)
    · skip
      refine (g_aload_nV c45002 dJ4_copyOfRange_17 rfl).trans (ckR_cg ?_)
      rfl
    · skip
      refine (g_aload_nV c45002 dJ4_copyOfRange_10 rfl).trans (ckR_cg ?_)
      refine (g_iload_n c45002 dJ4_copyOfRange_11 rfl).trans ?_
      refine (g_iload_n c45002 dJ4_copyOfRange_12 rfl).trans ?_
      refine (g_static (as := [v0, .int i1, .int i2]) (rest := []) c45002 dJ4_copyOfRange_13 rfl rfl rfl rfl rfl).trans ((jback_R (κx := cX) (fun e h => jthrow_out rfl)).trans (cR_cg fun r2 h3 => ?_))
      exact g_areturnA c45002 dJ4_copyOfRange_16 rfl
  · skip
    refine (g_aload_nV c45002 dJ4_copyOfRange_10 rfl).trans (ckR_cg ?_)
    refine (g_iload_n c45002 dJ4_copyOfRange_11 rfl).trans ?_
    refine (g_iload_n c45002 dJ4_copyOfRange_12 rfl).trans ?_
    refine (g_static (as := [v0, .int i1, .int i2]) (rest := []) c45002 dJ4_copyOfRange_13 rfl rfl rfl rfl rfl).trans ((jback_R (κx := cX) (fun e h => jthrow_out rfl)).trans (cR_cg fun r4 h5 => ?_))
    exact g_areturnA c45002 dJ4_copyOfRange_16 rfl
theorem X45002 {d : Nat} {v0 : Value} {i1 : Int32} {i2 : Int32} (h : AH) (hv0 : isR v0 = true) : M (d + 1) 45002 [v0, .int i1, .int i2] h = G d 45002 0 [v0, .int i1, .int i2] [] h := M_eq rfl rfl (by simp only [jent, jargL_R hv0, jargL]; rfl)
/-! java/util/Arrays.copyOfRangeByte([BII)[B -/
abbrev cJ4_copyOfRangeByte : ByteArray := prog_69_method_133_code
def dkwJ4_copyOfRangeByte_1 : List UInt8 := [184, 1, 48, 184, 0, 150, 25, 4, 176]
abbrev dktJ4_copyOfRangeByte_1 : List UInt8 := dkwJ4_copyOfRangeByte_1 ++ []
def dkwJ4_copyOfRangeByte_0 : List UInt8 := [27, 28, 184, 1, 87, 28, 27, 100, 62, 29, 188, 8, 58, 4, 42, 27, 25, 4, 3, 42, 190, 27, 100, 29]
abbrev dktJ4_copyOfRangeByte_0 : List UInt8 := dkwJ4_copyOfRangeByte_0 ++ dktJ4_copyOfRangeByte_1
theorem dksJ4_copyOfRangeByte_0 : cJ4_copyOfRangeByte.data.toList.drop 0 = dktJ4_copyOfRangeByte_0 := by decide +kernel
theorem dksJ4_copyOfRangeByte_1 : cJ4_copyOfRangeByte.data.toList.drop 24 = dktJ4_copyOfRangeByte_1 := dk_seg dksJ4_copyOfRangeByte_0 24 rfl rfl
theorem dJ4_copyOfRangeByte_0 : decode cJ4_copyOfRangeByte 0 = .ok (.iload_n 1, 1) := dk_27 (dk_at dksJ4_copyOfRangeByte_0 0 rfl rfl)
theorem dJ4_copyOfRangeByte_1 : decode cJ4_copyOfRangeByte 1 = .ok (.iload_n 2, 1) := dk_28 (dk_at dksJ4_copyOfRangeByte_0 1 rfl rfl)
theorem dJ4_copyOfRangeByte_2 : decode cJ4_copyOfRangeByte 2 = .ok (.invokestatic 343, 3) := dk_184 1 87 (dk_at dksJ4_copyOfRangeByte_0 2 rfl rfl)
theorem dJ4_copyOfRangeByte_5 : decode cJ4_copyOfRangeByte 5 = .ok (.iload_n 2, 1) := dk_28 (dk_at dksJ4_copyOfRangeByte_0 5 rfl rfl)
theorem dJ4_copyOfRangeByte_6 : decode cJ4_copyOfRangeByte 6 = .ok (.iload_n 1, 1) := dk_27 (dk_at dksJ4_copyOfRangeByte_0 6 rfl rfl)
theorem dJ4_copyOfRangeByte_7 : decode cJ4_copyOfRangeByte 7 = .ok (.isub, 1) := dk_100 (dk_at dksJ4_copyOfRangeByte_0 7 rfl rfl)
theorem dJ4_copyOfRangeByte_8 : decode cJ4_copyOfRangeByte 8 = .ok (.istore_n 3, 1) := dk_62 (dk_at dksJ4_copyOfRangeByte_0 8 rfl rfl)
theorem dJ4_copyOfRangeByte_9 : decode cJ4_copyOfRangeByte 9 = .ok (.iload_n 3, 1) := dk_29 (dk_at dksJ4_copyOfRangeByte_0 9 rfl rfl)
theorem dJ4_copyOfRangeByte_10 : decode cJ4_copyOfRangeByte 10 = .ok (.newarray .byte, 2) := dk_188_8 (dk_at dksJ4_copyOfRangeByte_0 10 rfl rfl)
theorem dJ4_copyOfRangeByte_12 : decode cJ4_copyOfRangeByte 12 = .ok (.astore 4, 2) := dk_58 4 (dk_at dksJ4_copyOfRangeByte_0 12 rfl rfl)
theorem dJ4_copyOfRangeByte_14 : decode cJ4_copyOfRangeByte 14 = .ok (.aload_n 0, 1) := dk_42 (dk_at dksJ4_copyOfRangeByte_0 14 rfl rfl)
theorem dJ4_copyOfRangeByte_15 : decode cJ4_copyOfRangeByte 15 = .ok (.iload_n 1, 1) := dk_27 (dk_at dksJ4_copyOfRangeByte_0 15 rfl rfl)
theorem dJ4_copyOfRangeByte_16 : decode cJ4_copyOfRangeByte 16 = .ok (.aload 4, 2) := dk_25 4 (dk_at dksJ4_copyOfRangeByte_0 16 rfl rfl)
theorem dJ4_copyOfRangeByte_18 : decode cJ4_copyOfRangeByte 18 = .ok (.iconst 0, 1) := dk_3 (dk_at dksJ4_copyOfRangeByte_0 18 rfl rfl)
theorem dJ4_copyOfRangeByte_19 : decode cJ4_copyOfRangeByte 19 = .ok (.aload_n 0, 1) := dk_42 (dk_at dksJ4_copyOfRangeByte_0 19 rfl rfl)
theorem dJ4_copyOfRangeByte_20 : decode cJ4_copyOfRangeByte 20 = .ok (.arraylength, 1) := dk_190 (dk_at dksJ4_copyOfRangeByte_0 20 rfl rfl)
theorem dJ4_copyOfRangeByte_21 : decode cJ4_copyOfRangeByte 21 = .ok (.iload_n 1, 1) := dk_27 (dk_at dksJ4_copyOfRangeByte_0 21 rfl rfl)
theorem dJ4_copyOfRangeByte_22 : decode cJ4_copyOfRangeByte 22 = .ok (.isub, 1) := dk_100 (dk_at dksJ4_copyOfRangeByte_0 22 rfl rfl)
theorem dJ4_copyOfRangeByte_23 : decode cJ4_copyOfRangeByte 23 = .ok (.iload_n 3, 1) := dk_29 (dk_at dksJ4_copyOfRangeByte_0 23 rfl rfl)
theorem dJ4_copyOfRangeByte_24 : decode cJ4_copyOfRangeByte 24 = .ok (.invokestatic 304, 3) := dk_184 1 48 (dk_at dksJ4_copyOfRangeByte_1 0 rfl rfl)
theorem dJ4_copyOfRangeByte_27 : decode cJ4_copyOfRangeByte 27 = .ok (.invokestatic 150, 3) := dk_184 0 150 (dk_at dksJ4_copyOfRangeByte_1 3 rfl rfl)
theorem dJ4_copyOfRangeByte_30 : decode cJ4_copyOfRangeByte 30 = .ok (.aload 4, 2) := dk_25 4 (dk_at dksJ4_copyOfRangeByte_1 6 rfl rfl)
theorem dJ4_copyOfRangeByte_32 : decode cJ4_copyOfRangeByte 32 = .ok (.areturn, 1) := dk_176 (dk_at dksJ4_copyOfRangeByte_1 8 rfl rfl)
theorem c45003 : jtCode 45003 = cJ4_copyOfRangeByte := rfl
theorem E45003_0 (d : Nat) (v0 : Value) (i1 : Int32) (i2 : Int32) (h : AH) : G d 45003 0 [v0, .int i1, .int i2, jno, jno] [] h = zcV (M d 45000 [.int i1, .int i2] h) (fun h2 => zqN (i2 - i1) (zqH (jpush h2 (1010, (i2 - i1).toNatClampNeg, fun _ => .int 0)) (fun h3 => zkR v0 (zkR v0 (zqL h3 v0 (fun x4 => zcI (M d 53001 [.int (x4 - i1), .int (i2 - i1)] h3) (fun x5 h6 => zcV (M d 90001 [v0, .int i1, .ref h2.1, .int 0, .int x5] h6) (fun h8 => some (.inl (some (.ref h2.1)), h8)) ()) ()) ()) ()) ()) ()) ()) () := by
  refine (g_iload_n c45003 dJ4_copyOfRangeByte_0 rfl).trans ?_
  refine (g_iload_n c45003 dJ4_copyOfRangeByte_1 rfl).trans ?_
  refine (g_static (as := [.int i1, .int i2]) (rest := []) c45003 dJ4_copyOfRangeByte_2 rfl rfl rfl rfl rfl).trans ((jback_V (κx := cX) (fun e h => jthrow_out rfl)).trans (cV_cg fun h2 => ?_))
  refine (g_iload_n c45003 dJ4_copyOfRangeByte_5 rfl).trans ?_
  refine (g_iload_n c45003 dJ4_copyOfRangeByte_6 rfl).trans ?_
  refine (g_isub c45003 dJ4_copyOfRangeByte_7).trans ?_
  refine (g_istore_n (L' := [v0, .int i1, .int i2, .int (i2 - i1), jno]) c45003 dJ4_copyOfRangeByte_8 rfl rfl).trans ?_
  refine (g_iload_n c45003 dJ4_copyOfRangeByte_9 rfl).trans ?_
  refine (g_newB c45003 dJ4_copyOfRangeByte_10).trans (nA_cg ?_)
  refine nmZ ?_
  generalize jpush h2 (1010, (i2 - i1).toNatClampNeg, fun _ => .int 0) = h3
  refine (g_astore (L' := [v0, .int i1, .int i2, .int (i2 - i1), .ref h2.1]) c45003 dJ4_copyOfRangeByte_12 rfl rfl).trans ?_
  refine (g_aload_nV c45003 dJ4_copyOfRangeByte_14 rfl).trans (ckR_cg ?_)
  refine (g_iload_n c45003 dJ4_copyOfRangeByte_15 rfl).trans ?_
  refine (g_aload c45003 dJ4_copyOfRangeByte_16 rfl).trans ?_
  refine (g_iconst (x := 0) c45003 dJ4_copyOfRangeByte_18 rfl).trans ?_
  refine (g_aload_nV c45003 dJ4_copyOfRangeByte_19 rfl).trans (ckR_cg ?_)
  refine (g_alen c45003 dJ4_copyOfRangeByte_20).trans (aL_cg fun x4 => ?_)
  refine (g_iload_n c45003 dJ4_copyOfRangeByte_21 rfl).trans ?_
  refine (g_isub c45003 dJ4_copyOfRangeByte_22).trans ?_
  refine (g_iload_n c45003 dJ4_copyOfRangeByte_23 rfl).trans ?_
  refine (g_static (as := [.int (x4 - i1), .int (i2 - i1)]) (rest := [.int 0, .ref h2.1, .int i1, v0]) c45003 dJ4_copyOfRangeByte_24 rfl rfl rfl rfl rfl).trans ((jback_I (κx := cX) (fun e h => jthrow_out rfl)).trans (cI_cg fun x5 h6 => ?_))
  refine (g_static (as := [v0, .int i1, .ref h2.1, .int 0, .int x5]) (rest := []) c45003 dJ4_copyOfRangeByte_27 rfl rfl rfl rfl rfl).trans ((jback_V (κx := cX) (fun e h => jthrow_out rfl)).trans (cV_cg fun h8 => ?_))
  refine (g_aload c45003 dJ4_copyOfRangeByte_30 rfl).trans ?_
  exact g_areturnA_r c45003 dJ4_copyOfRangeByte_32 rfl
theorem X45003 {d : Nat} {v0 : Value} {i1 : Int32} {i2 : Int32} (h : AH) (hv0 : isR v0 = true) : M (d + 1) 45003 [v0, .int i1, .int i2] h = G d 45003 0 [v0, .int i1, .int i2, jno, jno] [] h := M_eq rfl rfl (by simp only [jent, jargL_R hv0, jargL]; rfl)
/-! java/util/Arrays.copyOf([Ljava/lang/Object;I)[Ljava/lang/Object; -/
abbrev cJ4_copyOf_2 : ByteArray := prog_69_method_119_code
def dkwJ4_copyOf_2_0 : List UInt8 := [42, 27, 42, 182, 0, 86, 184, 1, 44, 176]
abbrev dktJ4_copyOf_2_0 : List UInt8 := dkwJ4_copyOf_2_0 ++ []
theorem dksJ4_copyOf_2_0 : cJ4_copyOf_2.data.toList.drop 0 = dktJ4_copyOf_2_0 := by decide +kernel
theorem dJ4_copyOf_2_0 : decode cJ4_copyOf_2 0 = .ok (.aload_n 0, 1) := dk_42 (dk_at dksJ4_copyOf_2_0 0 rfl rfl)
theorem dJ4_copyOf_2_1 : decode cJ4_copyOf_2 1 = .ok (.iload_n 1, 1) := dk_27 (dk_at dksJ4_copyOf_2_0 1 rfl rfl)
theorem dJ4_copyOf_2_2 : decode cJ4_copyOf_2 2 = .ok (.aload_n 0, 1) := dk_42 (dk_at dksJ4_copyOf_2_0 2 rfl rfl)
theorem dJ4_copyOf_2_3 : decode cJ4_copyOf_2 3 = .ok (.invokevirtual 86, 3) := dk_182 0 86 (dk_at dksJ4_copyOf_2_0 3 rfl rfl)
theorem dJ4_copyOf_2_6 : decode cJ4_copyOf_2 6 = .ok (.invokestatic 300, 3) := dk_184 1 44 (dk_at dksJ4_copyOf_2_0 6 rfl rfl)
theorem dJ4_copyOf_2_9 : decode cJ4_copyOf_2 9 = .ok (.areturn, 1) := dk_176 (dk_at dksJ4_copyOf_2_0 9 rfl rfl)
theorem c45004 : jtCode 45004 = cJ4_copyOf_2 := rfl
theorem E45004_0 (d : Nat) (v0 : Value) (i1 : Int32) (h : AH) : G d 45004 0 [v0, .int i1] [] h = zkR v0 (zkR v0 (zcR (M d 90002 [v0] h) (fun r1 h2 => zcR (M d 45005 [v0, .int i1, r1] h2) (fun r3 h4 => ckR r3 (some (.inl (some r3), h4))) ()) ()) ()) () := by
  refine (g_aload_nV c45004 dJ4_copyOf_2_0 rfl).trans (ckR_cg ?_)
  refine (g_iload_n c45004 dJ4_copyOf_2_1 rfl).trans ?_
  refine (g_aload_nV c45004 dJ4_copyOf_2_2 rfl).trans (ckR_cg ?_)
  refine (g_virtual (as := [v0]) (rest := [.int i1, v0]) c45004 dJ4_copyOf_2_3 rfl rfl rfl rfl rfl).trans ((jback_R (κx := cX) (fun e h => jthrow_out rfl)).trans (cR_cg fun r1 h2 => ?_))
  refine (g_static (as := [v0, .int i1, r1]) (rest := []) c45004 dJ4_copyOf_2_6 rfl rfl rfl rfl rfl).trans ((jback_R (κx := cX) (fun e h => jthrow_out rfl)).trans (cR_cg fun r3 h4 => ?_))
  exact g_areturnA c45004 dJ4_copyOf_2_9 rfl
theorem X45004 {d : Nat} {v0 : Value} {i1 : Int32} (h : AH) (hv0 : isR v0 = true) : M (d + 1) 45004 [v0, .int i1] h = G d 45004 0 [v0, .int i1] [] h := M_eq rfl rfl (by simp only [jent, jargL_R hv0, jargL]; rfl)
/-! java/util/Arrays.copyOf([Ljava/lang/Object;ILjava/lang/Class;)[Ljava/lang/Object; -/
abbrev cJ4_copyOf_3 : ByteArray := prog_69_method_120_code
def dkwJ4_copyOf_3_1 : List UInt8 := [78, 42, 3, 45, 3, 42, 190, 27, 184, 1, 48, 184, 0, 150, 45, 176]
abbrev dktJ4_copyOf_3_1 : List UInt8 := dkwJ4_copyOf_3_1 ++ []
def dkwJ4_copyOf_3_0 : List UInt8 := [44, 18, 110, 166, 0, 10, 27, 189, 0, 2, 167, 0, 14, 44, 182, 0, 90, 27, 184, 0, 95, 192, 0, 110]
abbrev dktJ4_copyOf_3_0 : List UInt8 := dkwJ4_copyOf_3_0 ++ dktJ4_copyOf_3_1
theorem dksJ4_copyOf_3_0 : cJ4_copyOf_3.data.toList.drop 0 = dktJ4_copyOf_3_0 := by decide +kernel
theorem dksJ4_copyOf_3_1 : cJ4_copyOf_3.data.toList.drop 24 = dktJ4_copyOf_3_1 := dk_seg dksJ4_copyOf_3_0 24 rfl rfl
theorem dJ4_copyOf_3_0 : decode cJ4_copyOf_3 0 = .ok (.aload_n 2, 1) := dk_44 (dk_at dksJ4_copyOf_3_0 0 rfl rfl)
theorem dJ4_copyOf_3_1 : decode cJ4_copyOf_3 1 = .ok (.ldc 110, 2) := dk_18 110 (dk_at dksJ4_copyOf_3_0 1 rfl rfl)
theorem dJ4_copyOf_3_3 : decode cJ4_copyOf_3 3 = .ok (.if_acmp .ne 10, 3) := dk_166 0 10 (dk_at dksJ4_copyOf_3_0 3 rfl rfl)
theorem dJ4_copyOf_3_6 : decode cJ4_copyOf_3 6 = .ok (.iload_n 1, 1) := dk_27 (dk_at dksJ4_copyOf_3_0 6 rfl rfl)
theorem dJ4_copyOf_3_7 : decode cJ4_copyOf_3 7 = .ok (.anewarray 2, 3) := dk_189 0 2 (dk_at dksJ4_copyOf_3_0 7 rfl rfl)
theorem dJ4_copyOf_3_10 : decode cJ4_copyOf_3 10 = .ok (.goto 14, 3) := dk_167 0 14 (dk_at dksJ4_copyOf_3_0 10 rfl rfl)
theorem dJ4_copyOf_3_13 : decode cJ4_copyOf_3 13 = .ok (.aload_n 2, 1) := dk_44 (dk_at dksJ4_copyOf_3_0 13 rfl rfl)
theorem dJ4_copyOf_3_14 : decode cJ4_copyOf_3 14 = .ok (.invokevirtual 90, 3) := dk_182 0 90 (dk_at dksJ4_copyOf_3_0 14 rfl rfl)
theorem dJ4_copyOf_3_17 : decode cJ4_copyOf_3 17 = .ok (.iload_n 1, 1) := dk_27 (dk_at dksJ4_copyOf_3_0 17 rfl rfl)
theorem dJ4_copyOf_3_18 : decode cJ4_copyOf_3 18 = .ok (.invokestatic 95, 3) := dk_184 0 95 (dk_at dksJ4_copyOf_3_0 18 rfl rfl)
theorem dJ4_copyOf_3_21 : decode cJ4_copyOf_3 21 = .ok (.checkcast 110, 3) := dk_192 0 110 (dk_at dksJ4_copyOf_3_0 21 rfl rfl)
theorem dJ4_copyOf_3_24 : decode cJ4_copyOf_3 24 = .ok (.astore_n 3, 1) := dk_78 (dk_at dksJ4_copyOf_3_1 0 rfl rfl)
theorem dJ4_copyOf_3_25 : decode cJ4_copyOf_3 25 = .ok (.aload_n 0, 1) := dk_42 (dk_at dksJ4_copyOf_3_1 1 rfl rfl)
theorem dJ4_copyOf_3_26 : decode cJ4_copyOf_3 26 = .ok (.iconst 0, 1) := dk_3 (dk_at dksJ4_copyOf_3_1 2 rfl rfl)
theorem dJ4_copyOf_3_27 : decode cJ4_copyOf_3 27 = .ok (.aload_n 3, 1) := dk_45 (dk_at dksJ4_copyOf_3_1 3 rfl rfl)
theorem dJ4_copyOf_3_28 : decode cJ4_copyOf_3 28 = .ok (.iconst 0, 1) := dk_3 (dk_at dksJ4_copyOf_3_1 4 rfl rfl)
theorem dJ4_copyOf_3_29 : decode cJ4_copyOf_3 29 = .ok (.aload_n 0, 1) := dk_42 (dk_at dksJ4_copyOf_3_1 5 rfl rfl)
theorem dJ4_copyOf_3_30 : decode cJ4_copyOf_3 30 = .ok (.arraylength, 1) := dk_190 (dk_at dksJ4_copyOf_3_1 6 rfl rfl)
theorem dJ4_copyOf_3_31 : decode cJ4_copyOf_3 31 = .ok (.iload_n 1, 1) := dk_27 (dk_at dksJ4_copyOf_3_1 7 rfl rfl)
theorem dJ4_copyOf_3_32 : decode cJ4_copyOf_3 32 = .ok (.invokestatic 304, 3) := dk_184 1 48 (dk_at dksJ4_copyOf_3_1 8 rfl rfl)
theorem dJ4_copyOf_3_35 : decode cJ4_copyOf_3 35 = .ok (.invokestatic 150, 3) := dk_184 0 150 (dk_at dksJ4_copyOf_3_1 11 rfl rfl)
theorem dJ4_copyOf_3_38 : decode cJ4_copyOf_3 38 = .ok (.aload_n 3, 1) := dk_45 (dk_at dksJ4_copyOf_3_1 14 rfl rfl)
theorem dJ4_copyOf_3_39 : decode cJ4_copyOf_3 39 = .ok (.areturn, 1) := dk_176 (dk_at dksJ4_copyOf_3_1 15 rfl rfl)
theorem c45005 : jtCode 45005 = cJ4_copyOf_3 := rfl
theorem E45005_0 (d : Nat) (v0 : Value) (i1 : Int32) (v2 : Value) (h : AH) : G d 45005 0 [v0, .int i1, v2, jno] [] h = zkR v2 (zpR (je h 47) (fun r1 => zkR r1 (zkR v2 (if (v2 : Value) = r1 then (zqN i1 (zqH (jpush h (1040, i1.toNatClampNeg, fun _ => .null)) (fun h2 => zkR v0 (zkR v0 (zqL h2 v0 (fun x3 => zcI (M d 53001 [.int x3, .int i1] h2) (fun x4 h5 => zcV (M d 90001 [v0, .int 0, .ref h.1, .int 0, .int x4] h5) (fun h7 => some (.inl (some (.ref h.1)), h7)) ()) ()) ()) ()) ()) ()) ()) else (zkR v2 (G d 45005 14 [v0, .int i1, v2, jno] [v2] h) ())) ()) ()) ()) () := by
  refine (g_aload_nV c45005 dJ4_copyOf_3_0 rfl).trans (ckR_cg ?_)
  refine (g_ldcR (k := 47) c45005 dJ4_copyOf_3_1 rfl rfl).trans (rR_cg fun r1 => ?_)
  refine (g_acmp_ne (tgt := 13) c45005 dJ4_copyOf_3_3 rfl).trans (ckR_cg (ckR_cg (if_cg ?_ ?_)))
  · skip
    refine (g_iload_n c45005 dJ4_copyOf_3_6 rfl).trans ?_
    refine (g_newR (t := 1040) c45005 dJ4_copyOf_3_7 rfl rfl).trans (nA_cg ?_)
    refine nmZ ?_
    generalize jpush h (1040, i1.toNatClampNeg, fun _ => .null) = h2
    refine (g_goto (tgt := 24) c45005 dJ4_copyOf_3_10 rfl).trans ?_
    refine (g_astore_n (L' := [v0, .int i1, v2, .ref h.1]) c45005 dJ4_copyOf_3_24 rfl rfl).trans ?_
    refine (g_aload_nV c45005 dJ4_copyOf_3_25 rfl).trans (ckR_cg ?_)
    refine (g_iconst (x := 0) c45005 dJ4_copyOf_3_26 rfl).trans ?_
    refine (g_aload_n c45005 dJ4_copyOf_3_27 rfl).trans ?_
    refine (g_iconst (x := 0) c45005 dJ4_copyOf_3_28 rfl).trans ?_
    refine (g_aload_nV c45005 dJ4_copyOf_3_29 rfl).trans (ckR_cg ?_)
    refine (g_alen c45005 dJ4_copyOf_3_30).trans (aL_cg fun x3 => ?_)
    refine (g_iload_n c45005 dJ4_copyOf_3_31 rfl).trans ?_
    refine (g_static (as := [.int x3, .int i1]) (rest := [.int 0, .ref h.1, .int 0, v0]) c45005 dJ4_copyOf_3_32 rfl rfl rfl rfl rfl).trans ((jback_I (κx := cX) (fun e h => jthrow_out rfl)).trans (cI_cg fun x4 h5 => ?_))
    refine (g_static (as := [v0, .int 0, .ref h.1, .int 0, .int x4]) (rest := []) c45005 dJ4_copyOf_3_35 rfl rfl rfl rfl rfl).trans ((jback_V (κx := cX) (fun e h => jthrow_out rfl)).trans (cV_cg fun h7 => ?_))
    refine (g_aload_n c45005 dJ4_copyOf_3_38 rfl).trans ?_
    exact g_areturnA_r c45005 dJ4_copyOf_3_39 rfl
  · skip
    refine (g_aload_nV c45005 dJ4_copyOf_3_13 rfl).trans (ckR_cg ?_)
    rfl
theorem X45005 {d : Nat} {v0 : Value} {i1 : Int32} {v2 : Value} (h : AH) (hv0 : isR v0 = true) (hv2 : isR v2 = true) : M (d + 1) 45005 [v0, .int i1, v2] h = G d 45005 0 [v0, .int i1, v2, jno] [] h := M_eq rfl rfl (by simp only [jent, jargL_R hv0, jargL_R hv2, jargL]; rfl)
/-! java/util/Arrays.copyOf([JI)[J -/
abbrev cJ4_copyOf_4 : ByteArray := prog_69_method_124_code
def dkwJ4_copyOf_4_1 : List UInt8 := [27, 184, 1, 48, 184, 0, 150, 44, 176]
abbrev dktJ4_copyOf_4_1 : List UInt8 := dkwJ4_copyOf_4_1 ++ []
def dkwJ4_copyOf_4_0 : List UInt8 := [27, 42, 190, 160, 0, 11, 42, 182, 1, 63, 192, 1, 64, 176, 27, 188, 11, 77, 42, 3, 44, 3, 42, 190]
abbrev dktJ4_copyOf_4_0 : List UInt8 := dkwJ4_copyOf_4_0 ++ dktJ4_copyOf_4_1
theorem dksJ4_copyOf_4_0 : cJ4_copyOf_4.data.toList.drop 0 = dktJ4_copyOf_4_0 := by decide +kernel
theorem dksJ4_copyOf_4_1 : cJ4_copyOf_4.data.toList.drop 24 = dktJ4_copyOf_4_1 := dk_seg dksJ4_copyOf_4_0 24 rfl rfl
theorem dJ4_copyOf_4_0 : decode cJ4_copyOf_4 0 = .ok (.iload_n 1, 1) := dk_27 (dk_at dksJ4_copyOf_4_0 0 rfl rfl)
theorem dJ4_copyOf_4_1 : decode cJ4_copyOf_4 1 = .ok (.aload_n 0, 1) := dk_42 (dk_at dksJ4_copyOf_4_0 1 rfl rfl)
theorem dJ4_copyOf_4_2 : decode cJ4_copyOf_4 2 = .ok (.arraylength, 1) := dk_190 (dk_at dksJ4_copyOf_4_0 2 rfl rfl)
theorem dJ4_copyOf_4_3 : decode cJ4_copyOf_4 3 = .ok (.if_icmp .ne 11, 3) := dk_160 0 11 (dk_at dksJ4_copyOf_4_0 3 rfl rfl)
theorem dJ4_copyOf_4_6 : decode cJ4_copyOf_4 6 = .ok (.aload_n 0, 1) := dk_42 (dk_at dksJ4_copyOf_4_0 6 rfl rfl)
theorem dJ4_copyOf_4_7 : decode cJ4_copyOf_4 7 = .ok (.invokevirtual 319, 3) := dk_182 1 63 (dk_at dksJ4_copyOf_4_0 7 rfl rfl)
theorem dJ4_copyOf_4_10 : decode cJ4_copyOf_4 10 = .ok (.checkcast 320, 3) := dk_192 1 64 (dk_at dksJ4_copyOf_4_0 10 rfl rfl)
theorem dJ4_copyOf_4_13 : decode cJ4_copyOf_4 13 = .ok (.areturn, 1) := dk_176 (dk_at dksJ4_copyOf_4_0 13 rfl rfl)
theorem dJ4_copyOf_4_14 : decode cJ4_copyOf_4 14 = .ok (.iload_n 1, 1) := dk_27 (dk_at dksJ4_copyOf_4_0 14 rfl rfl)
theorem dJ4_copyOf_4_15 : decode cJ4_copyOf_4 15 = .ok (.newarray .long, 2) := dk_188_11 (dk_at dksJ4_copyOf_4_0 15 rfl rfl)
theorem dJ4_copyOf_4_17 : decode cJ4_copyOf_4 17 = .ok (.astore_n 2, 1) := dk_77 (dk_at dksJ4_copyOf_4_0 17 rfl rfl)
theorem dJ4_copyOf_4_18 : decode cJ4_copyOf_4 18 = .ok (.aload_n 0, 1) := dk_42 (dk_at dksJ4_copyOf_4_0 18 rfl rfl)
theorem dJ4_copyOf_4_19 : decode cJ4_copyOf_4 19 = .ok (.iconst 0, 1) := dk_3 (dk_at dksJ4_copyOf_4_0 19 rfl rfl)
theorem dJ4_copyOf_4_20 : decode cJ4_copyOf_4 20 = .ok (.aload_n 2, 1) := dk_44 (dk_at dksJ4_copyOf_4_0 20 rfl rfl)
theorem dJ4_copyOf_4_21 : decode cJ4_copyOf_4 21 = .ok (.iconst 0, 1) := dk_3 (dk_at dksJ4_copyOf_4_0 21 rfl rfl)
theorem dJ4_copyOf_4_22 : decode cJ4_copyOf_4 22 = .ok (.aload_n 0, 1) := dk_42 (dk_at dksJ4_copyOf_4_0 22 rfl rfl)
theorem dJ4_copyOf_4_23 : decode cJ4_copyOf_4 23 = .ok (.arraylength, 1) := dk_190 (dk_at dksJ4_copyOf_4_0 23 rfl rfl)
theorem dJ4_copyOf_4_24 : decode cJ4_copyOf_4 24 = .ok (.iload_n 1, 1) := dk_27 (dk_at dksJ4_copyOf_4_1 0 rfl rfl)
theorem dJ4_copyOf_4_25 : decode cJ4_copyOf_4 25 = .ok (.invokestatic 304, 3) := dk_184 1 48 (dk_at dksJ4_copyOf_4_1 1 rfl rfl)
theorem dJ4_copyOf_4_28 : decode cJ4_copyOf_4 28 = .ok (.invokestatic 150, 3) := dk_184 0 150 (dk_at dksJ4_copyOf_4_1 4 rfl rfl)
theorem dJ4_copyOf_4_31 : decode cJ4_copyOf_4 31 = .ok (.aload_n 2, 1) := dk_44 (dk_at dksJ4_copyOf_4_1 7 rfl rfl)
theorem dJ4_copyOf_4_32 : decode cJ4_copyOf_4 32 = .ok (.areturn, 1) := dk_176 (dk_at dksJ4_copyOf_4_1 8 rfl rfl)
theorem c45006 : jtCode 45006 = cJ4_copyOf_4 := rfl
theorem E45006_0 (d : Nat) (v0 : Value) (i1 : Int32) (h : AH) : G d 45006 0 [v0, .int i1, jno] [] h = zkR v0 (zqL h v0 (fun x1 => if i1 = x1 then (zkR v0 (G d 45006 7 [v0, .int i1, jno] [v0] h) ()) else (zqN i1 (zqH (jpush h (1030, i1.toNatClampNeg, fun _ => .long 0)) (fun h2 => zkR v0 (zkR v0 (zqL h2 v0 (fun x3 => zcI (M d 53001 [.int x3, .int i1] h2) (fun x4 h5 => zcV (M d 90001 [v0, .int 0, .ref h.1, .int 0, .int x4] h5) (fun h7 => some (.inl (some (.ref h.1)), h7)) ()) ()) ()) ()) ()) ()) ())) ()) () := by
  refine (g_iload_n c45006 dJ4_copyOf_4_0 rfl).trans ?_
  refine (g_aload_nV c45006 dJ4_copyOf_4_1 rfl).trans (ckR_cg ?_)
  refine (g_alen c45006 dJ4_copyOf_4_2).trans (aL_cg fun x1 => ?_)
  refine (g_icmp_ne (tgt := 14) c45006 dJ4_copyOf_4_3 rfl).trans (if_cg ?_ ?_)
  · skip
    refine (g_aload_nV c45006 dJ4_copyOf_4_6 rfl).trans (ckR_cg ?_)
    rfl
  · skip
    refine (g_iload_n c45006 dJ4_copyOf_4_14 rfl).trans ?_
    refine (g_newJ c45006 dJ4_copyOf_4_15).trans (nA_cg ?_)
    refine nmZ ?_
    generalize jpush h (1030, i1.toNatClampNeg, fun _ => .long 0) = h2
    refine (g_astore_n (L' := [v0, .int i1, .ref h.1]) c45006 dJ4_copyOf_4_17 rfl rfl).trans ?_
    refine (g_aload_nV c45006 dJ4_copyOf_4_18 rfl).trans (ckR_cg ?_)
    refine (g_iconst (x := 0) c45006 dJ4_copyOf_4_19 rfl).trans ?_
    refine (g_aload_n c45006 dJ4_copyOf_4_20 rfl).trans ?_
    refine (g_iconst (x := 0) c45006 dJ4_copyOf_4_21 rfl).trans ?_
    refine (g_aload_nV c45006 dJ4_copyOf_4_22 rfl).trans (ckR_cg ?_)
    refine (g_alen c45006 dJ4_copyOf_4_23).trans (aL_cg fun x3 => ?_)
    refine (g_iload_n c45006 dJ4_copyOf_4_24 rfl).trans ?_
    refine (g_static (as := [.int x3, .int i1]) (rest := [.int 0, .ref h.1, .int 0, v0]) c45006 dJ4_copyOf_4_25 rfl rfl rfl rfl rfl).trans ((jback_I (κx := cX) (fun e h => jthrow_out rfl)).trans (cI_cg fun x4 h5 => ?_))
    refine (g_static (as := [v0, .int 0, .ref h.1, .int 0, .int x4]) (rest := []) c45006 dJ4_copyOf_4_28 rfl rfl rfl rfl rfl).trans ((jback_V (κx := cX) (fun e h => jthrow_out rfl)).trans (cV_cg fun h7 => ?_))
    refine (g_aload_n c45006 dJ4_copyOf_4_31 rfl).trans ?_
    exact g_areturnA_r c45006 dJ4_copyOf_4_32 rfl
theorem X45006 {d : Nat} {v0 : Value} {i1 : Int32} (h : AH) (hv0 : isR v0 = true) : M (d + 1) 45006 [v0, .int i1] h = G d 45006 0 [v0, .int i1, jno] [] h := M_eq rfl rfl (by simp only [jent, jargL_R hv0, jargL]; rfl)
/-! java/lang/AbstractStringBuilder.append(C)Ljava/lang/AbstractStringBuilder; -/
abbrev cJ7_append : ByteArray := prog_37_method_31_code
def dkwJ7_append_3 : List UInt8 := [181, 0, 79, 27, 184, 0, 197, 42, 176]
abbrev dktJ7_append_3 : List UInt8 := dkwJ7_append_3 ++ []
def dkwJ7_append_2 : List UInt8 := [182, 0, 83, 153, 0, 7, 42, 182, 0, 195, 42, 180, 0, 15, 42, 89, 180, 0, 79, 90, 4, 96]
abbrev dktJ7_append_2 : List UInt8 := dkwJ7_append_2 ++ dktJ7_append_3
def dkwJ7_append_1 : List UInt8 := [42, 180, 0, 15, 42, 89, 180, 0, 79, 90, 4, 96, 181, 0, 79, 27, 145, 84, 167, 0, 33, 42]
abbrev dktJ7_append_1 : List UInt8 := dkwJ7_append_1 ++ dktJ7_append_2
def dkwJ7_append_0 : List UInt8 := [42, 42, 180, 0, 79, 4, 96, 182, 0, 100, 42, 182, 0, 83, 153, 0, 31, 27, 184, 0, 191, 153, 0, 24]
abbrev dktJ7_append_0 : List UInt8 := dkwJ7_append_0 ++ dktJ7_append_1
theorem dksJ7_append_0 : cJ7_append.data.toList.drop 0 = dktJ7_append_0 := by decide +kernel
theorem dksJ7_append_1 : cJ7_append.data.toList.drop 24 = dktJ7_append_1 := dk_seg dksJ7_append_0 24 rfl rfl
theorem dksJ7_append_2 : cJ7_append.data.toList.drop 46 = dktJ7_append_2 := dk_seg dksJ7_append_1 22 rfl rfl
theorem dksJ7_append_3 : cJ7_append.data.toList.drop 68 = dktJ7_append_3 := dk_seg dksJ7_append_2 22 rfl rfl
theorem dJ7_append_0 : decode cJ7_append 0 = .ok (.aload_n 0, 1) := dk_42 (dk_at dksJ7_append_0 0 rfl rfl)
theorem dJ7_append_1 : decode cJ7_append 1 = .ok (.aload_n 0, 1) := dk_42 (dk_at dksJ7_append_0 1 rfl rfl)
theorem dJ7_append_2 : decode cJ7_append 2 = .ok (.getfield 79, 3) := dk_180 0 79 (dk_at dksJ7_append_0 2 rfl rfl)
theorem dJ7_append_5 : decode cJ7_append 5 = .ok (.iconst 1, 1) := dk_4 (dk_at dksJ7_append_0 5 rfl rfl)
theorem dJ7_append_6 : decode cJ7_append 6 = .ok (.iadd, 1) := dk_96 (dk_at dksJ7_append_0 6 rfl rfl)
theorem dJ7_append_7 : decode cJ7_append 7 = .ok (.invokevirtual 100, 3) := dk_182 0 100 (dk_at dksJ7_append_0 7 rfl rfl)
theorem dJ7_append_10 : decode cJ7_append 10 = .ok (.aload_n 0, 1) := dk_42 (dk_at dksJ7_append_0 10 rfl rfl)
theorem dJ7_append_11 : decode cJ7_append 11 = .ok (.invokevirtual 83, 3) := dk_182 0 83 (dk_at dksJ7_append_0 11 rfl rfl)
theorem dJ7_append_14 : decode cJ7_append 14 = .ok (.ifCond .eq 31, 3) := dk_153 0 31 (dk_at dksJ7_append_0 14 rfl rfl)
theorem dJ7_append_17 : decode cJ7_append 17 = .ok (.iload_n 1, 1) := dk_27 (dk_at dksJ7_append_0 17 rfl rfl)
theorem dJ7_append_18 : decode cJ7_append 18 = .ok (.invokestatic 191, 3) := dk_184 0 191 (dk_at dksJ7_append_0 18 rfl rfl)
theorem dJ7_append_21 : decode cJ7_append 21 = .ok (.ifCond .eq 24, 3) := dk_153 0 24 (dk_at dksJ7_append_0 21 rfl rfl)
theorem dJ7_append_24 : decode cJ7_append 24 = .ok (.aload_n 0, 1) := dk_42 (dk_at dksJ7_append_1 0 rfl rfl)
theorem dJ7_append_25 : decode cJ7_append 25 = .ok (.getfield 15, 3) := dk_180 0 15 (dk_at dksJ7_append_1 1 rfl rfl)
theorem dJ7_append_28 : decode cJ7_append 28 = .ok (.aload_n 0, 1) := dk_42 (dk_at dksJ7_append_1 4 rfl rfl)
theorem dJ7_append_29 : decode cJ7_append 29 = .ok (.dup, 1) := dk_89 (dk_at dksJ7_append_1 5 rfl rfl)
theorem dJ7_append_30 : decode cJ7_append 30 = .ok (.getfield 79, 3) := dk_180 0 79 (dk_at dksJ7_append_1 6 rfl rfl)
theorem dJ7_append_33 : decode cJ7_append 33 = .ok (.dup_x1, 1) := dk_90 (dk_at dksJ7_append_1 9 rfl rfl)
theorem dJ7_append_34 : decode cJ7_append 34 = .ok (.iconst 1, 1) := dk_4 (dk_at dksJ7_append_1 10 rfl rfl)
theorem dJ7_append_35 : decode cJ7_append 35 = .ok (.iadd, 1) := dk_96 (dk_at dksJ7_append_1 11 rfl rfl)
theorem dJ7_append_36 : decode cJ7_append 36 = .ok (.putfield 79, 3) := dk_181 0 79 (dk_at dksJ7_append_1 12 rfl rfl)
theorem dJ7_append_39 : decode cJ7_append 39 = .ok (.iload_n 1, 1) := dk_27 (dk_at dksJ7_append_1 15 rfl rfl)
theorem dJ7_append_40 : decode cJ7_append 40 = .ok (.i2b, 1) := dk_145 (dk_at dksJ7_append_1 16 rfl rfl)
theorem dJ7_append_41 : decode cJ7_append 41 = .ok (.bastore, 1) := dk_84 (dk_at dksJ7_append_1 17 rfl rfl)
theorem dJ7_append_42 : decode cJ7_append 42 = .ok (.goto 33, 3) := dk_167 0 33 (dk_at dksJ7_append_1 18 rfl rfl)
theorem dJ7_append_45 : decode cJ7_append 45 = .ok (.aload_n 0, 1) := dk_42 (dk_at dksJ7_append_1 21 rfl rfl)
theorem dJ7_append_46 : decode cJ7_append 46 = .ok (.invokevirtual 83, 3) := dk_182 0 83 (dk_at dksJ7_append_2 0 rfl rfl)
theorem dJ7_append_49 : decode cJ7_append 49 = .ok (.ifCond .eq 7, 3) := dk_153 0 7 (dk_at dksJ7_append_2 3 rfl rfl)
theorem dJ7_append_52 : decode cJ7_append 52 = .ok (.aload_n 0, 1) := dk_42 (dk_at dksJ7_append_2 6 rfl rfl)
theorem dJ7_append_53 : decode cJ7_append 53 = .ok (.invokevirtual 195, 3) := dk_182 0 195 (dk_at dksJ7_append_2 7 rfl rfl)
theorem dJ7_append_56 : decode cJ7_append 56 = .ok (.aload_n 0, 1) := dk_42 (dk_at dksJ7_append_2 10 rfl rfl)
theorem dJ7_append_57 : decode cJ7_append 57 = .ok (.getfield 15, 3) := dk_180 0 15 (dk_at dksJ7_append_2 11 rfl rfl)
theorem dJ7_append_60 : decode cJ7_append 60 = .ok (.aload_n 0, 1) := dk_42 (dk_at dksJ7_append_2 14 rfl rfl)
theorem dJ7_append_61 : decode cJ7_append 61 = .ok (.dup, 1) := dk_89 (dk_at dksJ7_append_2 15 rfl rfl)
theorem dJ7_append_62 : decode cJ7_append 62 = .ok (.getfield 79, 3) := dk_180 0 79 (dk_at dksJ7_append_2 16 rfl rfl)
theorem dJ7_append_65 : decode cJ7_append 65 = .ok (.dup_x1, 1) := dk_90 (dk_at dksJ7_append_2 19 rfl rfl)
theorem dJ7_append_66 : decode cJ7_append 66 = .ok (.iconst 1, 1) := dk_4 (dk_at dksJ7_append_2 20 rfl rfl)
theorem dJ7_append_67 : decode cJ7_append 67 = .ok (.iadd, 1) := dk_96 (dk_at dksJ7_append_2 21 rfl rfl)
theorem dJ7_append_68 : decode cJ7_append 68 = .ok (.putfield 79, 3) := dk_181 0 79 (dk_at dksJ7_append_3 0 rfl rfl)
theorem dJ7_append_71 : decode cJ7_append 71 = .ok (.iload_n 1, 1) := dk_27 (dk_at dksJ7_append_3 3 rfl rfl)
theorem dJ7_append_72 : decode cJ7_append 72 = .ok (.invokestatic 197, 3) := dk_184 0 197 (dk_at dksJ7_append_3 4 rfl rfl)
theorem dJ7_append_75 : decode cJ7_append 75 = .ok (.aload_n 0, 1) := dk_42 (dk_at dksJ7_append_3 7 rfl rfl)
theorem dJ7_append_76 : decode cJ7_append 76 = .ok (.areturn, 1) := dk_176 (dk_at dksJ7_append_3 8 rfl rfl)
theorem c48000 : jtCode 48000 = cJ7_append := rfl
theorem E48000_0 (d : Nat) (a0 : Nat) (i1 : Int32) (h : AH) : G d 48000 0 [.ref a0, .int i1] [] h = zpI (jf (jc h (.ref a0)) [49] 3) (fun x1 => zcV (M d 48005 [.ref a0, .int (x1 + 1)] h) (fun h3 => zcI (M d 48009 [.ref a0] h3) (fun x4 h5 => if x4 = 0 then (G d 48000 45 [.ref a0, .int i1] [] h5) else (zcI (M d 54000 [.int i1] h5) (fun x6 h7 => if x6 = 0 then (G d 48000 45 [.ref a0, .int i1] [] h7) else (zpR (jf (jc h7 (.ref a0)) [49] 0) (fun r8 => zpI (jf (jc h7 (.ref a0)) [49] 3) (fun x9 => zqF h7 (.ref a0) [49] 3 0 (.int (x9 + 1)) (fun h10 => zqB h10 r8 x9 ((i1).toInt8.toInt32) (fun h11 => some (.inl (some (.ref a0)), h11)) ()) ()) ()) ())) ())) ()) ()) () := by
  refine (g_aload_n c48000 dJ7_append_0 rfl).trans ?_
  refine (g_aload_n c48000 dJ7_append_1 rfl).trans ?_
  refine (g_getI c48000 dJ7_append_2 rfl rfl).trans (rI_cg fun x1 => ?_)
  refine (g_iconst (x := 1) c48000 dJ7_append_5 rfl).trans ?_
  refine (g_iadd c48000 dJ7_append_6).trans ?_
  refine (g_virtual (as := [.ref a0, .int (x1 + 1)]) (rest := []) c48000 dJ7_append_7 rfl rfl rfl rfl rfl).trans ((jback_V (κx := cX) (fun e h => jthrow_out rfl)).trans (cV_cg fun h3 => ?_))
  refine (g_aload_n c48000 dJ7_append_10 rfl).trans ?_
  refine (g_virtual (as := [.ref a0]) (rest := []) c48000 dJ7_append_11 rfl rfl rfl rfl rfl).trans ((jback_I (κx := cX) (fun e h => jthrow_out rfl)).trans (cI_cg fun x4 h5 => ?_))
  refine (g_if_eq (tgt := 45) c48000 dJ7_append_14 rfl).trans (if_cg ?_ ?_)
  · skip
    rfl
  · skip
    refine (g_iload_n c48000 dJ7_append_17 rfl).trans ?_
    refine (g_static (as := [.int i1]) (rest := []) c48000 dJ7_append_18 rfl rfl rfl rfl rfl).trans ((jback_I (κx := cX) (fun e h => jthrow_out rfl)).trans (cI_cg fun x6 h7 => ?_))
    refine (g_if_eq (tgt := 45) c48000 dJ7_append_21 rfl).trans (if_cg ?_ ?_)
    · skip
      rfl
    · skip
      refine (g_aload_n c48000 dJ7_append_24 rfl).trans ?_
      refine (g_getR c48000 dJ7_append_25 rfl).trans (rR_cg fun r8 => ?_)
      refine (g_aload_n c48000 dJ7_append_28 rfl).trans ?_
      refine (g_dup_r c48000 dJ7_append_29).trans ?_
      refine (g_getI c48000 dJ7_append_30 rfl rfl).trans (rI_cg fun x9 => ?_)
      refine (g_dup_x1_ir c48000 dJ7_append_33).trans ?_
      refine (g_iconst (x := 1) c48000 dJ7_append_34 rfl).trans ?_
      refine (g_iadd c48000 dJ7_append_35).trans ?_
      refine (g_put c48000 dJ7_append_36 rfl).trans (pF_cg fun h10 => ?_)
      refine (g_iload_n c48000 dJ7_append_39 rfl).trans ?_
      refine (g_i2b c48000 dJ7_append_40).trans ?_
      refine (g_bastore c48000 dJ7_append_41).trans (aSb_cg fun h11 => ?_)
      refine (g_goto (tgt := 75) c48000 dJ7_append_42 rfl).trans ?_
      refine (g_aload_n c48000 dJ7_append_75 rfl).trans ?_
      exact g_areturn_r c48000 dJ7_append_76 rfl
theorem E48000_45 (d : Nat) (a0 : Nat) (i1 : Int32) (h : AH) : G d 48000 45 [.ref a0, .int i1] [] h = zcI (M d 48009 [.ref a0] h) (fun x1 h2 => if x1 = 0 then (zpR (jf (jc h2 (.ref a0)) [49] 0) (fun r3 => zpI (jf (jc h2 (.ref a0)) [49] 3) (fun x4 => zqF h2 (.ref a0) [49] 3 0 (.int (x4 + 1)) (fun h5 => zcV (M d 51025 [r3, .int x4, .int i1] h5) (fun h7 => some (.inl (some (.ref a0)), h7)) ()) ()) ()) ()) else (zcV (M d 48007 [.ref a0] h2) (fun h9 => zpR (jf (jc h9 (.ref a0)) [49] 0) (fun r10 => zpI (jf (jc h9 (.ref a0)) [49] 3) (fun x11 => zqF h9 (.ref a0) [49] 3 0 (.int (x11 + 1)) (fun h12 => zcV (M d 51025 [r10, .int x11, .int i1] h12) (fun h14 => some (.inl (some (.ref a0)), h14)) ()) ()) ()) ()) ())) () := by
  refine (g_aload_n c48000 dJ7_append_45 rfl).trans ?_
  refine (g_virtual (as := [.ref a0]) (rest := []) c48000 dJ7_append_46 rfl rfl rfl rfl rfl).trans ((jback_I (κx := cX) (fun e h => jthrow_out rfl)).trans (cI_cg fun x1 h2 => ?_))
  refine (g_if_eq (tgt := 56) c48000 dJ7_append_49 rfl).trans (if_cg ?_ ?_)
  · skip
    refine (g_aload_n c48000 dJ7_append_56 rfl).trans ?_
    refine (g_getR c48000 dJ7_append_57 rfl).trans (rR_cg fun r3 => ?_)
    refine (g_aload_n c48000 dJ7_append_60 rfl).trans ?_
    refine (g_dup_r c48000 dJ7_append_61).trans ?_
    refine (g_getI c48000 dJ7_append_62 rfl rfl).trans (rI_cg fun x4 => ?_)
    refine (g_dup_x1_ir c48000 dJ7_append_65).trans ?_
    refine (g_iconst (x := 1) c48000 dJ7_append_66 rfl).trans ?_
    refine (g_iadd c48000 dJ7_append_67).trans ?_
    refine (g_put c48000 dJ7_append_68 rfl).trans (pF_cg fun h5 => ?_)
    refine (g_iload_n c48000 dJ7_append_71 rfl).trans ?_
    refine (g_static (as := [r3, .int x4, .int i1]) (rest := []) c48000 dJ7_append_72 rfl rfl rfl rfl rfl).trans ((jback_V (κx := cX) (fun e h => jthrow_out rfl)).trans (cV_cg fun h7 => ?_))
    refine (g_aload_n c48000 dJ7_append_75 rfl).trans ?_
    exact g_areturn_r c48000 dJ7_append_76 rfl
  · skip
    refine (g_aload_n c48000 dJ7_append_52 rfl).trans ?_
    refine (g_virtual (as := [.ref a0]) (rest := []) c48000 dJ7_append_53 rfl rfl rfl rfl rfl).trans ((jback_V (κx := cX) (fun e h => jthrow_out rfl)).trans (cV_cg fun h9 => ?_))
    refine (g_aload_n c48000 dJ7_append_56 rfl).trans ?_
    refine (g_getR c48000 dJ7_append_57 rfl).trans (rR_cg fun r10 => ?_)
    refine (g_aload_n c48000 dJ7_append_60 rfl).trans ?_
    refine (g_dup_r c48000 dJ7_append_61).trans ?_
    refine (g_getI c48000 dJ7_append_62 rfl rfl).trans (rI_cg fun x11 => ?_)
    refine (g_dup_x1_ir c48000 dJ7_append_65).trans ?_
    refine (g_iconst (x := 1) c48000 dJ7_append_66 rfl).trans ?_
    refine (g_iadd c48000 dJ7_append_67).trans ?_
    refine (g_put c48000 dJ7_append_68 rfl).trans (pF_cg fun h12 => ?_)
    refine (g_iload_n c48000 dJ7_append_71 rfl).trans ?_
    refine (g_static (as := [r10, .int x11, .int i1]) (rest := []) c48000 dJ7_append_72 rfl rfl rfl rfl rfl).trans ((jback_V (κx := cX) (fun e h => jthrow_out rfl)).trans (cV_cg fun h14 => ?_))
    refine (g_aload_n c48000 dJ7_append_75 rfl).trans ?_
    exact g_areturn_r c48000 dJ7_append_76 rfl
theorem X48000 {d : Nat} {a0 : Nat} {i1 : Int32} (h : AH) (hr : jrecv 48000 [.ref a0, .int i1] h = true) : M (d + 1) 48000 [.ref a0, .int i1] h = G d 48000 0 [.ref a0, .int i1] [] h := M_eq rfl hr rfl
/-! java/lang/AbstractStringBuilder.appendNull()Ljava/lang/AbstractStringBuilder; -/
abbrev cJ7_appendNull : ByteArray := prog_37_method_26_code
def dkwJ7_appendNull_3 : List UInt8 := [184, 0, 226, 60, 42, 27, 181, 0, 79, 42, 176]
abbrev dktJ7_appendNull_3 : List UInt8 := dkwJ7_appendNull_3 ++ []
def dkwJ7_appendNull_2 : List UInt8 := [16, 108, 84, 44, 27, 132, 1, 1, 16, 108, 84, 167, 0, 17, 44, 27, 16, 110, 16, 117, 16, 108, 16, 108]
abbrev dktJ7_appendNull_2 : List UInt8 := dkwJ7_appendNull_2 ++ dktJ7_appendNull_3
def dkwJ7_appendNull_1 : List UInt8 := [153, 0, 38, 44, 27, 132, 1, 1, 16, 110, 84, 44, 27, 132, 1, 1, 16, 117, 84, 44, 27, 132, 1, 1]
abbrev dktJ7_appendNull_1 : List UInt8 := dkwJ7_appendNull_1 ++ dktJ7_appendNull_2
def dkwJ7_appendNull_0 : List UInt8 := [42, 42, 180, 0, 79, 7, 96, 182, 0, 100, 42, 180, 0, 79, 60, 42, 180, 0, 15, 77, 42, 182, 0, 83]
abbrev dktJ7_appendNull_0 : List UInt8 := dkwJ7_appendNull_0 ++ dktJ7_appendNull_1
theorem dksJ7_appendNull_0 : cJ7_appendNull.data.toList.drop 0 = dktJ7_appendNull_0 := by decide +kernel
theorem dksJ7_appendNull_1 : cJ7_appendNull.data.toList.drop 24 = dktJ7_appendNull_1 := dk_seg dksJ7_appendNull_0 24 rfl rfl
theorem dksJ7_appendNull_2 : cJ7_appendNull.data.toList.drop 48 = dktJ7_appendNull_2 := dk_seg dksJ7_appendNull_1 24 rfl rfl
theorem dksJ7_appendNull_3 : cJ7_appendNull.data.toList.drop 72 = dktJ7_appendNull_3 := dk_seg dksJ7_appendNull_2 24 rfl rfl
theorem dJ7_appendNull_0 : decode cJ7_appendNull 0 = .ok (.aload_n 0, 1) := dk_42 (dk_at dksJ7_appendNull_0 0 rfl rfl)
theorem dJ7_appendNull_1 : decode cJ7_appendNull 1 = .ok (.aload_n 0, 1) := dk_42 (dk_at dksJ7_appendNull_0 1 rfl rfl)
theorem dJ7_appendNull_2 : decode cJ7_appendNull 2 = .ok (.getfield 79, 3) := dk_180 0 79 (dk_at dksJ7_appendNull_0 2 rfl rfl)
theorem dJ7_appendNull_5 : decode cJ7_appendNull 5 = .ok (.iconst 4, 1) := dk_7 (dk_at dksJ7_appendNull_0 5 rfl rfl)
theorem dJ7_appendNull_6 : decode cJ7_appendNull 6 = .ok (.iadd, 1) := dk_96 (dk_at dksJ7_appendNull_0 6 rfl rfl)
theorem dJ7_appendNull_7 : decode cJ7_appendNull 7 = .ok (.invokevirtual 100, 3) := dk_182 0 100 (dk_at dksJ7_appendNull_0 7 rfl rfl)
theorem dJ7_appendNull_10 : decode cJ7_appendNull 10 = .ok (.aload_n 0, 1) := dk_42 (dk_at dksJ7_appendNull_0 10 rfl rfl)
theorem dJ7_appendNull_11 : decode cJ7_appendNull 11 = .ok (.getfield 79, 3) := dk_180 0 79 (dk_at dksJ7_appendNull_0 11 rfl rfl)
theorem dJ7_appendNull_14 : decode cJ7_appendNull 14 = .ok (.istore_n 1, 1) := dk_60 (dk_at dksJ7_appendNull_0 14 rfl rfl)
theorem dJ7_appendNull_15 : decode cJ7_appendNull 15 = .ok (.aload_n 0, 1) := dk_42 (dk_at dksJ7_appendNull_0 15 rfl rfl)
theorem dJ7_appendNull_16 : decode cJ7_appendNull 16 = .ok (.getfield 15, 3) := dk_180 0 15 (dk_at dksJ7_appendNull_0 16 rfl rfl)
theorem dJ7_appendNull_19 : decode cJ7_appendNull 19 = .ok (.astore_n 2, 1) := dk_77 (dk_at dksJ7_appendNull_0 19 rfl rfl)
theorem dJ7_appendNull_20 : decode cJ7_appendNull 20 = .ok (.aload_n 0, 1) := dk_42 (dk_at dksJ7_appendNull_0 20 rfl rfl)
theorem dJ7_appendNull_21 : decode cJ7_appendNull 21 = .ok (.invokevirtual 83, 3) := dk_182 0 83 (dk_at dksJ7_appendNull_0 21 rfl rfl)
theorem dJ7_appendNull_24 : decode cJ7_appendNull 24 = .ok (.ifCond .eq 38, 3) := dk_153 0 38 (dk_at dksJ7_appendNull_1 0 rfl rfl)
theorem dJ7_appendNull_27 : decode cJ7_appendNull 27 = .ok (.aload_n 2, 1) := dk_44 (dk_at dksJ7_appendNull_1 3 rfl rfl)
theorem dJ7_appendNull_28 : decode cJ7_appendNull 28 = .ok (.iload_n 1, 1) := dk_27 (dk_at dksJ7_appendNull_1 4 rfl rfl)
theorem dJ7_appendNull_29 : decode cJ7_appendNull 29 = .ok (.iinc 1 1, 3) := dk_132 1 1 (dk_at dksJ7_appendNull_1 5 rfl rfl)
theorem dJ7_appendNull_32 : decode cJ7_appendNull 32 = .ok (.bipush 110, 2) := dk_16 110 (dk_at dksJ7_appendNull_1 8 rfl rfl)
theorem dJ7_appendNull_34 : decode cJ7_appendNull 34 = .ok (.bastore, 1) := dk_84 (dk_at dksJ7_appendNull_1 10 rfl rfl)
theorem dJ7_appendNull_35 : decode cJ7_appendNull 35 = .ok (.aload_n 2, 1) := dk_44 (dk_at dksJ7_appendNull_1 11 rfl rfl)
theorem dJ7_appendNull_36 : decode cJ7_appendNull 36 = .ok (.iload_n 1, 1) := dk_27 (dk_at dksJ7_appendNull_1 12 rfl rfl)
theorem dJ7_appendNull_37 : decode cJ7_appendNull 37 = .ok (.iinc 1 1, 3) := dk_132 1 1 (dk_at dksJ7_appendNull_1 13 rfl rfl)
theorem dJ7_appendNull_40 : decode cJ7_appendNull 40 = .ok (.bipush 117, 2) := dk_16 117 (dk_at dksJ7_appendNull_1 16 rfl rfl)
theorem dJ7_appendNull_42 : decode cJ7_appendNull 42 = .ok (.bastore, 1) := dk_84 (dk_at dksJ7_appendNull_1 18 rfl rfl)
theorem dJ7_appendNull_43 : decode cJ7_appendNull 43 = .ok (.aload_n 2, 1) := dk_44 (dk_at dksJ7_appendNull_1 19 rfl rfl)
theorem dJ7_appendNull_44 : decode cJ7_appendNull 44 = .ok (.iload_n 1, 1) := dk_27 (dk_at dksJ7_appendNull_1 20 rfl rfl)
theorem dJ7_appendNull_45 : decode cJ7_appendNull 45 = .ok (.iinc 1 1, 3) := dk_132 1 1 (dk_at dksJ7_appendNull_1 21 rfl rfl)
theorem dJ7_appendNull_48 : decode cJ7_appendNull 48 = .ok (.bipush 108, 2) := dk_16 108 (dk_at dksJ7_appendNull_2 0 rfl rfl)
theorem dJ7_appendNull_50 : decode cJ7_appendNull 50 = .ok (.bastore, 1) := dk_84 (dk_at dksJ7_appendNull_2 2 rfl rfl)
theorem dJ7_appendNull_51 : decode cJ7_appendNull 51 = .ok (.aload_n 2, 1) := dk_44 (dk_at dksJ7_appendNull_2 3 rfl rfl)
theorem dJ7_appendNull_52 : decode cJ7_appendNull 52 = .ok (.iload_n 1, 1) := dk_27 (dk_at dksJ7_appendNull_2 4 rfl rfl)
theorem dJ7_appendNull_53 : decode cJ7_appendNull 53 = .ok (.iinc 1 1, 3) := dk_132 1 1 (dk_at dksJ7_appendNull_2 5 rfl rfl)
theorem dJ7_appendNull_56 : decode cJ7_appendNull 56 = .ok (.bipush 108, 2) := dk_16 108 (dk_at dksJ7_appendNull_2 8 rfl rfl)
theorem dJ7_appendNull_58 : decode cJ7_appendNull 58 = .ok (.bastore, 1) := dk_84 (dk_at dksJ7_appendNull_2 10 rfl rfl)
theorem dJ7_appendNull_59 : decode cJ7_appendNull 59 = .ok (.goto 17, 3) := dk_167 0 17 (dk_at dksJ7_appendNull_2 11 rfl rfl)
theorem dJ7_appendNull_62 : decode cJ7_appendNull 62 = .ok (.aload_n 2, 1) := dk_44 (dk_at dksJ7_appendNull_2 14 rfl rfl)
theorem dJ7_appendNull_63 : decode cJ7_appendNull 63 = .ok (.iload_n 1, 1) := dk_27 (dk_at dksJ7_appendNull_2 15 rfl rfl)
theorem dJ7_appendNull_64 : decode cJ7_appendNull 64 = .ok (.bipush 110, 2) := dk_16 110 (dk_at dksJ7_appendNull_2 16 rfl rfl)
theorem dJ7_appendNull_66 : decode cJ7_appendNull 66 = .ok (.bipush 117, 2) := dk_16 117 (dk_at dksJ7_appendNull_2 18 rfl rfl)
theorem dJ7_appendNull_68 : decode cJ7_appendNull 68 = .ok (.bipush 108, 2) := dk_16 108 (dk_at dksJ7_appendNull_2 20 rfl rfl)
theorem dJ7_appendNull_70 : decode cJ7_appendNull 70 = .ok (.bipush 108, 2) := dk_16 108 (dk_at dksJ7_appendNull_2 22 rfl rfl)
theorem dJ7_appendNull_72 : decode cJ7_appendNull 72 = .ok (.invokestatic 226, 3) := dk_184 0 226 (dk_at dksJ7_appendNull_3 0 rfl rfl)
theorem dJ7_appendNull_75 : decode cJ7_appendNull 75 = .ok (.istore_n 1, 1) := dk_60 (dk_at dksJ7_appendNull_3 3 rfl rfl)
theorem dJ7_appendNull_76 : decode cJ7_appendNull 76 = .ok (.aload_n 0, 1) := dk_42 (dk_at dksJ7_appendNull_3 4 rfl rfl)
theorem dJ7_appendNull_77 : decode cJ7_appendNull 77 = .ok (.iload_n 1, 1) := dk_27 (dk_at dksJ7_appendNull_3 5 rfl rfl)
theorem dJ7_appendNull_78 : decode cJ7_appendNull 78 = .ok (.putfield 79, 3) := dk_181 0 79 (dk_at dksJ7_appendNull_3 6 rfl rfl)
theorem dJ7_appendNull_81 : decode cJ7_appendNull 81 = .ok (.aload_n 0, 1) := dk_42 (dk_at dksJ7_appendNull_3 9 rfl rfl)
theorem dJ7_appendNull_82 : decode cJ7_appendNull 82 = .ok (.areturn, 1) := dk_176 (dk_at dksJ7_appendNull_3 10 rfl rfl)
theorem c48001 : jtCode 48001 = cJ7_appendNull := rfl
theorem E48001_0 (d : Nat) (a0 : Nat) (h : AH) : G d 48001 0 [.ref a0, jno, jno] [] h = zpI (jf (jc h (.ref a0)) [49] 3) (fun x1 => zcV (M d 48005 [.ref a0, .int (x1 + 4)] h) (fun h3 => zpI (jf (jc h3 (.ref a0)) [49] 3) (fun x4 => zpR (jf (jc h3 (.ref a0)) [49] 0) (fun r5 => zkR r5 (zcI (M d 48009 [.ref a0] h3) (fun x6 h7 => if x6 = 0 then (zkR r5 (zcI (M d 51026 [r5, .int x4, .int 110, .int 117, .int 108, .int 108] h7) (fun x8 h9 => zqF h9 (.ref a0) [49] 3 0 (.int x8) (fun h10 => some (.inl (some (.ref a0)), h10)) ()) ()) ()) else (zkR r5 (zqB h7 r5 x4 110 (fun h11 => zkR r5 (zqB h11 r5 (x4 + 1) 117 (fun h12 => zkR r5 (zqB h12 r5 ((x4 + 1) + 1) 108 (fun h13 => zkR r5 (zqB h13 r5 (((x4 + 1) + 1) + 1) 108 (fun h14 => zqF h14 (.ref a0) [49] 3 0 (.int ((((x4 + 1) + 1) + 1) + 1)) (fun h15 => some (.inl (some (.ref a0)), h15)) ()) ()) ()) ()) ()) ()) ()) ()) ())) ()) ()) ()) ()) ()) () := by
  refine (g_aload_n c48001 dJ7_appendNull_0 rfl).trans ?_
  refine (g_aload_n c48001 dJ7_appendNull_1 rfl).trans ?_
  refine (g_getI c48001 dJ7_appendNull_2 rfl rfl).trans (rI_cg fun x1 => ?_)
  refine (g_iconst (x := 4) c48001 dJ7_appendNull_5 rfl).trans ?_
  refine (g_iadd c48001 dJ7_appendNull_6).trans ?_
  refine (g_virtual (as := [.ref a0, .int (x1 + 4)]) (rest := []) c48001 dJ7_appendNull_7 rfl rfl rfl rfl rfl).trans ((jback_V (κx := cX) (fun e h => jthrow_out rfl)).trans (cV_cg fun h3 => ?_))
  refine (g_aload_n c48001 dJ7_appendNull_10 rfl).trans ?_
  refine (g_getI c48001 dJ7_appendNull_11 rfl rfl).trans (rI_cg fun x4 => ?_)
  refine (g_istore_n (L' := [.ref a0, .int x4, jno]) c48001 dJ7_appendNull_14 rfl rfl).trans ?_
  refine (g_aload_n c48001 dJ7_appendNull_15 rfl).trans ?_
  refine (g_getR c48001 dJ7_appendNull_16 rfl).trans (rR_cg fun r5 => ?_)
  refine (g_astore_nV (L' := [.ref a0, .int x4, r5]) c48001 dJ7_appendNull_19 rfl rfl).trans (ckR_cg ?_)
  refine (g_aload_n c48001 dJ7_appendNull_20 rfl).trans ?_
  refine (g_virtual (as := [.ref a0]) (rest := []) c48001 dJ7_appendNull_21 rfl rfl rfl rfl rfl).trans ((jback_I (κx := cX) (fun e h => jthrow_out rfl)).trans (cI_cg fun x6 h7 => ?_))
  refine (g_if_eq (tgt := 62) c48001 dJ7_appendNull_24 rfl).trans (if_cg ?_ ?_)
  · skip
    refine (g_aload_nV c48001 dJ7_appendNull_62 rfl).trans (ckR_cg ?_)
    refine (g_iload_n c48001 dJ7_appendNull_63 rfl).trans ?_
    refine (g_bipush (x := 110) c48001 dJ7_appendNull_64 rfl).trans ?_
    refine (g_bipush (x := 117) c48001 dJ7_appendNull_66 rfl).trans ?_
    refine (g_bipush (x := 108) c48001 dJ7_appendNull_68 rfl).trans ?_
    refine (g_bipush (x := 108) c48001 dJ7_appendNull_70 rfl).trans ?_
    refine (g_static (as := [r5, .int x4, .int 110, .int 117, .int 108, .int 108]) (rest := []) c48001 dJ7_appendNull_72 rfl rfl rfl rfl rfl).trans ((jback_I (κx := cX) (fun e h => jthrow_out rfl)).trans (cI_cg fun x8 h9 => ?_))
    refine (g_istore_n (L' := [.ref a0, .int x8, r5]) c48001 dJ7_appendNull_75 rfl rfl).trans ?_
    refine (g_aload_n c48001 dJ7_appendNull_76 rfl).trans ?_
    refine (g_iload_n c48001 dJ7_appendNull_77 rfl).trans ?_
    refine (g_put c48001 dJ7_appendNull_78 rfl).trans (pF_cg fun h10 => ?_)
    refine (g_aload_n c48001 dJ7_appendNull_81 rfl).trans ?_
    exact g_areturn_r c48001 dJ7_appendNull_82 rfl
  · skip
    refine (g_aload_nV c48001 dJ7_appendNull_27 rfl).trans (ckR_cg ?_)
    refine (g_iload_n c48001 dJ7_appendNull_28 rfl).trans ?_
    refine (g_iinc (c := 1) (L' := [.ref a0, .int (x4 + 1), r5]) c48001 dJ7_appendNull_29 rfl rfl rfl rfl).trans ?_
    refine (g_bipush (x := 110) c48001 dJ7_appendNull_32 rfl).trans ?_
    refine (g_bastore c48001 dJ7_appendNull_34).trans (aSb_cg fun h11 => ?_)
    refine (g_aload_nV c48001 dJ7_appendNull_35 rfl).trans (ckR_cg ?_)
    refine (g_iload_n c48001 dJ7_appendNull_36 rfl).trans ?_
    refine (g_iinc (c := 1) (L' := [.ref a0, .int ((x4 + 1) + 1), r5]) c48001 dJ7_appendNull_37 rfl rfl rfl rfl).trans ?_
    refine (g_bipush (x := 117) c48001 dJ7_appendNull_40 rfl).trans ?_
    refine (g_bastore c48001 dJ7_appendNull_42).trans (aSb_cg fun h12 => ?_)
    refine (g_aload_nV c48001 dJ7_appendNull_43 rfl).trans (ckR_cg ?_)
    refine (g_iload_n c48001 dJ7_appendNull_44 rfl).trans ?_
    refine (g_iinc (c := 1) (L' := [.ref a0, .int (((x4 + 1) + 1) + 1), r5]) c48001 dJ7_appendNull_45 rfl rfl rfl rfl).trans ?_
    refine (g_bipush (x := 108) c48001 dJ7_appendNull_48 rfl).trans ?_
    refine (g_bastore c48001 dJ7_appendNull_50).trans (aSb_cg fun h13 => ?_)
    refine (g_aload_nV c48001 dJ7_appendNull_51 rfl).trans (ckR_cg ?_)
    refine (g_iload_n c48001 dJ7_appendNull_52 rfl).trans ?_
    refine (g_iinc (c := 1) (L' := [.ref a0, .int ((((x4 + 1) + 1) + 1) + 1), r5]) c48001 dJ7_appendNull_53 rfl rfl rfl rfl).trans ?_
    refine (g_bipush (x := 108) c48001 dJ7_appendNull_56 rfl).trans ?_
    refine (g_bastore c48001 dJ7_appendNull_58).trans (aSb_cg fun h14 => ?_)
    refine (g_goto (tgt := 76) c48001 dJ7_appendNull_59 rfl).trans ?_
    refine (g_aload_n c48001 dJ7_appendNull_76 rfl).trans ?_
    refine (g_iload_n c48001 dJ7_appendNull_77 rfl).trans ?_
    refine (g_put c48001 dJ7_appendNull_78 rfl).trans (pF_cg fun h15 => ?_)
    refine (g_aload_n c48001 dJ7_appendNull_81 rfl).trans ?_
    exact g_areturn_r c48001 dJ7_appendNull_82 rfl
theorem X48001 {d : Nat} {a0 : Nat} (h : AH) (hr : jrecv 48001 [.ref a0] h = true) : M (d + 1) 48001 [.ref a0] h = G d 48001 0 [.ref a0, jno, jno] [] h := M_eq rfl hr rfl
/-! java/lang/AbstractStringBuilder.append(Ljava/lang/String;)Ljava/lang/AbstractStringBuilder; -/
abbrev cJ7_append_2 : ByteArray := prog_37_method_22_code
def dkwJ7_append_2_1 : List UInt8 := [42, 42, 180, 0, 79, 43, 182, 0, 208, 42, 89, 180, 0, 79, 28, 96, 181, 0, 79, 42, 176]
abbrev dktJ7_append_2_1 : List UInt8 := dkwJ7_append_2_1 ++ []
def dkwJ7_append_2_0 : List UInt8 := [43, 199, 0, 8, 42, 182, 0, 204, 176, 43, 182, 0, 32, 61, 42, 42, 180, 0, 79, 28, 96, 182, 0, 100]
abbrev dktJ7_append_2_0 : List UInt8 := dkwJ7_append_2_0 ++ dktJ7_append_2_1
theorem dksJ7_append_2_0 : cJ7_append_2.data.toList.drop 0 = dktJ7_append_2_0 := by decide +kernel
theorem dksJ7_append_2_1 : cJ7_append_2.data.toList.drop 24 = dktJ7_append_2_1 := dk_seg dksJ7_append_2_0 24 rfl rfl
theorem dJ7_append_2_0 : decode cJ7_append_2 0 = .ok (.aload_n 1, 1) := dk_43 (dk_at dksJ7_append_2_0 0 rfl rfl)
theorem dJ7_append_2_1 : decode cJ7_append_2 1 = .ok (.ifnonnull 8, 3) := dk_199 0 8 (dk_at dksJ7_append_2_0 1 rfl rfl)
theorem dJ7_append_2_4 : decode cJ7_append_2 4 = .ok (.aload_n 0, 1) := dk_42 (dk_at dksJ7_append_2_0 4 rfl rfl)
theorem dJ7_append_2_5 : decode cJ7_append_2 5 = .ok (.invokevirtual 204, 3) := dk_182 0 204 (dk_at dksJ7_append_2_0 5 rfl rfl)
theorem dJ7_append_2_8 : decode cJ7_append_2 8 = .ok (.areturn, 1) := dk_176 (dk_at dksJ7_append_2_0 8 rfl rfl)
theorem dJ7_append_2_9 : decode cJ7_append_2 9 = .ok (.aload_n 1, 1) := dk_43 (dk_at dksJ7_append_2_0 9 rfl rfl)
theorem dJ7_append_2_10 : decode cJ7_append_2 10 = .ok (.invokevirtual 32, 3) := dk_182 0 32 (dk_at dksJ7_append_2_0 10 rfl rfl)
theorem dJ7_append_2_13 : decode cJ7_append_2 13 = .ok (.istore_n 2, 1) := dk_61 (dk_at dksJ7_append_2_0 13 rfl rfl)
theorem dJ7_append_2_14 : decode cJ7_append_2 14 = .ok (.aload_n 0, 1) := dk_42 (dk_at dksJ7_append_2_0 14 rfl rfl)
theorem dJ7_append_2_15 : decode cJ7_append_2 15 = .ok (.aload_n 0, 1) := dk_42 (dk_at dksJ7_append_2_0 15 rfl rfl)
theorem dJ7_append_2_16 : decode cJ7_append_2 16 = .ok (.getfield 79, 3) := dk_180 0 79 (dk_at dksJ7_append_2_0 16 rfl rfl)
theorem dJ7_append_2_19 : decode cJ7_append_2 19 = .ok (.iload_n 2, 1) := dk_28 (dk_at dksJ7_append_2_0 19 rfl rfl)
theorem dJ7_append_2_20 : decode cJ7_append_2 20 = .ok (.iadd, 1) := dk_96 (dk_at dksJ7_append_2_0 20 rfl rfl)
theorem dJ7_append_2_21 : decode cJ7_append_2 21 = .ok (.invokevirtual 100, 3) := dk_182 0 100 (dk_at dksJ7_append_2_0 21 rfl rfl)
theorem dJ7_append_2_24 : decode cJ7_append_2 24 = .ok (.aload_n 0, 1) := dk_42 (dk_at dksJ7_append_2_1 0 rfl rfl)
theorem dJ7_append_2_25 : decode cJ7_append_2 25 = .ok (.aload_n 0, 1) := dk_42 (dk_at dksJ7_append_2_1 1 rfl rfl)
theorem dJ7_append_2_26 : decode cJ7_append_2 26 = .ok (.getfield 79, 3) := dk_180 0 79 (dk_at dksJ7_append_2_1 2 rfl rfl)
theorem dJ7_append_2_29 : decode cJ7_append_2 29 = .ok (.aload_n 1, 1) := dk_43 (dk_at dksJ7_append_2_1 5 rfl rfl)
theorem dJ7_append_2_30 : decode cJ7_append_2 30 = .ok (.invokevirtual 208, 3) := dk_182 0 208 (dk_at dksJ7_append_2_1 6 rfl rfl)
theorem dJ7_append_2_33 : decode cJ7_append_2 33 = .ok (.aload_n 0, 1) := dk_42 (dk_at dksJ7_append_2_1 9 rfl rfl)
theorem dJ7_append_2_34 : decode cJ7_append_2 34 = .ok (.dup, 1) := dk_89 (dk_at dksJ7_append_2_1 10 rfl rfl)
theorem dJ7_append_2_35 : decode cJ7_append_2 35 = .ok (.getfield 79, 3) := dk_180 0 79 (dk_at dksJ7_append_2_1 11 rfl rfl)
theorem dJ7_append_2_38 : decode cJ7_append_2 38 = .ok (.iload_n 2, 1) := dk_28 (dk_at dksJ7_append_2_1 14 rfl rfl)
theorem dJ7_append_2_39 : decode cJ7_append_2 39 = .ok (.iadd, 1) := dk_96 (dk_at dksJ7_append_2_1 15 rfl rfl)
theorem dJ7_append_2_40 : decode cJ7_append_2 40 = .ok (.putfield 79, 3) := dk_181 0 79 (dk_at dksJ7_append_2_1 16 rfl rfl)
theorem dJ7_append_2_43 : decode cJ7_append_2 43 = .ok (.aload_n 0, 1) := dk_42 (dk_at dksJ7_append_2_1 19 rfl rfl)
theorem dJ7_append_2_44 : decode cJ7_append_2 44 = .ok (.areturn, 1) := dk_176 (dk_at dksJ7_append_2_1 20 rfl rfl)
theorem c48002 : jtCode 48002 = cJ7_append_2 := rfl
theorem E48002_0 (d : Nat) (a0 : Nat) (v1 : Value) (h : AH) : G d 48002 0 [.ref a0, v1, jno] [] h = zkR v1 (zkR v1 (if (v1 : Value) = .null then (zcR (M d 48001 [.ref a0] h) (fun r1 h2 => ckR r1 (some (.inl (some r1), h2))) ()) else (zkR v1 (zcI (M d 50012 [v1] h) (fun x3 h4 => zpI (jf (jc h4 (.ref a0)) [49] 3) (fun x5 => zcV (M d 48005 [.ref a0, .int (x5 + x3)] h4) (fun h7 => zpI (jf (jc h7 (.ref a0)) [49] 3) (fun x8 => zkR v1 (zcV (M d 48012 [.ref a0, .int x8, v1] h7) (fun h10 => zpI (jf (jc h10 (.ref a0)) [49] 3) (fun x11 => zqF h10 (.ref a0) [49] 3 0 (.int (x11 + x3)) (fun h12 => some (.inl (some (.ref a0)), h12)) ()) ()) ()) ()) ()) ()) ()) ()) ())) ()) () := by
  refine (g_aload_nV c48002 dJ7_append_2_0 rfl).trans (ckR_cg ?_)
  refine (g_ifnonnull (tgt := 9) c48002 dJ7_append_2_1 rfl).trans (ckR_cg (if_cg ?_ ?_))
  · skip
    refine (g_aload_n c48002 dJ7_append_2_4 rfl).trans ?_
    refine (g_virtual (as := [.ref a0]) (rest := []) c48002 dJ7_append_2_5 rfl rfl rfl rfl rfl).trans ((jback_R (κx := cX) (fun e h => jthrow_out rfl)).trans (cR_cg fun r1 h2 => ?_))
    exact g_areturn c48002 dJ7_append_2_8 rfl
  · skip
    refine (g_aload_nV c48002 dJ7_append_2_9 rfl).trans (ckR_cg ?_)
    refine (g_virtual (as := [v1]) (rest := []) c48002 dJ7_append_2_10 rfl rfl rfl rfl rfl).trans ((jback_I (κx := cX) (fun e h => jthrow_out rfl)).trans (cI_cg fun x3 h4 => ?_))
    refine (g_istore_n (L' := [.ref a0, v1, .int x3]) c48002 dJ7_append_2_13 rfl rfl).trans ?_
    refine (g_aload_n c48002 dJ7_append_2_14 rfl).trans ?_
    refine (g_aload_n c48002 dJ7_append_2_15 rfl).trans ?_
    refine (g_getI c48002 dJ7_append_2_16 rfl rfl).trans (rI_cg fun x5 => ?_)
    refine (g_iload_n c48002 dJ7_append_2_19 rfl).trans ?_
    refine (g_iadd c48002 dJ7_append_2_20).trans ?_
    refine (g_virtual (as := [.ref a0, .int (x5 + x3)]) (rest := []) c48002 dJ7_append_2_21 rfl rfl rfl rfl rfl).trans ((jback_V (κx := cX) (fun e h => jthrow_out rfl)).trans (cV_cg fun h7 => ?_))
    refine (g_aload_n c48002 dJ7_append_2_24 rfl).trans ?_
    refine (g_aload_n c48002 dJ7_append_2_25 rfl).trans ?_
    refine (g_getI c48002 dJ7_append_2_26 rfl rfl).trans (rI_cg fun x8 => ?_)
    refine (g_aload_nV c48002 dJ7_append_2_29 rfl).trans (ckR_cg ?_)
    refine (g_virtual (as := [.ref a0, .int x8, v1]) (rest := []) c48002 dJ7_append_2_30 rfl rfl rfl rfl rfl).trans ((jback_V (κx := cX) (fun e h => jthrow_out rfl)).trans (cV_cg fun h10 => ?_))
    refine (g_aload_n c48002 dJ7_append_2_33 rfl).trans ?_
    refine (g_dup_r c48002 dJ7_append_2_34).trans ?_
    refine (g_getI c48002 dJ7_append_2_35 rfl rfl).trans (rI_cg fun x11 => ?_)
    refine (g_iload_n c48002 dJ7_append_2_38 rfl).trans ?_
    refine (g_iadd c48002 dJ7_append_2_39).trans ?_
    refine (g_put c48002 dJ7_append_2_40 rfl).trans (pF_cg fun h12 => ?_)
    refine (g_aload_n c48002 dJ7_append_2_43 rfl).trans ?_
    exact g_areturn_r c48002 dJ7_append_2_44 rfl
theorem X48002 {d : Nat} {a0 : Nat} {v1 : Value} (h : AH) (hv1 : isR v1 = true) (hr : jrecv 48002 [.ref a0, v1] h = true) : M (d + 1) 48002 [.ref a0, v1] h = G d 48002 0 [.ref a0, v1, jno] [] h := M_eq rfl hr (by simp only [jent, jargL_R hv1, jargL]; rfl)
/-! java/lang/AbstractStringBuilder.append(I)Ljava/lang/AbstractStringBuilder; -/
abbrev cJ7_append_3 : ByteArray := prog_37_method_32_code
def dkwJ7_append_3_2 : List UInt8 := [42, 29, 181, 0, 79, 42, 176]
abbrev dktJ7_append_3_2 : List UInt8 := dkwJ7_append_3_2 ++ []
def dkwJ7_append_3_1 : List UInt8 := [27, 29, 42, 180, 0, 15, 184, 0, 248, 87, 167, 0, 14, 27, 28, 29, 42, 180, 0, 15, 184, 0, 251, 87]
abbrev dktJ7_append_3_1 : List UInt8 := dkwJ7_append_3_1 ++ dktJ7_append_3_2
def dkwJ7_append_3_0 : List UInt8 := [42, 180, 0, 79, 61, 28, 27, 184, 0, 245, 96, 62, 42, 29, 182, 0, 100, 42, 182, 0, 83, 153, 0, 16]
abbrev dktJ7_append_3_0 : List UInt8 := dkwJ7_append_3_0 ++ dktJ7_append_3_1
theorem dksJ7_append_3_0 : cJ7_append_3.data.toList.drop 0 = dktJ7_append_3_0 := by decide +kernel
theorem dksJ7_append_3_1 : cJ7_append_3.data.toList.drop 24 = dktJ7_append_3_1 := dk_seg dksJ7_append_3_0 24 rfl rfl
theorem dksJ7_append_3_2 : cJ7_append_3.data.toList.drop 48 = dktJ7_append_3_2 := dk_seg dksJ7_append_3_1 24 rfl rfl
theorem dJ7_append_3_0 : decode cJ7_append_3 0 = .ok (.aload_n 0, 1) := dk_42 (dk_at dksJ7_append_3_0 0 rfl rfl)
theorem dJ7_append_3_1 : decode cJ7_append_3 1 = .ok (.getfield 79, 3) := dk_180 0 79 (dk_at dksJ7_append_3_0 1 rfl rfl)
theorem dJ7_append_3_4 : decode cJ7_append_3 4 = .ok (.istore_n 2, 1) := dk_61 (dk_at dksJ7_append_3_0 4 rfl rfl)
theorem dJ7_append_3_5 : decode cJ7_append_3 5 = .ok (.iload_n 2, 1) := dk_28 (dk_at dksJ7_append_3_0 5 rfl rfl)
theorem dJ7_append_3_6 : decode cJ7_append_3 6 = .ok (.iload_n 1, 1) := dk_27 (dk_at dksJ7_append_3_0 6 rfl rfl)
theorem dJ7_append_3_7 : decode cJ7_append_3 7 = .ok (.invokestatic 245, 3) := dk_184 0 245 (dk_at dksJ7_append_3_0 7 rfl rfl)
theorem dJ7_append_3_10 : decode cJ7_append_3 10 = .ok (.iadd, 1) := dk_96 (dk_at dksJ7_append_3_0 10 rfl rfl)
theorem dJ7_append_3_11 : decode cJ7_append_3 11 = .ok (.istore_n 3, 1) := dk_62 (dk_at dksJ7_append_3_0 11 rfl rfl)
theorem dJ7_append_3_12 : decode cJ7_append_3 12 = .ok (.aload_n 0, 1) := dk_42 (dk_at dksJ7_append_3_0 12 rfl rfl)
theorem dJ7_append_3_13 : decode cJ7_append_3 13 = .ok (.iload_n 3, 1) := dk_29 (dk_at dksJ7_append_3_0 13 rfl rfl)
theorem dJ7_append_3_14 : decode cJ7_append_3 14 = .ok (.invokevirtual 100, 3) := dk_182 0 100 (dk_at dksJ7_append_3_0 14 rfl rfl)
theorem dJ7_append_3_17 : decode cJ7_append_3 17 = .ok (.aload_n 0, 1) := dk_42 (dk_at dksJ7_append_3_0 17 rfl rfl)
theorem dJ7_append_3_18 : decode cJ7_append_3 18 = .ok (.invokevirtual 83, 3) := dk_182 0 83 (dk_at dksJ7_append_3_0 18 rfl rfl)
theorem dJ7_append_3_21 : decode cJ7_append_3 21 = .ok (.ifCond .eq 16, 3) := dk_153 0 16 (dk_at dksJ7_append_3_0 21 rfl rfl)
theorem dJ7_append_3_24 : decode cJ7_append_3 24 = .ok (.iload_n 1, 1) := dk_27 (dk_at dksJ7_append_3_1 0 rfl rfl)
theorem dJ7_append_3_25 : decode cJ7_append_3 25 = .ok (.iload_n 3, 1) := dk_29 (dk_at dksJ7_append_3_1 1 rfl rfl)
theorem dJ7_append_3_26 : decode cJ7_append_3 26 = .ok (.aload_n 0, 1) := dk_42 (dk_at dksJ7_append_3_1 2 rfl rfl)
theorem dJ7_append_3_27 : decode cJ7_append_3 27 = .ok (.getfield 15, 3) := dk_180 0 15 (dk_at dksJ7_append_3_1 3 rfl rfl)
theorem dJ7_append_3_30 : decode cJ7_append_3 30 = .ok (.invokestatic 248, 3) := dk_184 0 248 (dk_at dksJ7_append_3_1 6 rfl rfl)
theorem dJ7_append_3_33 : decode cJ7_append_3 33 = .ok (.pop, 1) := dk_87 (dk_at dksJ7_append_3_1 9 rfl rfl)
theorem dJ7_append_3_34 : decode cJ7_append_3 34 = .ok (.goto 14, 3) := dk_167 0 14 (dk_at dksJ7_append_3_1 10 rfl rfl)
theorem dJ7_append_3_37 : decode cJ7_append_3 37 = .ok (.iload_n 1, 1) := dk_27 (dk_at dksJ7_append_3_1 13 rfl rfl)
theorem dJ7_append_3_38 : decode cJ7_append_3 38 = .ok (.iload_n 2, 1) := dk_28 (dk_at dksJ7_append_3_1 14 rfl rfl)
theorem dJ7_append_3_39 : decode cJ7_append_3 39 = .ok (.iload_n 3, 1) := dk_29 (dk_at dksJ7_append_3_1 15 rfl rfl)
theorem dJ7_append_3_40 : decode cJ7_append_3 40 = .ok (.aload_n 0, 1) := dk_42 (dk_at dksJ7_append_3_1 16 rfl rfl)
theorem dJ7_append_3_41 : decode cJ7_append_3 41 = .ok (.getfield 15, 3) := dk_180 0 15 (dk_at dksJ7_append_3_1 17 rfl rfl)
theorem dJ7_append_3_44 : decode cJ7_append_3 44 = .ok (.invokestatic 251, 3) := dk_184 0 251 (dk_at dksJ7_append_3_1 20 rfl rfl)
theorem dJ7_append_3_47 : decode cJ7_append_3 47 = .ok (.pop, 1) := dk_87 (dk_at dksJ7_append_3_1 23 rfl rfl)
theorem dJ7_append_3_48 : decode cJ7_append_3 48 = .ok (.aload_n 0, 1) := dk_42 (dk_at dksJ7_append_3_2 0 rfl rfl)
theorem dJ7_append_3_49 : decode cJ7_append_3 49 = .ok (.iload_n 3, 1) := dk_29 (dk_at dksJ7_append_3_2 1 rfl rfl)
theorem dJ7_append_3_50 : decode cJ7_append_3 50 = .ok (.putfield 79, 3) := dk_181 0 79 (dk_at dksJ7_append_3_2 2 rfl rfl)
theorem dJ7_append_3_53 : decode cJ7_append_3 53 = .ok (.aload_n 0, 1) := dk_42 (dk_at dksJ7_append_3_2 5 rfl rfl)
theorem dJ7_append_3_54 : decode cJ7_append_3 54 = .ok (.areturn, 1) := dk_176 (dk_at dksJ7_append_3_2 6 rfl rfl)
theorem c48003 : jtCode 48003 = cJ7_append_3 := rfl
theorem E48003_0 (d : Nat) (a0 : Nat) (i1 : Int32) (h : AH) : G d 48003 0 [.ref a0, .int i1, jno, jno] [] h = zpI (jf (jc h (.ref a0)) [49] 3) (fun x1 => zcI (M d 62008 [.int i1] h) (fun x2 h3 => zcV (M d 48005 [.ref a0, .int (x1 + x2)] h3) (fun h5 => zcI (M d 48009 [.ref a0] h5) (fun x6 h7 => if x6 = 0 then (zpR (jf (jc h7 (.ref a0)) [49] 0) (fun r8 => zcI (M d 51014 [.int i1, .int x1, .int (x1 + x2), r8] h7) (fun x9 h10 => zqF h10 (.ref a0) [49] 3 0 (.int (x1 + x2)) (fun h11 => some (.inl (some (.ref a0)), h11)) ()) ()) ()) else (zpR (jf (jc h7 (.ref a0)) [49] 0) (fun r12 => zcI (M d 62004 [.int i1, .int (x1 + x2), r12] h7) (fun x13 h14 => zqF h14 (.ref a0) [49] 3 0 (.int (x1 + x2)) (fun h15 => some (.inl (some (.ref a0)), h15)) ()) ()) ())) ()) ()) ()) () := by
  refine (g_aload_n c48003 dJ7_append_3_0 rfl).trans ?_
  refine (g_getI c48003 dJ7_append_3_1 rfl rfl).trans (rI_cg fun x1 => ?_)
  refine (g_istore_n (L' := [.ref a0, .int i1, .int x1, jno]) c48003 dJ7_append_3_4 rfl rfl).trans ?_
  refine (g_iload_n c48003 dJ7_append_3_5 rfl).trans ?_
  refine (g_iload_n c48003 dJ7_append_3_6 rfl).trans ?_
  refine (g_static (as := [.int i1]) (rest := [.int x1]) c48003 dJ7_append_3_7 rfl rfl rfl rfl rfl).trans ((jback_I (κx := cX) (fun e h => jthrow_out rfl)).trans (cI_cg fun x2 h3 => ?_))
  refine (g_iadd c48003 dJ7_append_3_10).trans ?_
  refine (g_istore_n (L' := [.ref a0, .int i1, .int x1, .int (x1 + x2)]) c48003 dJ7_append_3_11 rfl rfl).trans ?_
  refine (g_aload_n c48003 dJ7_append_3_12 rfl).trans ?_
  refine (g_iload_n c48003 dJ7_append_3_13 rfl).trans ?_
  refine (g_virtual (as := [.ref a0, .int (x1 + x2)]) (rest := []) c48003 dJ7_append_3_14 rfl rfl rfl rfl rfl).trans ((jback_V (κx := cX) (fun e h => jthrow_out rfl)).trans (cV_cg fun h5 => ?_))
  refine (g_aload_n c48003 dJ7_append_3_17 rfl).trans ?_
  refine (g_virtual (as := [.ref a0]) (rest := []) c48003 dJ7_append_3_18 rfl rfl rfl rfl rfl).trans ((jback_I (κx := cX) (fun e h => jthrow_out rfl)).trans (cI_cg fun x6 h7 => ?_))
  refine (g_if_eq (tgt := 37) c48003 dJ7_append_3_21 rfl).trans (if_cg ?_ ?_)
  · skip
    refine (g_iload_n c48003 dJ7_append_3_37 rfl).trans ?_
    refine (g_iload_n c48003 dJ7_append_3_38 rfl).trans ?_
    refine (g_iload_n c48003 dJ7_append_3_39 rfl).trans ?_
    refine (g_aload_n c48003 dJ7_append_3_40 rfl).trans ?_
    refine (g_getR c48003 dJ7_append_3_41 rfl).trans (rR_cg fun r8 => ?_)
    refine (g_static (as := [.int i1, .int x1, .int (x1 + x2), r8]) (rest := []) c48003 dJ7_append_3_44 rfl rfl rfl rfl rfl).trans ((jback_I (κx := cX) (fun e h => jthrow_out rfl)).trans (cI_cg fun x9 h10 => ?_))
    refine (g_pop_i c48003 dJ7_append_3_47).trans ?_
    refine (g_aload_n c48003 dJ7_append_3_48 rfl).trans ?_
    refine (g_iload_n c48003 dJ7_append_3_49 rfl).trans ?_
    refine (g_put c48003 dJ7_append_3_50 rfl).trans (pF_cg fun h11 => ?_)
    refine (g_aload_n c48003 dJ7_append_3_53 rfl).trans ?_
    exact g_areturn_r c48003 dJ7_append_3_54 rfl
  · skip
    refine (g_iload_n c48003 dJ7_append_3_24 rfl).trans ?_
    refine (g_iload_n c48003 dJ7_append_3_25 rfl).trans ?_
    refine (g_aload_n c48003 dJ7_append_3_26 rfl).trans ?_
    refine (g_getR c48003 dJ7_append_3_27 rfl).trans (rR_cg fun r12 => ?_)
    refine (g_static (as := [.int i1, .int (x1 + x2), r12]) (rest := []) c48003 dJ7_append_3_30 rfl rfl rfl rfl rfl).trans ((jback_I (κx := cX) (fun e h => jthrow_out rfl)).trans (cI_cg fun x13 h14 => ?_))
    refine (g_pop_i c48003 dJ7_append_3_33).trans ?_
    refine (g_goto (tgt := 48) c48003 dJ7_append_3_34 rfl).trans ?_
    refine (g_aload_n c48003 dJ7_append_3_48 rfl).trans ?_
    refine (g_iload_n c48003 dJ7_append_3_49 rfl).trans ?_
    refine (g_put c48003 dJ7_append_3_50 rfl).trans (pF_cg fun h15 => ?_)
    refine (g_aload_n c48003 dJ7_append_3_53 rfl).trans ?_
    exact g_areturn_r c48003 dJ7_append_3_54 rfl
theorem X48003 {d : Nat} {a0 : Nat} {i1 : Int32} (h : AH) (hr : jrecv 48003 [.ref a0, .int i1] h = true) : M (d + 1) 48003 [.ref a0, .int i1] h = G d 48003 0 [.ref a0, .int i1, jno, jno] [] h := M_eq rfl hr rfl
/-! java/lang/AbstractStringBuilder.ensureCapacityInternal(I)V -/
abbrev cJ7_ensureCapacityInternal : ByteArray := prog_37_method_9_code
def dkwJ7_ensureCapacityInternal_1 : List UInt8 := [182, 0, 104, 42, 180, 0, 22, 120, 184, 0, 108, 181, 0, 15, 177]
abbrev dktJ7_ensureCapacityInternal_1 : List UInt8 := dkwJ7_ensureCapacityInternal_1 ++ []
def dkwJ7_ensureCapacityInternal_0 : List UInt8 := [42, 180, 0, 15, 190, 42, 180, 0, 22, 122, 61, 27, 28, 100, 158, 0, 24, 42, 42, 180, 0, 15, 42, 27]
abbrev dktJ7_ensureCapacityInternal_0 : List UInt8 := dkwJ7_ensureCapacityInternal_0 ++ dktJ7_ensureCapacityInternal_1
theorem dksJ7_ensureCapacityInternal_0 : cJ7_ensureCapacityInternal.data.toList.drop 0 = dktJ7_ensureCapacityInternal_0 := by decide +kernel
theorem dksJ7_ensureCapacityInternal_1 : cJ7_ensureCapacityInternal.data.toList.drop 24 = dktJ7_ensureCapacityInternal_1 := dk_seg dksJ7_ensureCapacityInternal_0 24 rfl rfl
theorem dJ7_ensureCapacityInternal_0 : decode cJ7_ensureCapacityInternal 0 = .ok (.aload_n 0, 1) := dk_42 (dk_at dksJ7_ensureCapacityInternal_0 0 rfl rfl)
theorem dJ7_ensureCapacityInternal_1 : decode cJ7_ensureCapacityInternal 1 = .ok (.getfield 15, 3) := dk_180 0 15 (dk_at dksJ7_ensureCapacityInternal_0 1 rfl rfl)
theorem dJ7_ensureCapacityInternal_4 : decode cJ7_ensureCapacityInternal 4 = .ok (.arraylength, 1) := dk_190 (dk_at dksJ7_ensureCapacityInternal_0 4 rfl rfl)
theorem dJ7_ensureCapacityInternal_5 : decode cJ7_ensureCapacityInternal 5 = .ok (.aload_n 0, 1) := dk_42 (dk_at dksJ7_ensureCapacityInternal_0 5 rfl rfl)
theorem dJ7_ensureCapacityInternal_6 : decode cJ7_ensureCapacityInternal 6 = .ok (.getfield 22, 3) := dk_180 0 22 (dk_at dksJ7_ensureCapacityInternal_0 6 rfl rfl)
theorem dJ7_ensureCapacityInternal_9 : decode cJ7_ensureCapacityInternal 9 = .ok (.ishr, 1) := dk_122 (dk_at dksJ7_ensureCapacityInternal_0 9 rfl rfl)
theorem dJ7_ensureCapacityInternal_10 : decode cJ7_ensureCapacityInternal 10 = .ok (.istore_n 2, 1) := dk_61 (dk_at dksJ7_ensureCapacityInternal_0 10 rfl rfl)
theorem dJ7_ensureCapacityInternal_11 : decode cJ7_ensureCapacityInternal 11 = .ok (.iload_n 1, 1) := dk_27 (dk_at dksJ7_ensureCapacityInternal_0 11 rfl rfl)
theorem dJ7_ensureCapacityInternal_12 : decode cJ7_ensureCapacityInternal 12 = .ok (.iload_n 2, 1) := dk_28 (dk_at dksJ7_ensureCapacityInternal_0 12 rfl rfl)
theorem dJ7_ensureCapacityInternal_13 : decode cJ7_ensureCapacityInternal 13 = .ok (.isub, 1) := dk_100 (dk_at dksJ7_ensureCapacityInternal_0 13 rfl rfl)
theorem dJ7_ensureCapacityInternal_14 : decode cJ7_ensureCapacityInternal 14 = .ok (.ifCond .le 24, 3) := dk_158 0 24 (dk_at dksJ7_ensureCapacityInternal_0 14 rfl rfl)
theorem dJ7_ensureCapacityInternal_17 : decode cJ7_ensureCapacityInternal 17 = .ok (.aload_n 0, 1) := dk_42 (dk_at dksJ7_ensureCapacityInternal_0 17 rfl rfl)
theorem dJ7_ensureCapacityInternal_18 : decode cJ7_ensureCapacityInternal 18 = .ok (.aload_n 0, 1) := dk_42 (dk_at dksJ7_ensureCapacityInternal_0 18 rfl rfl)
theorem dJ7_ensureCapacityInternal_19 : decode cJ7_ensureCapacityInternal 19 = .ok (.getfield 15, 3) := dk_180 0 15 (dk_at dksJ7_ensureCapacityInternal_0 19 rfl rfl)
theorem dJ7_ensureCapacityInternal_22 : decode cJ7_ensureCapacityInternal 22 = .ok (.aload_n 0, 1) := dk_42 (dk_at dksJ7_ensureCapacityInternal_0 22 rfl rfl)
theorem dJ7_ensureCapacityInternal_23 : decode cJ7_ensureCapacityInternal 23 = .ok (.iload_n 1, 1) := dk_27 (dk_at dksJ7_ensureCapacityInternal_0 23 rfl rfl)
theorem dJ7_ensureCapacityInternal_24 : decode cJ7_ensureCapacityInternal 24 = .ok (.invokevirtual 104, 3) := dk_182 0 104 (dk_at dksJ7_ensureCapacityInternal_1 0 rfl rfl)
theorem dJ7_ensureCapacityInternal_27 : decode cJ7_ensureCapacityInternal 27 = .ok (.aload_n 0, 1) := dk_42 (dk_at dksJ7_ensureCapacityInternal_1 3 rfl rfl)
theorem dJ7_ensureCapacityInternal_28 : decode cJ7_ensureCapacityInternal 28 = .ok (.getfield 22, 3) := dk_180 0 22 (dk_at dksJ7_ensureCapacityInternal_1 4 rfl rfl)
theorem dJ7_ensureCapacityInternal_31 : decode cJ7_ensureCapacityInternal 31 = .ok (.ishl, 1) := dk_120 (dk_at dksJ7_ensureCapacityInternal_1 7 rfl rfl)
theorem dJ7_ensureCapacityInternal_32 : decode cJ7_ensureCapacityInternal 32 = .ok (.invokestatic 108, 3) := dk_184 0 108 (dk_at dksJ7_ensureCapacityInternal_1 8 rfl rfl)
theorem dJ7_ensureCapacityInternal_35 : decode cJ7_ensureCapacityInternal 35 = .ok (.putfield 15, 3) := dk_181 0 15 (dk_at dksJ7_ensureCapacityInternal_1 11 rfl rfl)
theorem dJ7_ensureCapacityInternal_38 : decode cJ7_ensureCapacityInternal 38 = .ok (.return_, 1) := dk_177 (dk_at dksJ7_ensureCapacityInternal_1 14 rfl rfl)
theorem c48005 : jtCode 48005 = cJ7_ensureCapacityInternal := rfl
theorem E48005_0 (d : Nat) (a0 : Nat) (i1 : Int32) (h : AH) : G d 48005 0 [.ref a0, .int i1, jno] [] h = zpR (jf (jc h (.ref a0)) [49] 0) (fun r1 => zqL h r1 (fun x2 => zpI (jf (jc h (.ref a0)) [49] 1) (fun x3 => if (i1 - (x2 >>> (x3 &&& 31))) ≤ 0 then (some (.inl none, h)) else (zpR (jf (jc h (.ref a0)) [49] 0) (fun r4 => zcI (M d 48011 [.ref a0, .int i1] h) (fun x5 h6 => zpI (jf (jc h6 (.ref a0)) [49] 1) (fun x7 => zcR (M d 45001 [r4, .int (x5 <<< (x7 &&& 31))] h6) (fun r8 h9 => zqF h9 (.ref a0) [49] 0 2 r8 (fun h10 => some (.inl none, h10)) ()) ()) ()) ()) ())) ()) ()) () := by
  refine (g_aload_n c48005 dJ7_ensureCapacityInternal_0 rfl).trans ?_
  refine (g_getR c48005 dJ7_ensureCapacityInternal_1 rfl).trans (rR_cg fun r1 => ?_)
  refine (g_alen c48005 dJ7_ensureCapacityInternal_4).trans (aL_cg fun x2 => ?_)
  refine (g_aload_n c48005 dJ7_ensureCapacityInternal_5 rfl).trans ?_
  refine (g_getI c48005 dJ7_ensureCapacityInternal_6 rfl rfl).trans (rI_cg fun x3 => ?_)
  refine (g_ishr c48005 dJ7_ensureCapacityInternal_9).trans ?_
  refine (g_istore_n (L' := [.ref a0, .int i1, .int (x2 >>> (x3 &&& 31))]) c48005 dJ7_ensureCapacityInternal_10 rfl rfl).trans ?_
  refine (g_iload_n c48005 dJ7_ensureCapacityInternal_11 rfl).trans ?_
  refine (g_iload_n c48005 dJ7_ensureCapacityInternal_12 rfl).trans ?_
  refine (g_isub c48005 dJ7_ensureCapacityInternal_13).trans ?_
  refine (g_if_le (tgt := 38) c48005 dJ7_ensureCapacityInternal_14 rfl).trans (if_cg ?_ ?_)
  · skip
    exact g_return c48005 dJ7_ensureCapacityInternal_38 rfl
  · skip
    refine (g_aload_n c48005 dJ7_ensureCapacityInternal_17 rfl).trans ?_
    refine (g_aload_n c48005 dJ7_ensureCapacityInternal_18 rfl).trans ?_
    refine (g_getR c48005 dJ7_ensureCapacityInternal_19 rfl).trans (rR_cg fun r4 => ?_)
    refine (g_aload_n c48005 dJ7_ensureCapacityInternal_22 rfl).trans ?_
    refine (g_iload_n c48005 dJ7_ensureCapacityInternal_23 rfl).trans ?_
    refine (g_virtual (as := [.ref a0, .int i1]) (rest := [r4, .ref a0]) c48005 dJ7_ensureCapacityInternal_24 rfl rfl rfl rfl rfl).trans ((jback_I (κx := cX) (fun e h => jthrow_out rfl)).trans (cI_cg fun x5 h6 => ?_))
    refine (g_aload_n c48005 dJ7_ensureCapacityInternal_27 rfl).trans ?_
    refine (g_getI c48005 dJ7_ensureCapacityInternal_28 rfl rfl).trans (rI_cg fun x7 => ?_)
    refine (g_ishl c48005 dJ7_ensureCapacityInternal_31).trans ?_
    refine (g_static (as := [r4, .int (x5 <<< (x7 &&& 31))]) (rest := [.ref a0]) c48005 dJ7_ensureCapacityInternal_32 rfl rfl rfl rfl rfl).trans ((jback_R (κx := cX) (fun e h => jthrow_out rfl)).trans (cR_cg fun r8 h9 => ?_))
    refine (g_put c48005 dJ7_ensureCapacityInternal_35 rfl).trans (pF_cg fun h10 => ?_)
    exact g_return c48005 dJ7_ensureCapacityInternal_38 rfl
theorem X48005 {d : Nat} {a0 : Nat} {i1 : Int32} (h : AH) (hr : jrecv 48005 [.ref a0, .int i1] h = true) : M (d + 1) 48005 [.ref a0, .int i1] h = G d 48005 0 [.ref a0, .int i1, jno] [] h := M_eq rfl hr rfl
/-! java/lang/AbstractStringBuilder.getValue()[B -/
abbrev cJ7_getValue : ByteArray := prog_37_method_64_code
theorem dJ7_getValue_0 : decode cJ7_getValue 0 = .ok (.aload_n 0, 1) := by decide +kernel
theorem dJ7_getValue_1 : decode cJ7_getValue 1 = .ok (.getfield 15, 3) := by decide +kernel
theorem dJ7_getValue_4 : decode cJ7_getValue 4 = .ok (.areturn, 1) := by decide +kernel
theorem c48006 : jtCode 48006 = cJ7_getValue := rfl
theorem E48006_0 (d : Nat) (a0 : Nat) (h : AH) : G d 48006 0 [.ref a0] [] h = zpR (jf (jc h (.ref a0)) [49] 0) (fun r1 => ckR r1 (some (.inl (some r1), h))) () := by
  refine (g_aload_n c48006 dJ7_getValue_0 rfl).trans ?_
  refine (g_getR c48006 dJ7_getValue_1 rfl).trans (rR_cg fun r1 => ?_)
  exact g_areturnA c48006 dJ7_getValue_4 rfl
theorem X48006 {d : Nat} {a0 : Nat} (h : AH) (hr : jrecv 48006 [.ref a0] h = true) : M (d + 1) 48006 [.ref a0] h = G d 48006 0 [.ref a0] [] h := M_eq rfl hr rfl
/-! java/lang/AbstractStringBuilder.inflate()V -/
abbrev cJ7_inflate : ByteArray := prog_37_method_11_code
def dkwJ7_inflate_1 : List UInt8 := [42, 180, 0, 79, 184, 0, 125, 42, 43, 181, 0, 15, 42, 4, 181, 0, 22, 177]
abbrev dktJ7_inflate_1 : List UInt8 := dkwJ7_inflate_1 ++ []
def dkwJ7_inflate_0 : List UInt8 := [42, 182, 0, 83, 154, 0, 4, 177, 42, 180, 0, 15, 190, 184, 0, 26, 76, 42, 180, 0, 15, 3, 43, 3]
abbrev dktJ7_inflate_0 : List UInt8 := dkwJ7_inflate_0 ++ dktJ7_inflate_1
theorem dksJ7_inflate_0 : cJ7_inflate.data.toList.drop 0 = dktJ7_inflate_0 := by decide +kernel
theorem dksJ7_inflate_1 : cJ7_inflate.data.toList.drop 24 = dktJ7_inflate_1 := dk_seg dksJ7_inflate_0 24 rfl rfl
theorem dJ7_inflate_0 : decode cJ7_inflate 0 = .ok (.aload_n 0, 1) := dk_42 (dk_at dksJ7_inflate_0 0 rfl rfl)
theorem dJ7_inflate_1 : decode cJ7_inflate 1 = .ok (.invokevirtual 83, 3) := dk_182 0 83 (dk_at dksJ7_inflate_0 1 rfl rfl)
theorem dJ7_inflate_4 : decode cJ7_inflate 4 = .ok (.ifCond .ne 4, 3) := dk_154 0 4 (dk_at dksJ7_inflate_0 4 rfl rfl)
theorem dJ7_inflate_7 : decode cJ7_inflate 7 = .ok (.return_, 1) := dk_177 (dk_at dksJ7_inflate_0 7 rfl rfl)
theorem dJ7_inflate_8 : decode cJ7_inflate 8 = .ok (.aload_n 0, 1) := dk_42 (dk_at dksJ7_inflate_0 8 rfl rfl)
theorem dJ7_inflate_9 : decode cJ7_inflate 9 = .ok (.getfield 15, 3) := dk_180 0 15 (dk_at dksJ7_inflate_0 9 rfl rfl)
theorem dJ7_inflate_12 : decode cJ7_inflate 12 = .ok (.arraylength, 1) := dk_190 (dk_at dksJ7_inflate_0 12 rfl rfl)
theorem dJ7_inflate_13 : decode cJ7_inflate 13 = .ok (.invokestatic 26, 3) := dk_184 0 26 (dk_at dksJ7_inflate_0 13 rfl rfl)
theorem dJ7_inflate_16 : decode cJ7_inflate 16 = .ok (.astore_n 1, 1) := dk_76 (dk_at dksJ7_inflate_0 16 rfl rfl)
theorem dJ7_inflate_17 : decode cJ7_inflate 17 = .ok (.aload_n 0, 1) := dk_42 (dk_at dksJ7_inflate_0 17 rfl rfl)
theorem dJ7_inflate_18 : decode cJ7_inflate 18 = .ok (.getfield 15, 3) := dk_180 0 15 (dk_at dksJ7_inflate_0 18 rfl rfl)
theorem dJ7_inflate_21 : decode cJ7_inflate 21 = .ok (.iconst 0, 1) := dk_3 (dk_at dksJ7_inflate_0 21 rfl rfl)
theorem dJ7_inflate_22 : decode cJ7_inflate 22 = .ok (.aload_n 1, 1) := dk_43 (dk_at dksJ7_inflate_0 22 rfl rfl)
theorem dJ7_inflate_23 : decode cJ7_inflate 23 = .ok (.iconst 0, 1) := dk_3 (dk_at dksJ7_inflate_0 23 rfl rfl)
theorem dJ7_inflate_24 : decode cJ7_inflate 24 = .ok (.aload_n 0, 1) := dk_42 (dk_at dksJ7_inflate_1 0 rfl rfl)
theorem dJ7_inflate_25 : decode cJ7_inflate 25 = .ok (.getfield 79, 3) := dk_180 0 79 (dk_at dksJ7_inflate_1 1 rfl rfl)
theorem dJ7_inflate_28 : decode cJ7_inflate 28 = .ok (.invokestatic 125, 3) := dk_184 0 125 (dk_at dksJ7_inflate_1 4 rfl rfl)
theorem dJ7_inflate_31 : decode cJ7_inflate 31 = .ok (.aload_n 0, 1) := dk_42 (dk_at dksJ7_inflate_1 7 rfl rfl)
theorem dJ7_inflate_32 : decode cJ7_inflate 32 = .ok (.aload_n 1, 1) := dk_43 (dk_at dksJ7_inflate_1 8 rfl rfl)
theorem dJ7_inflate_33 : decode cJ7_inflate 33 = .ok (.putfield 15, 3) := dk_181 0 15 (dk_at dksJ7_inflate_1 9 rfl rfl)
theorem dJ7_inflate_36 : decode cJ7_inflate 36 = .ok (.aload_n 0, 1) := dk_42 (dk_at dksJ7_inflate_1 12 rfl rfl)
theorem dJ7_inflate_37 : decode cJ7_inflate 37 = .ok (.iconst 1, 1) := dk_4 (dk_at dksJ7_inflate_1 13 rfl rfl)
theorem dJ7_inflate_38 : decode cJ7_inflate 38 = .ok (.putfield 22, 3) := dk_181 0 22 (dk_at dksJ7_inflate_1 14 rfl rfl)
theorem dJ7_inflate_41 : decode cJ7_inflate 41 = .ok (.return_, 1) := dk_177 (dk_at dksJ7_inflate_1 17 rfl rfl)
theorem c48007 : jtCode 48007 = cJ7_inflate := rfl
theorem E48007_0 (d : Nat) (a0 : Nat) (h : AH) : G d 48007 0 [.ref a0, jno] [] h = zcI (M d 48009 [.ref a0] h) (fun x1 h2 => if x1 = 0 then (some (.inl none, h2)) else (zpR (jf (jc h2 (.ref a0)) [49] 0) (fun r3 => zqL h2 r3 (fun x4 => zcR (M d 51022 [.int x4] h2) (fun r5 h6 => zkR r5 (zpR (jf (jc h6 (.ref a0)) [49] 0) (fun r7 => zkR r5 (zpI (jf (jc h6 (.ref a0)) [49] 3) (fun x8 => zcV (M d 54011 [r7, .int 0, r5, .int 0, .int x8] h6) (fun h10 => zkR r5 (zqF h10 (.ref a0) [49] 0 2 r5 (fun h11 => zqF h11 (.ref a0) [49] 1 4 (.int 1) (fun h12 => some (.inl none, h12)) ()) ()) ()) ()) ()) ()) ()) ()) ()) ()) ())) () := by
  refine (g_aload_n c48007 dJ7_inflate_0 rfl).trans ?_
  refine (g_virtual (as := [.ref a0]) (rest := []) c48007 dJ7_inflate_1 rfl rfl rfl rfl rfl).trans ((jback_I (κx := cX) (fun e h => jthrow_out rfl)).trans (cI_cg fun x1 h2 => ?_))
  refine (g_if_ne (tgt := 8) c48007 dJ7_inflate_4 rfl).trans (if_cg ?_ ?_)
  · skip
    exact g_return c48007 dJ7_inflate_7 rfl
  · skip
    refine (g_aload_n c48007 dJ7_inflate_8 rfl).trans ?_
    refine (g_getR c48007 dJ7_inflate_9 rfl).trans (rR_cg fun r3 => ?_)
    refine (g_alen c48007 dJ7_inflate_12).trans (aL_cg fun x4 => ?_)
    refine (g_static (as := [.int x4]) (rest := []) c48007 dJ7_inflate_13 rfl rfl rfl rfl rfl).trans ((jback_R (κx := cX) (fun e h => jthrow_out rfl)).trans (cR_cg fun r5 h6 => ?_))
    refine (g_astore_nV (L' := [.ref a0, r5]) c48007 dJ7_inflate_16 rfl rfl).trans (ckR_cg ?_)
    refine (g_aload_n c48007 dJ7_inflate_17 rfl).trans ?_
    refine (g_getR c48007 dJ7_inflate_18 rfl).trans (rR_cg fun r7 => ?_)
    refine (g_iconst (x := 0) c48007 dJ7_inflate_21 rfl).trans ?_
    refine (g_aload_nV c48007 dJ7_inflate_22 rfl).trans (ckR_cg ?_)
    refine (g_iconst (x := 0) c48007 dJ7_inflate_23 rfl).trans ?_
    refine (g_aload_n c48007 dJ7_inflate_24 rfl).trans ?_
    refine (g_getI c48007 dJ7_inflate_25 rfl rfl).trans (rI_cg fun x8 => ?_)
    refine (g_static (as := [r7, .int 0, r5, .int 0, .int x8]) (rest := []) c48007 dJ7_inflate_28 rfl rfl rfl rfl rfl).trans ((jback_V (κx := cX) (fun e h => jthrow_out rfl)).trans (cV_cg fun h10 => ?_))
    refine (g_aload_n c48007 dJ7_inflate_31 rfl).trans ?_
    refine (g_aload_nV c48007 dJ7_inflate_32 rfl).trans (ckR_cg ?_)
    refine (g_put c48007 dJ7_inflate_33 rfl).trans (pF_cg fun h11 => ?_)
    refine (g_aload_n c48007 dJ7_inflate_36 rfl).trans ?_
    refine (g_iconst (x := 1) c48007 dJ7_inflate_37 rfl).trans ?_
    refine (g_put c48007 dJ7_inflate_38 rfl).trans (pF_cg fun h12 => ?_)
    exact g_return c48007 dJ7_inflate_41 rfl
theorem X48007 {d : Nat} {a0 : Nat} (h : AH) (hr : jrecv 48007 [.ref a0] h = true) : M (d + 1) 48007 [.ref a0] h = G d 48007 0 [.ref a0, jno] [] h := M_eq rfl hr rfl
/-! java/lang/AbstractStringBuilder.inflateIfNeededFor(Ljava/lang/String;)V -/
abbrev cJ7_inflateIfNeededFor : ByteArray := prog_37_method_71_code
def dkwJ7_inflateIfNeededFor_0 : List UInt8 := [178, 0, 18, 153, 0, 18, 42, 180, 0, 22, 43, 182, 0, 40, 159, 0, 7, 42, 182, 0, 195, 177]
abbrev dktJ7_inflateIfNeededFor_0 : List UInt8 := dkwJ7_inflateIfNeededFor_0 ++ []
theorem dksJ7_inflateIfNeededFor_0 : cJ7_inflateIfNeededFor.data.toList.drop 0 = dktJ7_inflateIfNeededFor_0 := by decide +kernel
theorem dJ7_inflateIfNeededFor_0 : decode cJ7_inflateIfNeededFor 0 = .ok (.getstatic 18, 3) := dk_178 0 18 (dk_at dksJ7_inflateIfNeededFor_0 0 rfl rfl)
theorem dJ7_inflateIfNeededFor_3 : decode cJ7_inflateIfNeededFor 3 = .ok (.ifCond .eq 18, 3) := dk_153 0 18 (dk_at dksJ7_inflateIfNeededFor_0 3 rfl rfl)
theorem dJ7_inflateIfNeededFor_6 : decode cJ7_inflateIfNeededFor 6 = .ok (.aload_n 0, 1) := dk_42 (dk_at dksJ7_inflateIfNeededFor_0 6 rfl rfl)
theorem dJ7_inflateIfNeededFor_7 : decode cJ7_inflateIfNeededFor 7 = .ok (.getfield 22, 3) := dk_180 0 22 (dk_at dksJ7_inflateIfNeededFor_0 7 rfl rfl)
theorem dJ7_inflateIfNeededFor_10 : decode cJ7_inflateIfNeededFor 10 = .ok (.aload_n 1, 1) := dk_43 (dk_at dksJ7_inflateIfNeededFor_0 10 rfl rfl)
theorem dJ7_inflateIfNeededFor_11 : decode cJ7_inflateIfNeededFor 11 = .ok (.invokevirtual 40, 3) := dk_182 0 40 (dk_at dksJ7_inflateIfNeededFor_0 11 rfl rfl)
theorem dJ7_inflateIfNeededFor_14 : decode cJ7_inflateIfNeededFor 14 = .ok (.if_icmp .eq 7, 3) := dk_159 0 7 (dk_at dksJ7_inflateIfNeededFor_0 14 rfl rfl)
theorem dJ7_inflateIfNeededFor_17 : decode cJ7_inflateIfNeededFor 17 = .ok (.aload_n 0, 1) := dk_42 (dk_at dksJ7_inflateIfNeededFor_0 17 rfl rfl)
theorem dJ7_inflateIfNeededFor_18 : decode cJ7_inflateIfNeededFor 18 = .ok (.invokevirtual 195, 3) := dk_182 0 195 (dk_at dksJ7_inflateIfNeededFor_0 18 rfl rfl)
theorem dJ7_inflateIfNeededFor_21 : decode cJ7_inflateIfNeededFor 21 = .ok (.return_, 1) := dk_177 (dk_at dksJ7_inflateIfNeededFor_0 21 rfl rfl)
theorem c48008 : jtCode 48008 = cJ7_inflateIfNeededFor := rfl
theorem E48008_0 (d : Nat) (a0 : Nat) (v1 : Value) (h : AH) : G d 48008 0 [.ref a0, v1] [] h = if (1 : Int32) = 0 then (some (.inl none, h)) else (zpI (jf (jc h (.ref a0)) [49] 1) (fun x1 => zkR v1 (zcI (M d 50005 [v1] h) (fun x2 h3 => if x1 = x2 then (some (.inl none, h3)) else (zcV (M d 48007 [.ref a0] h3) (fun h5 => some (.inl none, h5)) ())) ()) ()) ()) := by
  refine (g_getsI (x := 1) c48008 dJ7_inflateIfNeededFor_0 rfl rfl).trans ?_
  refine (g_if_eq (tgt := 21) c48008 dJ7_inflateIfNeededFor_3 rfl).trans (if_cg ?_ ?_)
  · skip
    exact g_return c48008 dJ7_inflateIfNeededFor_21 rfl
  · skip
    refine (g_aload_n c48008 dJ7_inflateIfNeededFor_6 rfl).trans ?_
    refine (g_getI c48008 dJ7_inflateIfNeededFor_7 rfl rfl).trans (rI_cg fun x1 => ?_)
    refine (g_aload_nV c48008 dJ7_inflateIfNeededFor_10 rfl).trans (ckR_cg ?_)
    refine (g_virtual (as := [v1]) (rest := [.int x1]) c48008 dJ7_inflateIfNeededFor_11 rfl rfl rfl rfl rfl).trans ((jback_I (κx := cX) (fun e h => jthrow_out rfl)).trans (cI_cg fun x2 h3 => ?_))
    refine (g_icmp_eq (tgt := 21) c48008 dJ7_inflateIfNeededFor_14 rfl).trans (if_cg ?_ ?_)
    · skip
      exact g_return c48008 dJ7_inflateIfNeededFor_21 rfl
    · skip
      refine (g_aload_n c48008 dJ7_inflateIfNeededFor_17 rfl).trans ?_
      refine (g_virtual (as := [.ref a0]) (rest := []) c48008 dJ7_inflateIfNeededFor_18 rfl rfl rfl rfl rfl).trans ((jback_V (κx := cX) (fun e h => jthrow_out rfl)).trans (cV_cg fun h5 => ?_))
      exact g_return c48008 dJ7_inflateIfNeededFor_21 rfl
theorem X48008 {d : Nat} {a0 : Nat} {v1 : Value} (h : AH) (hv1 : isR v1 = true) (hr : jrecv 48008 [.ref a0, v1] h = true) : M (d + 1) 48008 [.ref a0, v1] h = G d 48008 0 [.ref a0, v1] [] h := M_eq rfl hr (by simp only [jent, jargL_R hv1, jargL]; rfl)
/-! java/lang/AbstractStringBuilder.isLatin1()Z -/
abbrev cJ7_isLatin1 : ByteArray := prog_37_method_68_code
def dkwJ7_isLatin1_0 : List UInt8 := [178, 0, 18, 153, 0, 14, 42, 180, 0, 22, 154, 0, 7, 4, 167, 0, 4, 3, 172]
abbrev dktJ7_isLatin1_0 : List UInt8 := dkwJ7_isLatin1_0 ++ []
theorem dksJ7_isLatin1_0 : cJ7_isLatin1.data.toList.drop 0 = dktJ7_isLatin1_0 := by decide +kernel
theorem dJ7_isLatin1_0 : decode cJ7_isLatin1 0 = .ok (.getstatic 18, 3) := dk_178 0 18 (dk_at dksJ7_isLatin1_0 0 rfl rfl)
theorem dJ7_isLatin1_3 : decode cJ7_isLatin1 3 = .ok (.ifCond .eq 14, 3) := dk_153 0 14 (dk_at dksJ7_isLatin1_0 3 rfl rfl)
theorem dJ7_isLatin1_6 : decode cJ7_isLatin1 6 = .ok (.aload_n 0, 1) := dk_42 (dk_at dksJ7_isLatin1_0 6 rfl rfl)
theorem dJ7_isLatin1_7 : decode cJ7_isLatin1 7 = .ok (.getfield 22, 3) := dk_180 0 22 (dk_at dksJ7_isLatin1_0 7 rfl rfl)
theorem dJ7_isLatin1_10 : decode cJ7_isLatin1 10 = .ok (.ifCond .ne 7, 3) := dk_154 0 7 (dk_at dksJ7_isLatin1_0 10 rfl rfl)
theorem dJ7_isLatin1_13 : decode cJ7_isLatin1 13 = .ok (.iconst 1, 1) := dk_4 (dk_at dksJ7_isLatin1_0 13 rfl rfl)
theorem dJ7_isLatin1_14 : decode cJ7_isLatin1 14 = .ok (.goto 4, 3) := dk_167 0 4 (dk_at dksJ7_isLatin1_0 14 rfl rfl)
theorem dJ7_isLatin1_17 : decode cJ7_isLatin1 17 = .ok (.iconst 0, 1) := dk_3 (dk_at dksJ7_isLatin1_0 17 rfl rfl)
theorem dJ7_isLatin1_18 : decode cJ7_isLatin1 18 = .ok (.ireturn, 1) := dk_172 (dk_at dksJ7_isLatin1_0 18 rfl rfl)
theorem c48009 : jtCode 48009 = cJ7_isLatin1 := rfl
theorem E48009_0 (d : Nat) (a0 : Nat) (h : AH) : G d 48009 0 [.ref a0] [] h = if (1 : Int32) = 0 then (some (.inl (some (.int 0)), h)) else (zpI (jf (jc h (.ref a0)) [49] 1) (fun x1 => if x1 = 0 then (some (.inl (some (.int 1)), h)) else (some (.inl (some (.int 0)), h))) ()) := by
  refine (g_getsI (x := 1) c48009 dJ7_isLatin1_0 rfl rfl).trans ?_
  refine (g_if_eq (tgt := 17) c48009 dJ7_isLatin1_3 rfl).trans (if_cg ?_ ?_)
  · skip
    refine (g_iconst (x := 0) c48009 dJ7_isLatin1_17 rfl).trans ?_
    exact g_zreturn0 c48009 dJ7_isLatin1_18 rfl
  · skip
    refine (g_aload_n c48009 dJ7_isLatin1_6 rfl).trans ?_
    refine (g_getI c48009 dJ7_isLatin1_7 rfl rfl).trans (rI_cg fun x1 => ?_)
    refine (g_if_ne (tgt := 17) c48009 dJ7_isLatin1_10 rfl).trans (if_cg ?_ ?_)
    · skip
      refine (g_iconst (x := 1) c48009 dJ7_isLatin1_13 rfl).trans ?_
      refine (g_goto (tgt := 18) c48009 dJ7_isLatin1_14 rfl).trans ?_
      exact g_zreturn1 c48009 dJ7_isLatin1_18 rfl
    · skip
      refine (g_iconst (x := 0) c48009 dJ7_isLatin1_17 rfl).trans ?_
      exact g_zreturn0 c48009 dJ7_isLatin1_18 rfl
theorem X48009 {d : Nat} {a0 : Nat} (h : AH) (hr : jrecv 48009 [.ref a0] h = true) : M (d + 1) 48009 [.ref a0] h = G d 48009 0 [.ref a0] [] h := M_eq rfl hr rfl
/-! java/lang/AbstractStringBuilder.length()I -/
abbrev cJ7_length : ByteArray := prog_37_method_6_code
theorem dJ7_length_0 : decode cJ7_length 0 = .ok (.aload_n 0, 1) := by decide +kernel
theorem dJ7_length_1 : decode cJ7_length 1 = .ok (.getfield 79, 3) := by decide +kernel
theorem dJ7_length_4 : decode cJ7_length 4 = .ok (.ireturn, 1) := by decide +kernel
theorem c48010 : jtCode 48010 = cJ7_length := rfl
theorem E48010_0 (d : Nat) (a0 : Nat) (h : AH) : G d 48010 0 [.ref a0] [] h = zpI (jf (jc h (.ref a0)) [49] 3) (fun x1 => some (.inl (some (.int x1)), h)) () := by
  refine (g_aload_n c48010 dJ7_length_0 rfl).trans ?_
  refine (g_getI c48010 dJ7_length_1 rfl rfl).trans (rI_cg fun x1 => ?_)
  exact g_ireturn c48010 dJ7_length_4 rfl
theorem X48010 {d : Nat} {a0 : Nat} (h : AH) (hr : jrecv 48010 [.ref a0] h = true) : M (d + 1) 48010 [.ref a0] h = G d 48010 0 [.ref a0] [] h := M_eq rfl hr rfl
/-! java/lang/AbstractStringBuilder.newCapacity(I)I -/
abbrev cJ7_newCapacity : ByteArray := prog_37_method_10_code
def dkwJ7_newCapacity_2 : List UInt8 := [183, 0, 124, 191, 21, 5, 42, 180, 0, 22, 122, 172]
abbrev dktJ7_newCapacity_2 : List UInt8 := dkwJ7_newCapacity_2 ++ []
def dkwJ7_newCapacity_1 : List UInt8 := [180, 0, 22, 120, 96, 184, 0, 114, 54, 5, 21, 5, 18, 39, 160, 0, 13, 187, 0, 120, 89, 18, 122]
abbrev dktJ7_newCapacity_1 : List UInt8 := dkwJ7_newCapacity_1 ++ dktJ7_newCapacity_2
def dkwJ7_newCapacity_0 : List UInt8 := [42, 180, 0, 15, 190, 61, 27, 42, 180, 0, 22, 120, 62, 29, 28, 100, 54, 4, 28, 21, 4, 28, 5, 42]
abbrev dktJ7_newCapacity_0 : List UInt8 := dkwJ7_newCapacity_0 ++ dktJ7_newCapacity_1
theorem dksJ7_newCapacity_0 : cJ7_newCapacity.data.toList.drop 0 = dktJ7_newCapacity_0 := by decide +kernel
theorem dksJ7_newCapacity_1 : cJ7_newCapacity.data.toList.drop 24 = dktJ7_newCapacity_1 := dk_seg dksJ7_newCapacity_0 24 rfl rfl
theorem dksJ7_newCapacity_2 : cJ7_newCapacity.data.toList.drop 47 = dktJ7_newCapacity_2 := dk_seg dksJ7_newCapacity_1 23 rfl rfl
theorem dJ7_newCapacity_0 : decode cJ7_newCapacity 0 = .ok (.aload_n 0, 1) := dk_42 (dk_at dksJ7_newCapacity_0 0 rfl rfl)
theorem dJ7_newCapacity_1 : decode cJ7_newCapacity 1 = .ok (.getfield 15, 3) := dk_180 0 15 (dk_at dksJ7_newCapacity_0 1 rfl rfl)
theorem dJ7_newCapacity_4 : decode cJ7_newCapacity 4 = .ok (.arraylength, 1) := dk_190 (dk_at dksJ7_newCapacity_0 4 rfl rfl)
theorem dJ7_newCapacity_5 : decode cJ7_newCapacity 5 = .ok (.istore_n 2, 1) := dk_61 (dk_at dksJ7_newCapacity_0 5 rfl rfl)
theorem dJ7_newCapacity_6 : decode cJ7_newCapacity 6 = .ok (.iload_n 1, 1) := dk_27 (dk_at dksJ7_newCapacity_0 6 rfl rfl)
theorem dJ7_newCapacity_7 : decode cJ7_newCapacity 7 = .ok (.aload_n 0, 1) := dk_42 (dk_at dksJ7_newCapacity_0 7 rfl rfl)
theorem dJ7_newCapacity_8 : decode cJ7_newCapacity 8 = .ok (.getfield 22, 3) := dk_180 0 22 (dk_at dksJ7_newCapacity_0 8 rfl rfl)
theorem dJ7_newCapacity_11 : decode cJ7_newCapacity 11 = .ok (.ishl, 1) := dk_120 (dk_at dksJ7_newCapacity_0 11 rfl rfl)
theorem dJ7_newCapacity_12 : decode cJ7_newCapacity 12 = .ok (.istore_n 3, 1) := dk_62 (dk_at dksJ7_newCapacity_0 12 rfl rfl)
theorem dJ7_newCapacity_13 : decode cJ7_newCapacity 13 = .ok (.iload_n 3, 1) := dk_29 (dk_at dksJ7_newCapacity_0 13 rfl rfl)
theorem dJ7_newCapacity_14 : decode cJ7_newCapacity 14 = .ok (.iload_n 2, 1) := dk_28 (dk_at dksJ7_newCapacity_0 14 rfl rfl)
theorem dJ7_newCapacity_15 : decode cJ7_newCapacity 15 = .ok (.isub, 1) := dk_100 (dk_at dksJ7_newCapacity_0 15 rfl rfl)
theorem dJ7_newCapacity_16 : decode cJ7_newCapacity 16 = .ok (.istore 4, 2) := dk_54 4 (dk_at dksJ7_newCapacity_0 16 rfl rfl)
theorem dJ7_newCapacity_18 : decode cJ7_newCapacity 18 = .ok (.iload_n 2, 1) := dk_28 (dk_at dksJ7_newCapacity_0 18 rfl rfl)
theorem dJ7_newCapacity_19 : decode cJ7_newCapacity 19 = .ok (.iload 4, 2) := dk_21 4 (dk_at dksJ7_newCapacity_0 19 rfl rfl)
theorem dJ7_newCapacity_21 : decode cJ7_newCapacity 21 = .ok (.iload_n 2, 1) := dk_28 (dk_at dksJ7_newCapacity_0 21 rfl rfl)
theorem dJ7_newCapacity_22 : decode cJ7_newCapacity 22 = .ok (.iconst 2, 1) := dk_5 (dk_at dksJ7_newCapacity_0 22 rfl rfl)
theorem dJ7_newCapacity_23 : decode cJ7_newCapacity 23 = .ok (.aload_n 0, 1) := dk_42 (dk_at dksJ7_newCapacity_0 23 rfl rfl)
theorem dJ7_newCapacity_24 : decode cJ7_newCapacity 24 = .ok (.getfield 22, 3) := dk_180 0 22 (dk_at dksJ7_newCapacity_1 0 rfl rfl)
theorem dJ7_newCapacity_27 : decode cJ7_newCapacity 27 = .ok (.ishl, 1) := dk_120 (dk_at dksJ7_newCapacity_1 3 rfl rfl)
theorem dJ7_newCapacity_28 : decode cJ7_newCapacity 28 = .ok (.iadd, 1) := dk_96 (dk_at dksJ7_newCapacity_1 4 rfl rfl)
theorem dJ7_newCapacity_29 : decode cJ7_newCapacity 29 = .ok (.invokestatic 114, 3) := dk_184 0 114 (dk_at dksJ7_newCapacity_1 5 rfl rfl)
theorem dJ7_newCapacity_32 : decode cJ7_newCapacity 32 = .ok (.istore 5, 2) := dk_54 5 (dk_at dksJ7_newCapacity_1 8 rfl rfl)
theorem dJ7_newCapacity_34 : decode cJ7_newCapacity 34 = .ok (.iload 5, 2) := dk_21 5 (dk_at dksJ7_newCapacity_1 10 rfl rfl)
theorem dJ7_newCapacity_36 : decode cJ7_newCapacity 36 = .ok (.ldc 39, 2) := dk_18 39 (dk_at dksJ7_newCapacity_1 12 rfl rfl)
theorem dJ7_newCapacity_38 : decode cJ7_newCapacity 38 = .ok (.if_icmp .ne 13, 3) := dk_160 0 13 (dk_at dksJ7_newCapacity_1 14 rfl rfl)
theorem dJ7_newCapacity_41 : decode cJ7_newCapacity 41 = .ok (.new 120, 3) := dk_187 0 120 (dk_at dksJ7_newCapacity_1 17 rfl rfl)
theorem dJ7_newCapacity_44 : decode cJ7_newCapacity 44 = .ok (.dup, 1) := dk_89 (dk_at dksJ7_newCapacity_1 20 rfl rfl)
theorem dJ7_newCapacity_45 : decode cJ7_newCapacity 45 = .ok (.ldc 122, 2) := dk_18 122 (dk_at dksJ7_newCapacity_1 21 rfl rfl)
theorem dJ7_newCapacity_47 : decode cJ7_newCapacity 47 = .ok (.invokespecial 124, 3) := dk_183 0 124 (dk_at dksJ7_newCapacity_2 0 rfl rfl)
theorem dJ7_newCapacity_50 : decode cJ7_newCapacity 50 = .ok (.athrow, 1) := dk_191 (dk_at dksJ7_newCapacity_2 3 rfl rfl)
theorem dJ7_newCapacity_51 : decode cJ7_newCapacity 51 = .ok (.iload 5, 2) := dk_21 5 (dk_at dksJ7_newCapacity_2 4 rfl rfl)
theorem dJ7_newCapacity_53 : decode cJ7_newCapacity 53 = .ok (.aload_n 0, 1) := dk_42 (dk_at dksJ7_newCapacity_2 6 rfl rfl)
theorem dJ7_newCapacity_54 : decode cJ7_newCapacity 54 = .ok (.getfield 22, 3) := dk_180 0 22 (dk_at dksJ7_newCapacity_2 7 rfl rfl)
theorem dJ7_newCapacity_57 : decode cJ7_newCapacity 57 = .ok (.ishr, 1) := dk_122 (dk_at dksJ7_newCapacity_2 10 rfl rfl)
theorem dJ7_newCapacity_58 : decode cJ7_newCapacity 58 = .ok (.ireturn, 1) := dk_172 (dk_at dksJ7_newCapacity_2 11 rfl rfl)
theorem c48011 : jtCode 48011 = cJ7_newCapacity := rfl
theorem E48011_0 (d : Nat) (a0 : Nat) (i1 : Int32) (h : AH) : G d 48011 0 [.ref a0, .int i1, jno, jno, jno, jno] [] h = zpR (jf (jc h (.ref a0)) [49] 0) (fun r1 => zqL h r1 (fun x2 => zpI (jf (jc h (.ref a0)) [49] 1) (fun x3 => zpI (jf (jc h (.ref a0)) [49] 1) (fun x4 => zcI (M d 52003 [.int x2, .int ((i1 <<< (x3 &&& 31)) - x2), .int (x2 + ((2 : Int32) <<< (x4 &&& 31)))] h) (fun x5 h6 => if x5 = 2147483647 then (G d 48011 41 [.ref a0, .int i1, .int x2, .int (i1 <<< (x3 &&& 31)), .int ((i1 <<< (x3 &&& 31)) - x2), .int x5] [] h6) else (zpI (jf (jc h6 (.ref a0)) [49] 1) (fun x7 => some (.inl (some (.int (x5 >>> (x7 &&& 31)))), h6)) ())) ()) ()) ()) ()) () := by
  refine (g_aload_n c48011 dJ7_newCapacity_0 rfl).trans ?_
  refine (g_getR c48011 dJ7_newCapacity_1 rfl).trans (rR_cg fun r1 => ?_)
  refine (g_alen c48011 dJ7_newCapacity_4).trans (aL_cg fun x2 => ?_)
  refine (g_istore_n (L' := [.ref a0, .int i1, .int x2, jno, jno, jno]) c48011 dJ7_newCapacity_5 rfl rfl).trans ?_
  refine (g_iload_n c48011 dJ7_newCapacity_6 rfl).trans ?_
  refine (g_aload_n c48011 dJ7_newCapacity_7 rfl).trans ?_
  refine (g_getI c48011 dJ7_newCapacity_8 rfl rfl).trans (rI_cg fun x3 => ?_)
  refine (g_ishl c48011 dJ7_newCapacity_11).trans ?_
  refine (g_istore_n (L' := [.ref a0, .int i1, .int x2, .int (i1 <<< (x3 &&& 31)), jno, jno]) c48011 dJ7_newCapacity_12 rfl rfl).trans ?_
  refine (g_iload_n c48011 dJ7_newCapacity_13 rfl).trans ?_
  refine (g_iload_n c48011 dJ7_newCapacity_14 rfl).trans ?_
  refine (g_isub c48011 dJ7_newCapacity_15).trans ?_
  refine (g_istore (L' := [.ref a0, .int i1, .int x2, .int (i1 <<< (x3 &&& 31)), .int ((i1 <<< (x3 &&& 31)) - x2), jno]) c48011 dJ7_newCapacity_16 rfl rfl).trans ?_
  refine (g_iload_n c48011 dJ7_newCapacity_18 rfl).trans ?_
  refine (g_iload c48011 dJ7_newCapacity_19 rfl).trans ?_
  refine (g_iload_n c48011 dJ7_newCapacity_21 rfl).trans ?_
  refine (g_iconst (x := 2) c48011 dJ7_newCapacity_22 rfl).trans ?_
  refine (g_aload_n c48011 dJ7_newCapacity_23 rfl).trans ?_
  refine (g_getI c48011 dJ7_newCapacity_24 rfl rfl).trans (rI_cg fun x4 => ?_)
  refine (g_ishl c48011 dJ7_newCapacity_27).trans ?_
  refine (g_iadd c48011 dJ7_newCapacity_28).trans ?_
  refine (g_static (as := [.int x2, .int ((i1 <<< (x3 &&& 31)) - x2), .int (x2 + ((2 : Int32) <<< (x4 &&& 31)))]) (rest := []) c48011 dJ7_newCapacity_29 rfl rfl rfl rfl rfl).trans ((jback_I (κx := cX) (fun e h => jthrow_out rfl)).trans (cI_cg fun x5 h6 => ?_))
  refine (g_istore (L' := [.ref a0, .int i1, .int x2, .int (i1 <<< (x3 &&& 31)), .int ((i1 <<< (x3 &&& 31)) - x2), .int x5]) c48011 dJ7_newCapacity_32 rfl rfl).trans ?_
  refine (g_iload c48011 dJ7_newCapacity_34 rfl).trans ?_
  refine (g_ldcI (x := 2147483647) c48011 dJ7_newCapacity_36 rfl rfl).trans ?_
  refine (g_icmp_ne (tgt := 51) c48011 dJ7_newCapacity_38 rfl).trans (if_cg ?_ ?_)
  · skip
    rfl
  · skip
    refine (g_iload c48011 dJ7_newCapacity_51 rfl).trans ?_
    refine (g_aload_n c48011 dJ7_newCapacity_53 rfl).trans ?_
    refine (g_getI c48011 dJ7_newCapacity_54 rfl rfl).trans (rI_cg fun x7 => ?_)
    refine (g_ishr c48011 dJ7_newCapacity_57).trans ?_
    exact g_ireturn c48011 dJ7_newCapacity_58 rfl
theorem X48011 {d : Nat} {a0 : Nat} {i1 : Int32} (h : AH) (hr : jrecv 48011 [.ref a0, .int i1] h = true) : M (d + 1) 48011 [.ref a0, .int i1] h = G d 48011 0 [.ref a0, .int i1, jno, jno, jno, jno] [] h := M_eq rfl hr rfl
/-! java/lang/AbstractStringBuilder.putStringAt(ILjava/lang/String;)V -/
abbrev cJ7_putStringAt : ByteArray := prog_37_method_73_code
def dkwJ7_putStringAt_0 : List UInt8 := [42, 44, 182, 1, 141, 44, 42, 180, 0, 15, 27, 42, 180, 0, 22, 182, 1, 143, 177]
abbrev dktJ7_putStringAt_0 : List UInt8 := dkwJ7_putStringAt_0 ++ []
theorem dksJ7_putStringAt_0 : cJ7_putStringAt.data.toList.drop 0 = dktJ7_putStringAt_0 := by decide +kernel
theorem dJ7_putStringAt_0 : decode cJ7_putStringAt 0 = .ok (.aload_n 0, 1) := dk_42 (dk_at dksJ7_putStringAt_0 0 rfl rfl)
theorem dJ7_putStringAt_1 : decode cJ7_putStringAt 1 = .ok (.aload_n 2, 1) := dk_44 (dk_at dksJ7_putStringAt_0 1 rfl rfl)
theorem dJ7_putStringAt_2 : decode cJ7_putStringAt 2 = .ok (.invokevirtual 397, 3) := dk_182 1 141 (dk_at dksJ7_putStringAt_0 2 rfl rfl)
theorem dJ7_putStringAt_5 : decode cJ7_putStringAt 5 = .ok (.aload_n 2, 1) := dk_44 (dk_at dksJ7_putStringAt_0 5 rfl rfl)
theorem dJ7_putStringAt_6 : decode cJ7_putStringAt 6 = .ok (.aload_n 0, 1) := dk_42 (dk_at dksJ7_putStringAt_0 6 rfl rfl)
theorem dJ7_putStringAt_7 : decode cJ7_putStringAt 7 = .ok (.getfield 15, 3) := dk_180 0 15 (dk_at dksJ7_putStringAt_0 7 rfl rfl)
theorem dJ7_putStringAt_10 : decode cJ7_putStringAt 10 = .ok (.iload_n 1, 1) := dk_27 (dk_at dksJ7_putStringAt_0 10 rfl rfl)
theorem dJ7_putStringAt_11 : decode cJ7_putStringAt 11 = .ok (.aload_n 0, 1) := dk_42 (dk_at dksJ7_putStringAt_0 11 rfl rfl)
theorem dJ7_putStringAt_12 : decode cJ7_putStringAt 12 = .ok (.getfield 22, 3) := dk_180 0 22 (dk_at dksJ7_putStringAt_0 12 rfl rfl)
theorem dJ7_putStringAt_15 : decode cJ7_putStringAt 15 = .ok (.invokevirtual 399, 3) := dk_182 1 143 (dk_at dksJ7_putStringAt_0 15 rfl rfl)
theorem dJ7_putStringAt_18 : decode cJ7_putStringAt 18 = .ok (.return_, 1) := dk_177 (dk_at dksJ7_putStringAt_0 18 rfl rfl)
theorem c48012 : jtCode 48012 = cJ7_putStringAt := rfl
theorem E48012_0 (d : Nat) (a0 : Nat) (i1 : Int32) (v2 : Value) (h : AH) : G d 48012 0 [.ref a0, .int i1, v2] [] h = zkR v2 (zcV (M d 48008 [.ref a0, v2] h) (fun h2 => zkR v2 (zpR (jf (jc h2 (.ref a0)) [49] 0) (fun r3 => zpI (jf (jc h2 (.ref a0)) [49] 1) (fun x4 => zcV (M d 50009 [v2, r3, .int i1, .int x4] h2) (fun h6 => some (.inl none, h6)) ()) ()) ()) ()) ()) () := by
  refine (g_aload_n c48012 dJ7_putStringAt_0 rfl).trans ?_
  refine (g_aload_nV c48012 dJ7_putStringAt_1 rfl).trans (ckR_cg ?_)
  refine (g_virtual (as := [.ref a0, v2]) (rest := []) c48012 dJ7_putStringAt_2 rfl rfl rfl rfl rfl).trans ((jback_V (κx := cX) (fun e h => jthrow_out rfl)).trans (cV_cg fun h2 => ?_))
  refine (g_aload_nV c48012 dJ7_putStringAt_5 rfl).trans (ckR_cg ?_)
  refine (g_aload_n c48012 dJ7_putStringAt_6 rfl).trans ?_
  refine (g_getR c48012 dJ7_putStringAt_7 rfl).trans (rR_cg fun r3 => ?_)
  refine (g_iload_n c48012 dJ7_putStringAt_10 rfl).trans ?_
  refine (g_aload_n c48012 dJ7_putStringAt_11 rfl).trans ?_
  refine (g_getI c48012 dJ7_putStringAt_12 rfl rfl).trans (rI_cg fun x4 => ?_)
  refine (g_virtual (as := [v2, r3, .int i1, .int x4]) (rest := []) c48012 dJ7_putStringAt_15 rfl rfl rfl rfl rfl).trans ((jback_V (κx := cX) (fun e h => jthrow_out rfl)).trans (cV_cg fun h6 => ?_))
  exact g_return c48012 dJ7_putStringAt_18 rfl
theorem X48012 {d : Nat} {a0 : Nat} {i1 : Int32} {v2 : Value} (h : AH) (hv2 : isR v2 = true) (hr : jrecv 48012 [.ref a0, .int i1, v2] h = true) : M (d + 1) 48012 [.ref a0, .int i1, v2] h = G d 48012 0 [.ref a0, .int i1, v2] [] h := M_eq rfl hr (by simp only [jent, jargL_R hv2, jargL]; rfl)
/-! java/lang/AbstractStringBuilder.<init>(I)V -/
abbrev cJ7_init : ByteArray := prog_37_method_2_code
def dkwJ7_init_1 : List UInt8 := [167, 0, 16, 42, 27, 184, 0, 26, 181, 0, 15, 42, 4, 181, 0, 22, 177]
abbrev dktJ7_init_1 : List UInt8 := dkwJ7_init_1 ++ []
def dkwJ7_init_0 : List UInt8 := [42, 183, 0, 3, 178, 0, 18, 153, 0, 18, 42, 27, 188, 8, 181, 0, 15, 42, 3, 181, 0, 22]
abbrev dktJ7_init_0 : List UInt8 := dkwJ7_init_0 ++ dktJ7_init_1
theorem dksJ7_init_0 : cJ7_init.data.toList.drop 0 = dktJ7_init_0 := by decide +kernel
theorem dksJ7_init_1 : cJ7_init.data.toList.drop 22 = dktJ7_init_1 := dk_seg dksJ7_init_0 22 rfl rfl
theorem dJ7_init_0 : decode cJ7_init 0 = .ok (.aload_n 0, 1) := dk_42 (dk_at dksJ7_init_0 0 rfl rfl)
theorem dJ7_init_1 : decode cJ7_init 1 = .ok (.invokespecial 3, 3) := dk_183 0 3 (dk_at dksJ7_init_0 1 rfl rfl)
theorem dJ7_init_4 : decode cJ7_init 4 = .ok (.getstatic 18, 3) := dk_178 0 18 (dk_at dksJ7_init_0 4 rfl rfl)
theorem dJ7_init_7 : decode cJ7_init 7 = .ok (.ifCond .eq 18, 3) := dk_153 0 18 (dk_at dksJ7_init_0 7 rfl rfl)
theorem dJ7_init_10 : decode cJ7_init 10 = .ok (.aload_n 0, 1) := dk_42 (dk_at dksJ7_init_0 10 rfl rfl)
theorem dJ7_init_11 : decode cJ7_init 11 = .ok (.iload_n 1, 1) := dk_27 (dk_at dksJ7_init_0 11 rfl rfl)
theorem dJ7_init_12 : decode cJ7_init 12 = .ok (.newarray .byte, 2) := dk_188_8 (dk_at dksJ7_init_0 12 rfl rfl)
theorem dJ7_init_14 : decode cJ7_init 14 = .ok (.putfield 15, 3) := dk_181 0 15 (dk_at dksJ7_init_0 14 rfl rfl)
theorem dJ7_init_17 : decode cJ7_init 17 = .ok (.aload_n 0, 1) := dk_42 (dk_at dksJ7_init_0 17 rfl rfl)
theorem dJ7_init_18 : decode cJ7_init 18 = .ok (.iconst 0, 1) := dk_3 (dk_at dksJ7_init_0 18 rfl rfl)
theorem dJ7_init_19 : decode cJ7_init 19 = .ok (.putfield 22, 3) := dk_181 0 22 (dk_at dksJ7_init_0 19 rfl rfl)
theorem dJ7_init_22 : decode cJ7_init 22 = .ok (.goto 16, 3) := dk_167 0 16 (dk_at dksJ7_init_1 0 rfl rfl)
theorem dJ7_init_25 : decode cJ7_init 25 = .ok (.aload_n 0, 1) := dk_42 (dk_at dksJ7_init_1 3 rfl rfl)
theorem dJ7_init_26 : decode cJ7_init 26 = .ok (.iload_n 1, 1) := dk_27 (dk_at dksJ7_init_1 4 rfl rfl)
theorem dJ7_init_27 : decode cJ7_init 27 = .ok (.invokestatic 26, 3) := dk_184 0 26 (dk_at dksJ7_init_1 5 rfl rfl)
theorem dJ7_init_30 : decode cJ7_init 30 = .ok (.putfield 15, 3) := dk_181 0 15 (dk_at dksJ7_init_1 8 rfl rfl)
theorem dJ7_init_33 : decode cJ7_init 33 = .ok (.aload_n 0, 1) := dk_42 (dk_at dksJ7_init_1 11 rfl rfl)
theorem dJ7_init_34 : decode cJ7_init 34 = .ok (.iconst 1, 1) := dk_4 (dk_at dksJ7_init_1 12 rfl rfl)
theorem dJ7_init_35 : decode cJ7_init 35 = .ok (.putfield 22, 3) := dk_181 0 22 (dk_at dksJ7_init_1 13 rfl rfl)
theorem dJ7_init_38 : decode cJ7_init 38 = .ok (.return_, 1) := dk_177 (dk_at dksJ7_init_1 16 rfl rfl)
theorem c48900 : jtCode 48900 = cJ7_init := rfl
theorem E48900_0 (d : Nat) (a0 : Nat) (i1 : Int32) (h : AH) : G d 48900 0 [.ref a0, .int i1] [] h = zcV (M d 90000 [.ref a0] h) (fun h2 => if (1 : Int32) = 0 then (zcR (M d 51022 [.int i1] h2) (fun r3 h4 => zqF h4 (.ref a0) [49] 0 2 r3 (fun h5 => zqF h5 (.ref a0) [49] 1 4 (.int 1) (fun h6 => some (.inl none, h6)) ()) ()) ()) else (zqN i1 (zqH (jpush h2 (1010, i1.toNatClampNeg, fun _ => .int 0)) (fun h7 => zqF h7 (.ref a0) [49] 0 2 (.ref h2.1) (fun h8 => zqF h8 (.ref a0) [49] 1 4 (.int 0) (fun h9 => some (.inl none, h9)) ()) ()) ()) ())) () := by
  refine (g_aload_n c48900 dJ7_init_0 rfl).trans ?_
  refine (g_special (as := [.ref a0]) (rest := []) c48900 dJ7_init_1 rfl rfl rfl rfl rfl).trans ((jback_V (κx := cX) (fun e h => jthrow_out rfl)).trans (cV_cg fun h2 => ?_))
  refine (g_getsI (x := 1) c48900 dJ7_init_4 rfl rfl).trans ?_
  refine (g_if_eq (tgt := 25) c48900 dJ7_init_7 rfl).trans (if_cg ?_ ?_)
  · skip
    refine (g_aload_n c48900 dJ7_init_25 rfl).trans ?_
    refine (g_iload_n c48900 dJ7_init_26 rfl).trans ?_
    refine (g_static (as := [.int i1]) (rest := [.ref a0]) c48900 dJ7_init_27 rfl rfl rfl rfl rfl).trans ((jback_R (κx := cX) (fun e h => jthrow_out rfl)).trans (cR_cg fun r3 h4 => ?_))
    refine (g_put c48900 dJ7_init_30 rfl).trans (pF_cg fun h5 => ?_)
    refine (g_aload_n c48900 dJ7_init_33 rfl).trans ?_
    refine (g_iconst (x := 1) c48900 dJ7_init_34 rfl).trans ?_
    refine (g_put c48900 dJ7_init_35 rfl).trans (pF_cg fun h6 => ?_)
    exact g_return c48900 dJ7_init_38 rfl
  · skip
    refine (g_aload_n c48900 dJ7_init_10 rfl).trans ?_
    refine (g_iload_n c48900 dJ7_init_11 rfl).trans ?_
    refine (g_newB c48900 dJ7_init_12).trans (nA_cg ?_)
    refine nmZ ?_
    generalize jpush h2 (1010, i1.toNatClampNeg, fun _ => .int 0) = h7
    refine (g_put c48900 dJ7_init_14 rfl).trans (pF_cg fun h8 => ?_)
    refine (g_aload_n c48900 dJ7_init_17 rfl).trans ?_
    refine (g_iconst (x := 0) c48900 dJ7_init_18 rfl).trans ?_
    refine (g_put c48900 dJ7_init_19 rfl).trans (pF_cg fun h9 => ?_)
    refine (g_goto (tgt := 38) c48900 dJ7_init_22 rfl).trans ?_
    exact g_return c48900 dJ7_init_38 rfl
theorem X48900 {d : Nat} {a0 : Nat} {i1 : Int32} (h : AH) (hr : jrecv 48900 [.ref a0, .int i1] h = true) : M (d + 1) 48900 [.ref a0, .int i1] h = G d 48900 0 [.ref a0, .int i1] [] h := M_eq rfl hr rfl
/-! java/lang/AbstractStringBuilder.<init>(Ljava/lang/String;)V -/
abbrev cJ7_init_2 : ByteArray := prog_37_method_3_code
def dkwJ7_init_2_2 : List UInt8 := [167, 0, 7, 29, 184, 0, 26, 181, 0, 15, 42, 43, 182, 0, 43, 87, 177]
abbrev dktJ7_init_2_2 : List UInt8 := dkwJ7_init_2_2 ++ []
def dkwJ7_init_2_1 : List UInt8 := [62, 43, 182, 0, 40, 54, 4, 42, 21, 4, 181, 0, 22, 42, 21, 4, 154, 0, 9, 29, 188, 8]
abbrev dktJ7_init_2_1 : List UInt8 := dkwJ7_init_2_1 ++ dktJ7_init_2_2
def dkwJ7_init_2_0 : List UInt8 := [42, 183, 0, 3, 43, 182, 0, 32, 61, 28, 18, 38, 162, 0, 10, 28, 16, 16, 96, 167, 0, 5, 18, 39]
abbrev dktJ7_init_2_0 : List UInt8 := dkwJ7_init_2_0 ++ dktJ7_init_2_1
theorem dksJ7_init_2_0 : cJ7_init_2.data.toList.drop 0 = dktJ7_init_2_0 := by decide +kernel
theorem dksJ7_init_2_1 : cJ7_init_2.data.toList.drop 24 = dktJ7_init_2_1 := dk_seg dksJ7_init_2_0 24 rfl rfl
theorem dksJ7_init_2_2 : cJ7_init_2.data.toList.drop 46 = dktJ7_init_2_2 := dk_seg dksJ7_init_2_1 22 rfl rfl
theorem dJ7_init_2_0 : decode cJ7_init_2 0 = .ok (.aload_n 0, 1) := dk_42 (dk_at dksJ7_init_2_0 0 rfl rfl)
theorem dJ7_init_2_1 : decode cJ7_init_2 1 = .ok (.invokespecial 3, 3) := dk_183 0 3 (dk_at dksJ7_init_2_0 1 rfl rfl)
theorem dJ7_init_2_4 : decode cJ7_init_2 4 = .ok (.aload_n 1, 1) := dk_43 (dk_at dksJ7_init_2_0 4 rfl rfl)
theorem dJ7_init_2_5 : decode cJ7_init_2 5 = .ok (.invokevirtual 32, 3) := dk_182 0 32 (dk_at dksJ7_init_2_0 5 rfl rfl)
theorem dJ7_init_2_8 : decode cJ7_init_2 8 = .ok (.istore_n 2, 1) := dk_61 (dk_at dksJ7_init_2_0 8 rfl rfl)
theorem dJ7_init_2_9 : decode cJ7_init_2 9 = .ok (.iload_n 2, 1) := dk_28 (dk_at dksJ7_init_2_0 9 rfl rfl)
theorem dJ7_init_2_10 : decode cJ7_init_2 10 = .ok (.ldc 38, 2) := dk_18 38 (dk_at dksJ7_init_2_0 10 rfl rfl)
theorem dJ7_init_2_12 : decode cJ7_init_2 12 = .ok (.if_icmp .ge 10, 3) := dk_162 0 10 (dk_at dksJ7_init_2_0 12 rfl rfl)
theorem dJ7_init_2_15 : decode cJ7_init_2 15 = .ok (.iload_n 2, 1) := dk_28 (dk_at dksJ7_init_2_0 15 rfl rfl)
theorem dJ7_init_2_16 : decode cJ7_init_2 16 = .ok (.bipush 16, 2) := dk_16 16 (dk_at dksJ7_init_2_0 16 rfl rfl)
theorem dJ7_init_2_18 : decode cJ7_init_2 18 = .ok (.iadd, 1) := dk_96 (dk_at dksJ7_init_2_0 18 rfl rfl)
theorem dJ7_init_2_19 : decode cJ7_init_2 19 = .ok (.goto 5, 3) := dk_167 0 5 (dk_at dksJ7_init_2_0 19 rfl rfl)
theorem dJ7_init_2_22 : decode cJ7_init_2 22 = .ok (.ldc 39, 2) := dk_18 39 (dk_at dksJ7_init_2_0 22 rfl rfl)
theorem dJ7_init_2_24 : decode cJ7_init_2 24 = .ok (.istore_n 3, 1) := dk_62 (dk_at dksJ7_init_2_1 0 rfl rfl)
theorem dJ7_init_2_25 : decode cJ7_init_2 25 = .ok (.aload_n 1, 1) := dk_43 (dk_at dksJ7_init_2_1 1 rfl rfl)
theorem dJ7_init_2_26 : decode cJ7_init_2 26 = .ok (.invokevirtual 40, 3) := dk_182 0 40 (dk_at dksJ7_init_2_1 2 rfl rfl)
theorem dJ7_init_2_29 : decode cJ7_init_2 29 = .ok (.istore 4, 2) := dk_54 4 (dk_at dksJ7_init_2_1 5 rfl rfl)
theorem dJ7_init_2_31 : decode cJ7_init_2 31 = .ok (.aload_n 0, 1) := dk_42 (dk_at dksJ7_init_2_1 7 rfl rfl)
theorem dJ7_init_2_32 : decode cJ7_init_2 32 = .ok (.iload 4, 2) := dk_21 4 (dk_at dksJ7_init_2_1 8 rfl rfl)
theorem dJ7_init_2_34 : decode cJ7_init_2 34 = .ok (.putfield 22, 3) := dk_181 0 22 (dk_at dksJ7_init_2_1 10 rfl rfl)
theorem dJ7_init_2_37 : decode cJ7_init_2 37 = .ok (.aload_n 0, 1) := dk_42 (dk_at dksJ7_init_2_1 13 rfl rfl)
theorem dJ7_init_2_38 : decode cJ7_init_2 38 = .ok (.iload 4, 2) := dk_21 4 (dk_at dksJ7_init_2_1 14 rfl rfl)
theorem dJ7_init_2_40 : decode cJ7_init_2 40 = .ok (.ifCond .ne 9, 3) := dk_154 0 9 (dk_at dksJ7_init_2_1 16 rfl rfl)
theorem dJ7_init_2_43 : decode cJ7_init_2 43 = .ok (.iload_n 3, 1) := dk_29 (dk_at dksJ7_init_2_1 19 rfl rfl)
theorem dJ7_init_2_44 : decode cJ7_init_2 44 = .ok (.newarray .byte, 2) := dk_188_8 (dk_at dksJ7_init_2_1 20 rfl rfl)
theorem dJ7_init_2_46 : decode cJ7_init_2 46 = .ok (.goto 7, 3) := dk_167 0 7 (dk_at dksJ7_init_2_2 0 rfl rfl)
theorem dJ7_init_2_49 : decode cJ7_init_2 49 = .ok (.iload_n 3, 1) := dk_29 (dk_at dksJ7_init_2_2 3 rfl rfl)
theorem dJ7_init_2_50 : decode cJ7_init_2 50 = .ok (.invokestatic 26, 3) := dk_184 0 26 (dk_at dksJ7_init_2_2 4 rfl rfl)
theorem dJ7_init_2_53 : decode cJ7_init_2 53 = .ok (.putfield 15, 3) := dk_181 0 15 (dk_at dksJ7_init_2_2 7 rfl rfl)
theorem dJ7_init_2_56 : decode cJ7_init_2 56 = .ok (.aload_n 0, 1) := dk_42 (dk_at dksJ7_init_2_2 10 rfl rfl)
theorem dJ7_init_2_57 : decode cJ7_init_2 57 = .ok (.aload_n 1, 1) := dk_43 (dk_at dksJ7_init_2_2 11 rfl rfl)
theorem dJ7_init_2_58 : decode cJ7_init_2 58 = .ok (.invokevirtual 43, 3) := dk_182 0 43 (dk_at dksJ7_init_2_2 12 rfl rfl)
theorem dJ7_init_2_61 : decode cJ7_init_2 61 = .ok (.pop, 1) := dk_87 (dk_at dksJ7_init_2_2 15 rfl rfl)
theorem dJ7_init_2_62 : decode cJ7_init_2 62 = .ok (.return_, 1) := dk_177 (dk_at dksJ7_init_2_2 16 rfl rfl)
theorem c48901 : jtCode 48901 = cJ7_init_2 := rfl
theorem E48901_0 (d : Nat) (a0 : Nat) (v1 : Value) (h : AH) : G d 48901 0 [.ref a0, v1, jno, jno, jno] [] h = zcV (M d 90000 [.ref a0] h) (fun h2 => zkR v1 (zcI (M d 50012 [v1] h2) (fun x3 h4 => if 2147483631 ≤ x3 then (G d 48901 24 [.ref a0, v1, .int x3, jno, jno] [.int 2147483647] h4) else (G d 48901 24 [.ref a0, v1, .int x3, jno, jno] [.int (x3 + 16)] h4)) ()) ()) () := by
  refine (g_aload_n c48901 dJ7_init_2_0 rfl).trans ?_
  refine (g_special (as := [.ref a0]) (rest := []) c48901 dJ7_init_2_1 rfl rfl rfl rfl rfl).trans ((jback_V (κx := cX) (fun e h => jthrow_out rfl)).trans (cV_cg fun h2 => ?_))
  refine (g_aload_nV c48901 dJ7_init_2_4 rfl).trans (ckR_cg ?_)
  refine (g_virtual (as := [v1]) (rest := []) c48901 dJ7_init_2_5 rfl rfl rfl rfl rfl).trans ((jback_I (κx := cX) (fun e h => jthrow_out rfl)).trans (cI_cg fun x3 h4 => ?_))
  refine (g_istore_n (L' := [.ref a0, v1, .int x3, jno, jno]) c48901 dJ7_init_2_8 rfl rfl).trans ?_
  refine (g_iload_n c48901 dJ7_init_2_9 rfl).trans ?_
  refine (g_ldcI (x := 2147483631) c48901 dJ7_init_2_10 rfl rfl).trans ?_
  refine (g_icmp_ge (tgt := 22) c48901 dJ7_init_2_12 rfl).trans (if_cg ?_ ?_)
  · skip
    refine (g_ldcI (x := 2147483647) c48901 dJ7_init_2_22 rfl rfl).trans ?_
    rfl
  · skip
    refine (g_iload_n c48901 dJ7_init_2_15 rfl).trans ?_
    refine (g_bipush (x := 16) c48901 dJ7_init_2_16 rfl).trans ?_
    refine (g_iadd c48901 dJ7_init_2_18).trans ?_
    refine (g_goto (tgt := 24) c48901 dJ7_init_2_19 rfl).trans ?_
    rfl
theorem E48901_24 (d : Nat) (a0 : Nat) (v1 : Value) (i2 : Int32) (is0 : Int32) (h : AH) : G d 48901 24 [.ref a0, v1, .int i2, jno, jno] [.int is0] h = zkR v1 (zcI (M d 50005 [v1] h) (fun x1 h2 => zqF h2 (.ref a0) [49] 1 4 (.int x1) (fun h3 => if x1 = 0 then (zqN is0 (zqH (jpush h3 (1010, is0.toNatClampNeg, fun _ => .int 0)) (fun h4 => zqF h4 (.ref a0) [49] 0 2 (.ref h3.1) (fun h5 => zkR v1 (zcR (M d 49002 [.ref a0, v1] h5) (fun r6 h7 => zkW r6 (some (.inl none, h7)) ()) ()) ()) ()) ()) ()) else (zcR (M d 51022 [.int is0] h3) (fun r8 h9 => zqF h9 (.ref a0) [49] 0 2 r8 (fun h10 => zkR v1 (zcR (M d 49002 [.ref a0, v1] h10) (fun r11 h12 => zkW r11 (some (.inl none, h12)) ()) ()) ()) ()) ())) ()) ()) () := by
  refine (g_istore_n (L' := [.ref a0, v1, .int i2, .int is0, jno]) c48901 dJ7_init_2_24 rfl rfl).trans ?_
  refine (g_aload_nV c48901 dJ7_init_2_25 rfl).trans (ckR_cg ?_)
  refine (g_virtual (as := [v1]) (rest := []) c48901 dJ7_init_2_26 rfl rfl rfl rfl rfl).trans ((jback_I (κx := cX) (fun e h => jthrow_out rfl)).trans (cI_cg fun x1 h2 => ?_))
  refine (g_istore (L' := [.ref a0, v1, .int i2, .int is0, .int x1]) c48901 dJ7_init_2_29 rfl rfl).trans ?_
  refine (g_aload_n c48901 dJ7_init_2_31 rfl).trans ?_
  refine (g_iload c48901 dJ7_init_2_32 rfl).trans ?_
  refine (g_put c48901 dJ7_init_2_34 rfl).trans (pF_cg fun h3 => ?_)
  refine (g_aload_n c48901 dJ7_init_2_37 rfl).trans ?_
  refine (g_iload c48901 dJ7_init_2_38 rfl).trans ?_
  refine (g_if_ne (tgt := 49) c48901 dJ7_init_2_40 rfl).trans (if_cg ?_ ?_)
  · skip
    refine (g_iload_n c48901 dJ7_init_2_43 rfl).trans ?_
    refine (g_newB c48901 dJ7_init_2_44).trans (nA_cg ?_)
    refine nmZ ?_
    generalize jpush h3 (1010, is0.toNatClampNeg, fun _ => .int 0) = h4
    refine (g_goto (tgt := 53) c48901 dJ7_init_2_46 rfl).trans ?_
    refine (g_put c48901 dJ7_init_2_53 rfl).trans (pF_cg fun h5 => ?_)
    refine (g_aload_n c48901 dJ7_init_2_56 rfl).trans ?_
    refine (g_aload_nV c48901 dJ7_init_2_57 rfl).trans (ckR_cg ?_)
    refine (g_virtual (as := [.ref a0, v1]) (rest := []) c48901 dJ7_init_2_58 rfl rfl rfl rfl rfl).trans ((jback_R (κx := cX) (fun e h => jthrow_out rfl)).trans (cR_cg fun r6 h7 => ?_))
    refine (g_pop c48901 dJ7_init_2_61).trans (ckW_cg ?_)
    exact g_return c48901 dJ7_init_2_62 rfl
  · skip
    refine (g_iload_n c48901 dJ7_init_2_49 rfl).trans ?_
    refine (g_static (as := [.int is0]) (rest := [.ref a0]) c48901 dJ7_init_2_50 rfl rfl rfl rfl rfl).trans ((jback_R (κx := cX) (fun e h => jthrow_out rfl)).trans (cR_cg fun r8 h9 => ?_))
    refine (g_put c48901 dJ7_init_2_53 rfl).trans (pF_cg fun h10 => ?_)
    refine (g_aload_n c48901 dJ7_init_2_56 rfl).trans ?_
    refine (g_aload_nV c48901 dJ7_init_2_57 rfl).trans (ckR_cg ?_)
    refine (g_virtual (as := [.ref a0, v1]) (rest := []) c48901 dJ7_init_2_58 rfl rfl rfl rfl rfl).trans ((jback_R (κx := cX) (fun e h => jthrow_out rfl)).trans (cR_cg fun r11 h12 => ?_))
    refine (g_pop c48901 dJ7_init_2_61).trans (ckW_cg ?_)
    exact g_return c48901 dJ7_init_2_62 rfl
theorem X48901 {d : Nat} {a0 : Nat} {v1 : Value} (h : AH) (hv1 : isR v1 = true) (hr : jrecv 48901 [.ref a0, v1] h = true) : M (d + 1) 48901 [.ref a0, v1] h = G d 48901 0 [.ref a0, v1, jno, jno, jno] [] h := M_eq rfl hr (by simp only [jent, jargL_R hv1, jargL]; rfl)
/-! java/lang/StringBuilder.append(C)Ljava/lang/StringBuilder; -/
abbrev cJ8_append : ByteArray := prog_52_method_14_code
def dkwJ8_append_0 : List UInt8 := [42, 27, 183, 0, 50, 87, 42, 176]
abbrev dktJ8_append_0 : List UInt8 := dkwJ8_append_0 ++ []
theorem dksJ8_append_0 : cJ8_append.data.toList.drop 0 = dktJ8_append_0 := by decide +kernel
theorem dJ8_append_0 : decode cJ8_append 0 = .ok (.aload_n 0, 1) := dk_42 (dk_at dksJ8_append_0 0 rfl rfl)
theorem dJ8_append_1 : decode cJ8_append 1 = .ok (.iload_n 1, 1) := dk_27 (dk_at dksJ8_append_0 1 rfl rfl)
theorem dJ8_append_2 : decode cJ8_append 2 = .ok (.invokespecial 50, 3) := dk_183 0 50 (dk_at dksJ8_append_0 2 rfl rfl)
theorem dJ8_append_5 : decode cJ8_append 5 = .ok (.pop, 1) := dk_87 (dk_at dksJ8_append_0 5 rfl rfl)
theorem dJ8_append_6 : decode cJ8_append 6 = .ok (.aload_n 0, 1) := dk_42 (dk_at dksJ8_append_0 6 rfl rfl)
theorem dJ8_append_7 : decode cJ8_append 7 = .ok (.areturn, 1) := dk_176 (dk_at dksJ8_append_0 7 rfl rfl)
theorem c49000 : jtCode 49000 = cJ8_append := rfl
theorem E49000_0 (d : Nat) (a0 : Nat) (i1 : Int32) (h : AH) : G d 49000 0 [.ref a0, .int i1] [] h = zcR (M d 48000 [.ref a0, .int i1] h) (fun r1 h2 => zkW r1 (some (.inl (some (.ref a0)), h2)) ()) () := by
  refine (g_aload_n c49000 dJ8_append_0 rfl).trans ?_
  refine (g_iload_n c49000 dJ8_append_1 rfl).trans ?_
  refine (g_special (as := [.ref a0, .int i1]) (rest := []) c49000 dJ8_append_2 rfl rfl rfl rfl rfl).trans ((jback_R (κx := cX) (fun e h => jthrow_out rfl)).trans (cR_cg fun r1 h2 => ?_))
  refine (g_pop c49000 dJ8_append_5).trans (ckW_cg ?_)
  refine (g_aload_n c49000 dJ8_append_6 rfl).trans ?_
  exact g_areturn_r c49000 dJ8_append_7 rfl
theorem X49000 {d : Nat} {a0 : Nat} {i1 : Int32} (h : AH) (hr : jrecv 49000 [.ref a0, .int i1] h = true) : M (d + 1) 49000 [.ref a0, .int i1] h = G d 49000 0 [.ref a0, .int i1] [] h := M_eq rfl hr rfl
/-! java/lang/StringBuilder.append(Ljava/lang/String;)Ljava/lang/StringBuilder; -/
abbrev cJ8_append_2 : ByteArray := prog_52_method_7_code
def dkwJ8_append_2_0 : List UInt8 := [42, 43, 183, 0, 29, 87, 42, 176]
abbrev dktJ8_append_2_0 : List UInt8 := dkwJ8_append_2_0 ++ []
theorem dksJ8_append_2_0 : cJ8_append_2.data.toList.drop 0 = dktJ8_append_2_0 := by decide +kernel
theorem dJ8_append_2_0 : decode cJ8_append_2 0 = .ok (.aload_n 0, 1) := dk_42 (dk_at dksJ8_append_2_0 0 rfl rfl)
theorem dJ8_append_2_1 : decode cJ8_append_2 1 = .ok (.aload_n 1, 1) := dk_43 (dk_at dksJ8_append_2_0 1 rfl rfl)
theorem dJ8_append_2_2 : decode cJ8_append_2 2 = .ok (.invokespecial 29, 3) := dk_183 0 29 (dk_at dksJ8_append_2_0 2 rfl rfl)
theorem dJ8_append_2_5 : decode cJ8_append_2 5 = .ok (.pop, 1) := dk_87 (dk_at dksJ8_append_2_0 5 rfl rfl)
theorem dJ8_append_2_6 : decode cJ8_append_2 6 = .ok (.aload_n 0, 1) := dk_42 (dk_at dksJ8_append_2_0 6 rfl rfl)
theorem dJ8_append_2_7 : decode cJ8_append_2 7 = .ok (.areturn, 1) := dk_176 (dk_at dksJ8_append_2_0 7 rfl rfl)
theorem c49001 : jtCode 49001 = cJ8_append_2 := rfl
theorem E49001_0 (d : Nat) (a0 : Nat) (v1 : Value) (h : AH) : G d 49001 0 [.ref a0, v1] [] h = zkR v1 (zcR (M d 48002 [.ref a0, v1] h) (fun r1 h2 => zkW r1 (some (.inl (some (.ref a0)), h2)) ()) ()) () := by
  refine (g_aload_n c49001 dJ8_append_2_0 rfl).trans ?_
  refine (g_aload_nV c49001 dJ8_append_2_1 rfl).trans (ckR_cg ?_)
  refine (g_special (as := [.ref a0, v1]) (rest := []) c49001 dJ8_append_2_2 rfl rfl rfl rfl rfl).trans ((jback_R (κx := cX) (fun e h => jthrow_out rfl)).trans (cR_cg fun r1 h2 => ?_))
  refine (g_pop c49001 dJ8_append_2_5).trans (ckW_cg ?_)
  refine (g_aload_n c49001 dJ8_append_2_6 rfl).trans ?_
  exact g_areturn_r c49001 dJ8_append_2_7 rfl
theorem X49001 {d : Nat} {a0 : Nat} {v1 : Value} (h : AH) (hv1 : isR v1 = true) (hr : jrecv 49001 [.ref a0, v1] h = true) : M (d + 1) 49001 [.ref a0, v1] h = G d 49001 0 [.ref a0, v1] [] h := M_eq rfl hr (by simp only [jent, jargL_R hv1, jargL]; rfl)
/-! java/lang/StringBuilder.append(Ljava/lang/String;)Ljava/lang/AbstractStringBuilder; -/
abbrev cJ8_append_3 : ByteArray := prog_52_method_80_code
def dkwJ8_append_3_0 : List UInt8 := [42, 43, 182, 0, 23, 176]
abbrev dktJ8_append_3_0 : List UInt8 := dkwJ8_append_3_0 ++ []
theorem dksJ8_append_3_0 : cJ8_append_3.data.toList.drop 0 = dktJ8_append_3_0 := by decide +kernel
theorem dJ8_append_3_0 : decode cJ8_append_3 0 = .ok (.aload_n 0, 1) := dk_42 (dk_at dksJ8_append_3_0 0 rfl rfl)
theorem dJ8_append_3_1 : decode cJ8_append_3 1 = .ok (.aload_n 1, 1) := dk_43 (dk_at dksJ8_append_3_0 1 rfl rfl)
theorem dJ8_append_3_2 : decode cJ8_append_3 2 = .ok (.invokevirtual 23, 3) := dk_182 0 23 (dk_at dksJ8_append_3_0 2 rfl rfl)
theorem dJ8_append_3_5 : decode cJ8_append_3 5 = .ok (.areturn, 1) := dk_176 (dk_at dksJ8_append_3_0 5 rfl rfl)
theorem c49002 : jtCode 49002 = cJ8_append_3 := rfl
theorem E49002_0 (d : Nat) (a0 : Nat) (v1 : Value) (h : AH) : G d 49002 0 [.ref a0, v1] [] h = zkR v1 (zcR (M d 49001 [.ref a0, v1] h) (fun r1 h2 => ckR r1 (some (.inl (some r1), h2))) ()) () := by
  refine (g_aload_n c49002 dJ8_append_3_0 rfl).trans ?_
  refine (g_aload_nV c49002 dJ8_append_3_1 rfl).trans (ckR_cg ?_)
  refine (g_virtual (as := [.ref a0, v1]) (rest := []) c49002 dJ8_append_3_2 rfl rfl rfl rfl rfl).trans ((jback_R (κx := cX) (fun e h => jthrow_out rfl)).trans (cR_cg fun r1 h2 => ?_))
  exact g_areturn c49002 dJ8_append_3_5 rfl
theorem X49002 {d : Nat} {a0 : Nat} {v1 : Value} (h : AH) (hv1 : isR v1 = true) (hr : jrecv 49002 [.ref a0, v1] h = true) : M (d + 1) 49002 [.ref a0, v1] h = G d 49002 0 [.ref a0, v1] [] h := M_eq rfl hr (by simp only [jent, jargL_R hv1, jargL]; rfl)
/-! java/lang/StringBuilder.append(I)Ljava/lang/StringBuilder; -/
abbrev cJ8_append_4 : ByteArray := prog_52_method_15_code
def dkwJ8_append_4_0 : List UInt8 := [42, 27, 183, 0, 53, 87, 42, 176]
abbrev dktJ8_append_4_0 : List UInt8 := dkwJ8_append_4_0 ++ []
theorem dksJ8_append_4_0 : cJ8_append_4.data.toList.drop 0 = dktJ8_append_4_0 := by decide +kernel
theorem dJ8_append_4_0 : decode cJ8_append_4 0 = .ok (.aload_n 0, 1) := dk_42 (dk_at dksJ8_append_4_0 0 rfl rfl)
theorem dJ8_append_4_1 : decode cJ8_append_4 1 = .ok (.iload_n 1, 1) := dk_27 (dk_at dksJ8_append_4_0 1 rfl rfl)
theorem dJ8_append_4_2 : decode cJ8_append_4 2 = .ok (.invokespecial 53, 3) := dk_183 0 53 (dk_at dksJ8_append_4_0 2 rfl rfl)
theorem dJ8_append_4_5 : decode cJ8_append_4 5 = .ok (.pop, 1) := dk_87 (dk_at dksJ8_append_4_0 5 rfl rfl)
theorem dJ8_append_4_6 : decode cJ8_append_4 6 = .ok (.aload_n 0, 1) := dk_42 (dk_at dksJ8_append_4_0 6 rfl rfl)
theorem dJ8_append_4_7 : decode cJ8_append_4 7 = .ok (.areturn, 1) := dk_176 (dk_at dksJ8_append_4_0 7 rfl rfl)
theorem c49003 : jtCode 49003 = cJ8_append_4 := rfl
theorem E49003_0 (d : Nat) (a0 : Nat) (i1 : Int32) (h : AH) : G d 49003 0 [.ref a0, .int i1] [] h = zcR (M d 48003 [.ref a0, .int i1] h) (fun r1 h2 => zkW r1 (some (.inl (some (.ref a0)), h2)) ()) () := by
  refine (g_aload_n c49003 dJ8_append_4_0 rfl).trans ?_
  refine (g_iload_n c49003 dJ8_append_4_1 rfl).trans ?_
  refine (g_special (as := [.ref a0, .int i1]) (rest := []) c49003 dJ8_append_4_2 rfl rfl rfl rfl rfl).trans ((jback_R (κx := cX) (fun e h => jthrow_out rfl)).trans (cR_cg fun r1 h2 => ?_))
  refine (g_pop c49003 dJ8_append_4_5).trans (ckW_cg ?_)
  refine (g_aload_n c49003 dJ8_append_4_6 rfl).trans ?_
  exact g_areturn_r c49003 dJ8_append_4_7 rfl
theorem X49003 {d : Nat} {a0 : Nat} {i1 : Int32} (h : AH) (hr : jrecv 49003 [.ref a0, .int i1] h = true) : M (d + 1) 49003 [.ref a0, .int i1] h = G d 49003 0 [.ref a0, .int i1] [] h := M_eq rfl hr rfl
/-! java/lang/StringBuilder.length()I -/
abbrev cJ8_length : ByteArray := prog_52_method_93_code
theorem dJ8_length_0 : decode cJ8_length 0 = .ok (.aload_n 0, 1) := by decide +kernel
theorem dJ8_length_1 : decode cJ8_length 1 = .ok (.invokespecial 343, 3) := by decide +kernel
theorem dJ8_length_4 : decode cJ8_length 4 = .ok (.ireturn, 1) := by decide +kernel
theorem c49006 : jtCode 49006 = cJ8_length := rfl
theorem E49006_0 (d : Nat) (a0 : Nat) (h : AH) : G d 49006 0 [.ref a0] [] h = zcI (M d 48010 [.ref a0] h) (fun x1 h2 => some (.inl (some (.int x1)), h2)) () := by
  refine (g_aload_n c49006 dJ8_length_0 rfl).trans ?_
  refine (g_special (as := [.ref a0]) (rest := []) c49006 dJ8_length_1 rfl rfl rfl rfl rfl).trans ((jback_I (κx := cX) (fun e h => jthrow_out rfl)).trans (cI_cg fun x1 h2 => ?_))
  exact g_ireturn c49006 dJ8_length_4 rfl
theorem X49006 {d : Nat} {a0 : Nat} (h : AH) (hr : jrecv 49006 [.ref a0] h = true) : M (d + 1) 49006 [.ref a0] h = G d 49006 0 [.ref a0] [] h := M_eq rfl hr rfl
/-! java/lang/StringBuilder.toString()Ljava/lang/String; -/
abbrev cJ8_toString : ByteArray := prog_52_method_42_code
def dkwJ8_toString_0 : List UInt8 := [187, 0, 18, 89, 42, 183, 0, 137, 176]
abbrev dktJ8_toString_0 : List UInt8 := dkwJ8_toString_0 ++ []
theorem dksJ8_toString_0 : cJ8_toString.data.toList.drop 0 = dktJ8_toString_0 := by decide +kernel
theorem dJ8_toString_0 : decode cJ8_toString 0 = .ok (.new 18, 3) := dk_187 0 18 (dk_at dksJ8_toString_0 0 rfl rfl)
theorem dJ8_toString_3 : decode cJ8_toString 3 = .ok (.dup, 1) := dk_89 (dk_at dksJ8_toString_0 3 rfl rfl)
theorem dJ8_toString_4 : decode cJ8_toString 4 = .ok (.aload_n 0, 1) := dk_42 (dk_at dksJ8_toString_0 4 rfl rfl)
theorem dJ8_toString_5 : decode cJ8_toString 5 = .ok (.invokespecial 137, 3) := dk_183 0 137 (dk_at dksJ8_toString_0 5 rfl rfl)
theorem dJ8_toString_8 : decode cJ8_toString 8 = .ok (.areturn, 1) := dk_176 (dk_at dksJ8_toString_0 8 rfl rfl)
theorem c49007 : jtCode 49007 = cJ8_toString := rfl
theorem E49007_0 (d : Nat) (a0 : Nat) (h : AH) : G d 49007 0 [.ref a0] [] h = zqH (jpush h (50, 4, jL [.null, .int 0, .int 0, .int 0])) (fun h1 => zcV (M d 50900 [.ref h.1, .ref a0] h1) (fun h3 => some (.inl (some (.ref h.1)), h3)) ()) () := by
  refine (g_new (l := [.null, .int 0, .int 0, .int 0]) c49007 dJ8_toString_0 rfl rfl).trans ?_
  refine nmZ ?_
  generalize jpush h (50, 4, jL [.null, .int 0, .int 0, .int 0]) = h1
  refine (g_dup_r c49007 dJ8_toString_3).trans ?_
  refine (g_aload_n c49007 dJ8_toString_4 rfl).trans ?_
  refine (g_special (as := [.ref h.1, .ref a0]) (rest := [.ref h.1]) c49007 dJ8_toString_5 rfl rfl rfl rfl rfl).trans ((jback_V (κx := cX) (fun e h => jthrow_out rfl)).trans (cV_cg fun h3 => ?_))
  exact g_areturn_r c49007 dJ8_toString_8 rfl
theorem X49007 {d : Nat} {a0 : Nat} (h : AH) (hr : jrecv 49007 [.ref a0] h = true) : M (d + 1) 49007 [.ref a0] h = G d 49007 0 [.ref a0] [] h := M_eq rfl hr rfl
/-! java/lang/StringBuilder.<init>()V -/
abbrev cJ8_init : ByteArray := prog_52_method_1_code
def dkwJ8_init_0 : List UInt8 := [42, 16, 16, 183, 0, 1, 177]
abbrev dktJ8_init_0 : List UInt8 := dkwJ8_init_0 ++ []
theorem dksJ8_init_0 : cJ8_init.data.toList.drop 0 = dktJ8_init_0 := by decide +kernel
theorem dJ8_init_0 : decode cJ8_init 0 = .ok (.aload_n 0, 1) := dk_42 (dk_at dksJ8_init_0 0 rfl rfl)
theorem dJ8_init_1 : decode cJ8_init 1 = .ok (.bipush 16, 2) := dk_16 16 (dk_at dksJ8_init_0 1 rfl rfl)
theorem dJ8_init_3 : decode cJ8_init 3 = .ok (.invokespecial 1, 3) := dk_183 0 1 (dk_at dksJ8_init_0 3 rfl rfl)
theorem dJ8_init_6 : decode cJ8_init 6 = .ok (.return_, 1) := dk_177 (dk_at dksJ8_init_0 6 rfl rfl)
theorem c49900 : jtCode 49900 = cJ8_init := rfl
theorem E49900_0 (d : Nat) (a0 : Nat) (h : AH) : G d 49900 0 [.ref a0] [] h = zcV (M d 48900 [.ref a0, .int 16] h) (fun h2 => some (.inl none, h2)) () := by
  refine (g_aload_n c49900 dJ8_init_0 rfl).trans ?_
  refine (g_bipush (x := 16) c49900 dJ8_init_1 rfl).trans ?_
  refine (g_special (as := [.ref a0, .int 16]) (rest := []) c49900 dJ8_init_3 rfl rfl rfl rfl rfl).trans ((jback_V (κx := cX) (fun e h => jthrow_out rfl)).trans (cV_cg fun h2 => ?_))
  exact g_return c49900 dJ8_init_6 rfl
theorem X49900 {d : Nat} {a0 : Nat} (h : AH) (hr : jrecv 49900 [.ref a0] h = true) : M (d + 1) 49900 [.ref a0] h = G d 49900 0 [.ref a0] [] h := M_eq rfl hr rfl
/-! java/lang/StringBuilder.<init>(Ljava/lang/String;)V -/
abbrev cJ8_init_2 : ByteArray := prog_52_method_3_code
def dkwJ8_init_2_0 : List UInt8 := [42, 43, 183, 0, 7, 177]
abbrev dktJ8_init_2_0 : List UInt8 := dkwJ8_init_2_0 ++ []
theorem dksJ8_init_2_0 : cJ8_init_2.data.toList.drop 0 = dktJ8_init_2_0 := by decide +kernel
theorem dJ8_init_2_0 : decode cJ8_init_2 0 = .ok (.aload_n 0, 1) := dk_42 (dk_at dksJ8_init_2_0 0 rfl rfl)
theorem dJ8_init_2_1 : decode cJ8_init_2 1 = .ok (.aload_n 1, 1) := dk_43 (dk_at dksJ8_init_2_0 1 rfl rfl)
theorem dJ8_init_2_2 : decode cJ8_init_2 2 = .ok (.invokespecial 7, 3) := dk_183 0 7 (dk_at dksJ8_init_2_0 2 rfl rfl)
theorem dJ8_init_2_5 : decode cJ8_init_2 5 = .ok (.return_, 1) := dk_177 (dk_at dksJ8_init_2_0 5 rfl rfl)
theorem c49901 : jtCode 49901 = cJ8_init_2 := rfl
theorem E49901_0 (d : Nat) (a0 : Nat) (v1 : Value) (h : AH) : G d 49901 0 [.ref a0, v1] [] h = zkR v1 (zcV (M d 48901 [.ref a0, v1] h) (fun h2 => some (.inl none, h2)) ()) () := by
  refine (g_aload_n c49901 dJ8_init_2_0 rfl).trans ?_
  refine (g_aload_nV c49901 dJ8_init_2_1 rfl).trans (ckR_cg ?_)
  refine (g_special (as := [.ref a0, v1]) (rest := []) c49901 dJ8_init_2_2 rfl rfl rfl rfl rfl).trans ((jback_V (κx := cX) (fun e h => jthrow_out rfl)).trans (cV_cg fun h2 => ?_))
  exact g_return c49901 dJ8_init_2_5 rfl
theorem X49901 {d : Nat} {a0 : Nat} {v1 : Value} (h : AH) (hv1 : isR v1 = true) (hr : jrecv 49901 [.ref a0, v1] h = true) : M (d + 1) 49901 [.ref a0, v1] h = G d 49901 0 [.ref a0, v1] [] h := M_eq rfl hr (by simp only [jent, jargL_R hv1, jargL]; rfl)
/-! java/lang/String.checkBoundsBeginEnd(III)V -/
abbrev cJ9_checkBoundsBeginEnd : ByteArray := prog_51_method_158_code
def dkwJ9_checkBoundsBeginEnd_0 : List UInt8 := [26, 27, 28, 178, 4, 29, 184, 4, 38, 87, 177]
abbrev dktJ9_checkBoundsBeginEnd_0 : List UInt8 := dkwJ9_checkBoundsBeginEnd_0 ++ []
theorem dksJ9_checkBoundsBeginEnd_0 : cJ9_checkBoundsBeginEnd.data.toList.drop 0 = dktJ9_checkBoundsBeginEnd_0 := by decide +kernel
theorem dJ9_checkBoundsBeginEnd_0 : decode cJ9_checkBoundsBeginEnd 0 = .ok (.iload_n 0, 1) := dk_26 (dk_at dksJ9_checkBoundsBeginEnd_0 0 rfl rfl)
theorem dJ9_checkBoundsBeginEnd_1 : decode cJ9_checkBoundsBeginEnd 1 = .ok (.iload_n 1, 1) := dk_27 (dk_at dksJ9_checkBoundsBeginEnd_0 1 rfl rfl)
theorem dJ9_checkBoundsBeginEnd_2 : decode cJ9_checkBoundsBeginEnd 2 = .ok (.iload_n 2, 1) := dk_28 (dk_at dksJ9_checkBoundsBeginEnd_0 2 rfl rfl)
theorem dJ9_checkBoundsBeginEnd_3 : decode cJ9_checkBoundsBeginEnd 3 = .ok (.getstatic 1053, 3) := dk_178 4 29 (dk_at dksJ9_checkBoundsBeginEnd_0 3 rfl rfl)
theorem dJ9_checkBoundsBeginEnd_6 : decode cJ9_checkBoundsBeginEnd 6 = .ok (.invokestatic 1062, 3) := dk_184 4 38 (dk_at dksJ9_checkBoundsBeginEnd_0 6 rfl rfl)
theorem dJ9_checkBoundsBeginEnd_9 : decode cJ9_checkBoundsBeginEnd 9 = .ok (.pop, 1) := dk_87 (dk_at dksJ9_checkBoundsBeginEnd_0 9 rfl rfl)
theorem dJ9_checkBoundsBeginEnd_10 : decode cJ9_checkBoundsBeginEnd 10 = .ok (.return_, 1) := dk_177 (dk_at dksJ9_checkBoundsBeginEnd_0 10 rfl rfl)
theorem c50001 : jtCode 50001 = cJ9_checkBoundsBeginEnd := rfl
theorem E50001_0 (d : Nat) (i0 : Int32) (i1 : Int32) (i2 : Int32) (h : AH) : G d 50001 0 [.int i0, .int i1, .int i2] [] h = zpR (je h 2) (fun r1 => zcI (M d 55001 [.int i0, .int i1, .int i2, r1] h) (fun x2 h3 => some (.inl none, h3)) ()) () := by
  refine (g_iload_n c50001 dJ9_checkBoundsBeginEnd_0 rfl).trans ?_
  refine (g_iload_n c50001 dJ9_checkBoundsBeginEnd_1 rfl).trans ?_
  refine (g_iload_n c50001 dJ9_checkBoundsBeginEnd_2 rfl).trans ?_
  refine (g_getsR (k := 2) c50001 dJ9_checkBoundsBeginEnd_3 rfl rfl).trans (rR_cg fun r1 => ?_)
  refine (g_static (as := [.int i0, .int i1, .int i2, r1]) (rest := []) c50001 dJ9_checkBoundsBeginEnd_6 rfl rfl rfl rfl rfl).trans ((jback_I (κx := cX) (fun e h => jthrow_out rfl)).trans (cI_cg fun x2 h3 => ?_))
  refine (g_pop_i c50001 dJ9_checkBoundsBeginEnd_9).trans ?_
  exact g_return c50001 dJ9_checkBoundsBeginEnd_10 rfl
theorem X50001 {d : Nat} {i0 : Int32} {i1 : Int32} {i2 : Int32} (h : AH) : M (d + 1) 50001 [.int i0, .int i1, .int i2] h = G d 50001 0 [.int i0, .int i1, .int i2] [] h := M_eq rfl rfl rfl
/-! java/lang/String.checkIndex(II)V -/
abbrev cJ9_checkIndex : ByteArray := prog_51_method_155_code
def dkwJ9_checkIndex_0 : List UInt8 := [26, 27, 178, 4, 29, 184, 4, 35, 87, 177]
abbrev dktJ9_checkIndex_0 : List UInt8 := dkwJ9_checkIndex_0 ++ []
theorem dksJ9_checkIndex_0 : cJ9_checkIndex.data.toList.drop 0 = dktJ9_checkIndex_0 := by decide +kernel
theorem dJ9_checkIndex_0 : decode cJ9_checkIndex 0 = .ok (.iload_n 0, 1) := dk_26 (dk_at dksJ9_checkIndex_0 0 rfl rfl)
theorem dJ9_checkIndex_1 : decode cJ9_checkIndex 1 = .ok (.iload_n 1, 1) := dk_27 (dk_at dksJ9_checkIndex_0 1 rfl rfl)
theorem dJ9_checkIndex_2 : decode cJ9_checkIndex 2 = .ok (.getstatic 1053, 3) := dk_178 4 29 (dk_at dksJ9_checkIndex_0 2 rfl rfl)
theorem dJ9_checkIndex_5 : decode cJ9_checkIndex 5 = .ok (.invokestatic 1059, 3) := dk_184 4 35 (dk_at dksJ9_checkIndex_0 5 rfl rfl)
theorem dJ9_checkIndex_8 : decode cJ9_checkIndex 8 = .ok (.pop, 1) := dk_87 (dk_at dksJ9_checkIndex_0 8 rfl rfl)
theorem dJ9_checkIndex_9 : decode cJ9_checkIndex 9 = .ok (.return_, 1) := dk_177 (dk_at dksJ9_checkIndex_0 9 rfl rfl)
theorem c50003 : jtCode 50003 = cJ9_checkIndex := rfl
theorem E50003_0 (d : Nat) (i0 : Int32) (i1 : Int32) (h : AH) : G d 50003 0 [.int i0, .int i1] [] h = zpR (je h 2) (fun r1 => zcI (M d 55002 [.int i0, .int i1, r1] h) (fun x2 h3 => some (.inl none, h3)) ()) () := by
  refine (g_iload_n c50003 dJ9_checkIndex_0 rfl).trans ?_
  refine (g_iload_n c50003 dJ9_checkIndex_1 rfl).trans ?_
  refine (g_getsR (k := 2) c50003 dJ9_checkIndex_2 rfl rfl).trans (rR_cg fun r1 => ?_)
  refine (g_static (as := [.int i0, .int i1, r1]) (rest := []) c50003 dJ9_checkIndex_5 rfl rfl rfl rfl rfl).trans ((jback_I (κx := cX) (fun e h => jthrow_out rfl)).trans (cI_cg fun x2 h3 => ?_))
  refine (g_pop_i c50003 dJ9_checkIndex_8).trans ?_
  exact g_return c50003 dJ9_checkIndex_9 rfl
theorem X50003 {d : Nat} {i0 : Int32} {i1 : Int32} (h : AH) : M (d + 1) 50003 [.int i0, .int i1] h = G d 50003 0 [.int i0, .int i1] [] h := M_eq rfl rfl rfl
/-! java/lang/String.coder()B -/
abbrev cJ9_coder : ByteArray := prog_51_method_152_code
def dkwJ9_coder_0 : List UInt8 := [178, 0, 38, 153, 0, 10, 42, 180, 0, 15, 167, 0, 4, 4, 172]
abbrev dktJ9_coder_0 : List UInt8 := dkwJ9_coder_0 ++ []
theorem dksJ9_coder_0 : cJ9_coder.data.toList.drop 0 = dktJ9_coder_0 := by decide +kernel
theorem dJ9_coder_0 : decode cJ9_coder 0 = .ok (.getstatic 38, 3) := dk_178 0 38 (dk_at dksJ9_coder_0 0 rfl rfl)
theorem dJ9_coder_3 : decode cJ9_coder 3 = .ok (.ifCond .eq 10, 3) := dk_153 0 10 (dk_at dksJ9_coder_0 3 rfl rfl)
theorem dJ9_coder_6 : decode cJ9_coder 6 = .ok (.aload_n 0, 1) := dk_42 (dk_at dksJ9_coder_0 6 rfl rfl)
theorem dJ9_coder_7 : decode cJ9_coder 7 = .ok (.getfield 15, 3) := dk_180 0 15 (dk_at dksJ9_coder_0 7 rfl rfl)
theorem dJ9_coder_10 : decode cJ9_coder 10 = .ok (.goto 4, 3) := dk_167 0 4 (dk_at dksJ9_coder_0 10 rfl rfl)
theorem dJ9_coder_13 : decode cJ9_coder 13 = .ok (.iconst 1, 1) := dk_4 (dk_at dksJ9_coder_0 13 rfl rfl)
theorem dJ9_coder_14 : decode cJ9_coder 14 = .ok (.ireturn, 1) := dk_172 (dk_at dksJ9_coder_0 14 rfl rfl)
theorem c50005 : jtCode 50005 = cJ9_coder := rfl
theorem E50005_0 (d : Nat) (a0 : Nat) (h : AH) : G d 50005 0 [.ref a0] [] h = if (1 : Int32) = 0 then (okB 1 (some (.inl (some (.int 1)), h))) else (zpI (jf (jc h (.ref a0)) [50, 150] 1) (fun x1 => okB x1 (some (.inl (some (.int x1)), h))) ()) := by
  refine (g_getsI (x := 1) c50005 dJ9_coder_0 rfl rfl).trans ?_
  refine (g_if_eq (tgt := 13) c50005 dJ9_coder_3 rfl).trans (if_cg ?_ ?_)
  · skip
    refine (g_iconst (x := 1) c50005 dJ9_coder_13 rfl).trans ?_
    exact g_breturn c50005 dJ9_coder_14 rfl
  · skip
    refine (g_aload_n c50005 dJ9_coder_6 rfl).trans ?_
    refine (g_getI c50005 dJ9_coder_7 rfl rfl).trans (rI_cg fun x1 => ?_)
    refine (g_goto (tgt := 14) c50005 dJ9_coder_10 rfl).trans ?_
    exact g_breturn c50005 dJ9_coder_14 rfl
theorem X50005 {d : Nat} {a0 : Nat} (h : AH) (hr : jrecv 50005 [.ref a0] h = true) : M (d + 1) 50005 [.ref a0] h = G d 50005 0 [.ref a0] [] h := M_eq rfl hr rfl
/-! java/lang/String.equals(Ljava/lang/Object;)Z -/
abbrev cJ9_equals : ByteArray := prog_51_method_66_code
def dkwJ9_equals_2 : List UInt8 := [184, 2, 29, 153, 0, 7, 4, 167, 0, 4, 3, 172]
abbrev dktJ9_equals_2 : List UInt8 := dkwJ9_equals_2 ++ []
def dkwJ9_equals_1 : List UInt8 := [153, 0, 14, 42, 180, 0, 15, 44, 180, 0, 15, 160, 0, 21, 42, 180, 0, 9, 44, 180, 0, 9]
abbrev dktJ9_equals_1 : List UInt8 := dkwJ9_equals_1 ++ dktJ9_equals_2
def dkwJ9_equals_0 : List UInt8 := [42, 43, 166, 0, 5, 4, 172, 43, 193, 0, 10, 153, 0, 43, 43, 192, 0, 10, 77, 178, 0, 38]
abbrev dktJ9_equals_0 : List UInt8 := dkwJ9_equals_0 ++ dktJ9_equals_1
theorem dksJ9_equals_0 : cJ9_equals.data.toList.drop 0 = dktJ9_equals_0 := by decide +kernel
theorem dksJ9_equals_1 : cJ9_equals.data.toList.drop 22 = dktJ9_equals_1 := dk_seg dksJ9_equals_0 22 rfl rfl
theorem dksJ9_equals_2 : cJ9_equals.data.toList.drop 44 = dktJ9_equals_2 := dk_seg dksJ9_equals_1 22 rfl rfl
theorem dJ9_equals_0 : decode cJ9_equals 0 = .ok (.aload_n 0, 1) := dk_42 (dk_at dksJ9_equals_0 0 rfl rfl)
theorem dJ9_equals_1 : decode cJ9_equals 1 = .ok (.aload_n 1, 1) := dk_43 (dk_at dksJ9_equals_0 1 rfl rfl)
theorem dJ9_equals_2 : decode cJ9_equals 2 = .ok (.if_acmp .ne 5, 3) := dk_166 0 5 (dk_at dksJ9_equals_0 2 rfl rfl)
theorem dJ9_equals_5 : decode cJ9_equals 5 = .ok (.iconst 1, 1) := dk_4 (dk_at dksJ9_equals_0 5 rfl rfl)
theorem dJ9_equals_6 : decode cJ9_equals 6 = .ok (.ireturn, 1) := dk_172 (dk_at dksJ9_equals_0 6 rfl rfl)
theorem dJ9_equals_7 : decode cJ9_equals 7 = .ok (.aload_n 1, 1) := dk_43 (dk_at dksJ9_equals_0 7 rfl rfl)
theorem dJ9_equals_8 : decode cJ9_equals 8 = .ok (.instanceof 10, 3) := dk_193 0 10 (dk_at dksJ9_equals_0 8 rfl rfl)
theorem dJ9_equals_11 : decode cJ9_equals 11 = .ok (.ifCond .eq 43, 3) := dk_153 0 43 (dk_at dksJ9_equals_0 11 rfl rfl)
theorem dJ9_equals_14 : decode cJ9_equals 14 = .ok (.aload_n 1, 1) := dk_43 (dk_at dksJ9_equals_0 14 rfl rfl)
theorem dJ9_equals_15 : decode cJ9_equals 15 = .ok (.checkcast 10, 3) := dk_192 0 10 (dk_at dksJ9_equals_0 15 rfl rfl)
theorem dJ9_equals_18 : decode cJ9_equals 18 = .ok (.astore_n 2, 1) := dk_77 (dk_at dksJ9_equals_0 18 rfl rfl)
theorem dJ9_equals_19 : decode cJ9_equals 19 = .ok (.getstatic 38, 3) := dk_178 0 38 (dk_at dksJ9_equals_0 19 rfl rfl)
theorem dJ9_equals_22 : decode cJ9_equals 22 = .ok (.ifCond .eq 14, 3) := dk_153 0 14 (dk_at dksJ9_equals_1 0 rfl rfl)
theorem dJ9_equals_25 : decode cJ9_equals 25 = .ok (.aload_n 0, 1) := dk_42 (dk_at dksJ9_equals_1 3 rfl rfl)
theorem dJ9_equals_26 : decode cJ9_equals 26 = .ok (.getfield 15, 3) := dk_180 0 15 (dk_at dksJ9_equals_1 4 rfl rfl)
theorem dJ9_equals_29 : decode cJ9_equals 29 = .ok (.aload_n 2, 1) := dk_44 (dk_at dksJ9_equals_1 7 rfl rfl)
theorem dJ9_equals_30 : decode cJ9_equals 30 = .ok (.getfield 15, 3) := dk_180 0 15 (dk_at dksJ9_equals_1 8 rfl rfl)
theorem dJ9_equals_33 : decode cJ9_equals 33 = .ok (.if_icmp .ne 21, 3) := dk_160 0 21 (dk_at dksJ9_equals_1 11 rfl rfl)
theorem dJ9_equals_36 : decode cJ9_equals 36 = .ok (.aload_n 0, 1) := dk_42 (dk_at dksJ9_equals_1 14 rfl rfl)
theorem dJ9_equals_37 : decode cJ9_equals 37 = .ok (.getfield 9, 3) := dk_180 0 9 (dk_at dksJ9_equals_1 15 rfl rfl)
theorem dJ9_equals_40 : decode cJ9_equals 40 = .ok (.aload_n 2, 1) := dk_44 (dk_at dksJ9_equals_1 18 rfl rfl)
theorem dJ9_equals_41 : decode cJ9_equals 41 = .ok (.getfield 9, 3) := dk_180 0 9 (dk_at dksJ9_equals_1 19 rfl rfl)
theorem dJ9_equals_44 : decode cJ9_equals 44 = .ok (.invokestatic 541, 3) := dk_184 2 29 (dk_at dksJ9_equals_2 0 rfl rfl)
theorem dJ9_equals_47 : decode cJ9_equals 47 = .ok (.ifCond .eq 7, 3) := dk_153 0 7 (dk_at dksJ9_equals_2 3 rfl rfl)
theorem dJ9_equals_50 : decode cJ9_equals 50 = .ok (.iconst 1, 1) := dk_4 (dk_at dksJ9_equals_2 6 rfl rfl)
theorem dJ9_equals_51 : decode cJ9_equals 51 = .ok (.goto 4, 3) := dk_167 0 4 (dk_at dksJ9_equals_2 7 rfl rfl)
theorem dJ9_equals_54 : decode cJ9_equals 54 = .ok (.iconst 0, 1) := dk_3 (dk_at dksJ9_equals_2 10 rfl rfl)
theorem dJ9_equals_55 : decode cJ9_equals 55 = .ok (.ireturn, 1) := dk_172 (dk_at dksJ9_equals_2 11 rfl rfl)
theorem c50008 : jtCode 50008 = cJ9_equals := rfl
theorem E50008_0 (d : Nat) (a0 : Nat) (v1 : Value) (h : AH) : G d 50008 0 [.ref a0, v1, jno] [] h = zkR v1 (zkR v1 (zkR (.ref a0) (if (.ref a0 : Value) = v1 then (some (.inl (some (.int 1)), h)) else (zkR v1 (zqT h v1 [50, 150] [] (fun x1 => if x1 = 0 then (some (.inl (some (.int 0)), h)) else (zkR v1 (zqK h v1 [50, 150] (zkR v1 (if (1 : Int32) = 0 then (zpR (jf (jc h (.ref a0)) [50, 150] 0) (fun r2 => zkR v1 (zpR (jf (jc h v1) [50, 150] 0) (fun r3 => zcI (M d 54007 [r2, r3] h) (fun x4 h5 => if x4 = 0 then (some (.inl (some (.int 0)), h5)) else (some (.inl (some (.int 1)), h5))) ()) ()) ()) ()) else (zpI (jf (jc h (.ref a0)) [50, 150] 1) (fun x6 => zkR v1 (zpI (jf (jc h v1) [50, 150] 1) (fun x7 => if x6 = x7 then (zpR (jf (jc h (.ref a0)) [50, 150] 0) (fun r8 => zkR v1 (zpR (jf (jc h v1) [50, 150] 0) (fun r9 => zcI (M d 54007 [r8, r9] h) (fun x10 h11 => if x10 = 0 then (some (.inl (some (.int 0)), h11)) else (some (.inl (some (.int 1)), h11))) ()) ()) ()) ()) else (some (.inl (some (.int 0)), h))) ()) ()) ())) ()) ()) ())) ()) ())) ()) ()) () := by
  refine (g_aload_n c50008 dJ9_equals_0 rfl).trans ?_
  refine (g_aload_nV c50008 dJ9_equals_1 rfl).trans (ckR_cg ?_)
  refine (g_acmp_ne (tgt := 7) c50008 dJ9_equals_2 rfl).trans (ckR_cg (ckR_cg (if_cg ?_ ?_)))
  · skip
    refine (g_iconst (x := 1) c50008 dJ9_equals_5 rfl).trans ?_
    exact g_zreturn1 c50008 dJ9_equals_6 rfl
  · skip
    refine (g_aload_nV c50008 dJ9_equals_7 rfl).trans (ckR_cg ?_)
    refine (g_inst c50008 dJ9_equals_8 rfl).trans (iK_cg fun x1 => ?_)
    refine (g_if_eq (tgt := 54) c50008 dJ9_equals_11 rfl).trans (if_cg ?_ ?_)
    · skip
      refine (g_iconst (x := 0) c50008 dJ9_equals_54 rfl).trans ?_
      exact g_zreturn0 c50008 dJ9_equals_55 rfl
    · skip
      refine (g_aload_nV c50008 dJ9_equals_14 rfl).trans (ckR_cg ?_)
      refine (g_cast c50008 dJ9_equals_15 rfl).trans (cK_cg ?_)
      refine (g_astore_nV (L' := [.ref a0, v1, v1]) c50008 dJ9_equals_18 rfl rfl).trans (ckR_cg ?_)
      refine (g_getsI (x := 1) c50008 dJ9_equals_19 rfl rfl).trans ?_
      refine (g_if_eq (tgt := 36) c50008 dJ9_equals_22 rfl).trans (if_cg ?_ ?_)
      · skip
        refine (g_aload_n c50008 dJ9_equals_36 rfl).trans ?_
        refine (g_getR c50008 dJ9_equals_37 rfl).trans (rR_cg fun r2 => ?_)
        refine (g_aload_nV c50008 dJ9_equals_40 rfl).trans (ckR_cg ?_)
        refine (g_getR c50008 dJ9_equals_41 rfl).trans (rR_cg fun r3 => ?_)
        refine (g_static (as := [r2, r3]) (rest := []) c50008 dJ9_equals_44 rfl rfl rfl rfl rfl).trans ((jback_I (κx := cX) (fun e h => jthrow_out rfl)).trans (cI_cg fun x4 h5 => ?_))
        refine (g_if_eq (tgt := 54) c50008 dJ9_equals_47 rfl).trans (if_cg ?_ ?_)
        · skip
          refine (g_iconst (x := 0) c50008 dJ9_equals_54 rfl).trans ?_
          exact g_zreturn0 c50008 dJ9_equals_55 rfl
        · skip
          refine (g_iconst (x := 1) c50008 dJ9_equals_50 rfl).trans ?_
          refine (g_goto (tgt := 55) c50008 dJ9_equals_51 rfl).trans ?_
          exact g_zreturn1 c50008 dJ9_equals_55 rfl
      · skip
        refine (g_aload_n c50008 dJ9_equals_25 rfl).trans ?_
        refine (g_getI c50008 dJ9_equals_26 rfl rfl).trans (rI_cg fun x6 => ?_)
        refine (g_aload_nV c50008 dJ9_equals_29 rfl).trans (ckR_cg ?_)
        refine (g_getI c50008 dJ9_equals_30 rfl rfl).trans (rI_cg fun x7 => ?_)
        refine (g_icmp_ne (tgt := 54) c50008 dJ9_equals_33 rfl).trans (if_cg ?_ ?_)
        · skip
          refine (g_aload_n c50008 dJ9_equals_36 rfl).trans ?_
          refine (g_getR c50008 dJ9_equals_37 rfl).trans (rR_cg fun r8 => ?_)
          refine (g_aload_nV c50008 dJ9_equals_40 rfl).trans (ckR_cg ?_)
          refine (g_getR c50008 dJ9_equals_41 rfl).trans (rR_cg fun r9 => ?_)
          refine (g_static (as := [r8, r9]) (rest := []) c50008 dJ9_equals_44 rfl rfl rfl rfl rfl).trans ((jback_I (κx := cX) (fun e h => jthrow_out rfl)).trans (cI_cg fun x10 h11 => ?_))
          refine (g_if_eq (tgt := 54) c50008 dJ9_equals_47 rfl).trans (if_cg ?_ ?_)
          · skip
            refine (g_iconst (x := 0) c50008 dJ9_equals_54 rfl).trans ?_
            exact g_zreturn0 c50008 dJ9_equals_55 rfl
          · skip
            refine (g_iconst (x := 1) c50008 dJ9_equals_50 rfl).trans ?_
            refine (g_goto (tgt := 55) c50008 dJ9_equals_51 rfl).trans ?_
            exact g_zreturn1 c50008 dJ9_equals_55 rfl
        · skip
          refine (g_iconst (x := 0) c50008 dJ9_equals_54 rfl).trans ?_
          exact g_zreturn0 c50008 dJ9_equals_55 rfl
theorem X50008 {d : Nat} {a0 : Nat} {v1 : Value} (h : AH) (hv1 : isR v1 = true) (hr : jrecv 50008 [.ref a0, v1] h = true) : M (d + 1) 50008 [.ref a0, v1] h = G d 50008 0 [.ref a0, v1, jno] [] h := M_eq rfl hr (by simp only [jent, jargL_R hv1, jargL]; rfl)
/-! java/lang/String.getBytes([BIB)V -/
abbrev cJ9_getBytes : ByteArray := prog_51_method_147_code
def dkwJ9_getBytes_1 : List UInt8 := [184, 0, 212, 167, 0, 18, 42, 180, 0, 9, 3, 43, 28, 42, 180, 0, 9, 190, 184, 0, 106, 177]
abbrev dktJ9_getBytes_1 : List UInt8 := dkwJ9_getBytes_1 ++ []
def dkwJ9_getBytes_0 : List UInt8 := [42, 182, 1, 79, 29, 160, 0, 23, 42, 180, 0, 9, 3, 43, 28, 29, 120, 42, 180, 0, 9, 190]
abbrev dktJ9_getBytes_0 : List UInt8 := dkwJ9_getBytes_0 ++ dktJ9_getBytes_1
theorem dksJ9_getBytes_0 : cJ9_getBytes.data.toList.drop 0 = dktJ9_getBytes_0 := by decide +kernel
theorem dksJ9_getBytes_1 : cJ9_getBytes.data.toList.drop 22 = dktJ9_getBytes_1 := dk_seg dksJ9_getBytes_0 22 rfl rfl
theorem dJ9_getBytes_0 : decode cJ9_getBytes 0 = .ok (.aload_n 0, 1) := dk_42 (dk_at dksJ9_getBytes_0 0 rfl rfl)
theorem dJ9_getBytes_1 : decode cJ9_getBytes 1 = .ok (.invokevirtual 335, 3) := dk_182 1 79 (dk_at dksJ9_getBytes_0 1 rfl rfl)
theorem dJ9_getBytes_4 : decode cJ9_getBytes 4 = .ok (.iload_n 3, 1) := dk_29 (dk_at dksJ9_getBytes_0 4 rfl rfl)
theorem dJ9_getBytes_5 : decode cJ9_getBytes 5 = .ok (.if_icmp .ne 23, 3) := dk_160 0 23 (dk_at dksJ9_getBytes_0 5 rfl rfl)
theorem dJ9_getBytes_8 : decode cJ9_getBytes 8 = .ok (.aload_n 0, 1) := dk_42 (dk_at dksJ9_getBytes_0 8 rfl rfl)
theorem dJ9_getBytes_9 : decode cJ9_getBytes 9 = .ok (.getfield 9, 3) := dk_180 0 9 (dk_at dksJ9_getBytes_0 9 rfl rfl)
theorem dJ9_getBytes_12 : decode cJ9_getBytes 12 = .ok (.iconst 0, 1) := dk_3 (dk_at dksJ9_getBytes_0 12 rfl rfl)
theorem dJ9_getBytes_13 : decode cJ9_getBytes 13 = .ok (.aload_n 1, 1) := dk_43 (dk_at dksJ9_getBytes_0 13 rfl rfl)
theorem dJ9_getBytes_14 : decode cJ9_getBytes 14 = .ok (.iload_n 2, 1) := dk_28 (dk_at dksJ9_getBytes_0 14 rfl rfl)
theorem dJ9_getBytes_15 : decode cJ9_getBytes 15 = .ok (.iload_n 3, 1) := dk_29 (dk_at dksJ9_getBytes_0 15 rfl rfl)
theorem dJ9_getBytes_16 : decode cJ9_getBytes 16 = .ok (.ishl, 1) := dk_120 (dk_at dksJ9_getBytes_0 16 rfl rfl)
theorem dJ9_getBytes_17 : decode cJ9_getBytes 17 = .ok (.aload_n 0, 1) := dk_42 (dk_at dksJ9_getBytes_0 17 rfl rfl)
theorem dJ9_getBytes_18 : decode cJ9_getBytes 18 = .ok (.getfield 9, 3) := dk_180 0 9 (dk_at dksJ9_getBytes_0 18 rfl rfl)
theorem dJ9_getBytes_21 : decode cJ9_getBytes 21 = .ok (.arraylength, 1) := dk_190 (dk_at dksJ9_getBytes_0 21 rfl rfl)
theorem dJ9_getBytes_22 : decode cJ9_getBytes 22 = .ok (.invokestatic 212, 3) := dk_184 0 212 (dk_at dksJ9_getBytes_1 0 rfl rfl)
theorem dJ9_getBytes_25 : decode cJ9_getBytes 25 = .ok (.goto 18, 3) := dk_167 0 18 (dk_at dksJ9_getBytes_1 3 rfl rfl)
theorem dJ9_getBytes_28 : decode cJ9_getBytes 28 = .ok (.aload_n 0, 1) := dk_42 (dk_at dksJ9_getBytes_1 6 rfl rfl)
theorem dJ9_getBytes_29 : decode cJ9_getBytes 29 = .ok (.getfield 9, 3) := dk_180 0 9 (dk_at dksJ9_getBytes_1 7 rfl rfl)
theorem dJ9_getBytes_32 : decode cJ9_getBytes 32 = .ok (.iconst 0, 1) := dk_3 (dk_at dksJ9_getBytes_1 10 rfl rfl)
theorem dJ9_getBytes_33 : decode cJ9_getBytes 33 = .ok (.aload_n 1, 1) := dk_43 (dk_at dksJ9_getBytes_1 11 rfl rfl)
theorem dJ9_getBytes_34 : decode cJ9_getBytes 34 = .ok (.iload_n 2, 1) := dk_28 (dk_at dksJ9_getBytes_1 12 rfl rfl)
theorem dJ9_getBytes_35 : decode cJ9_getBytes 35 = .ok (.aload_n 0, 1) := dk_42 (dk_at dksJ9_getBytes_1 13 rfl rfl)
theorem dJ9_getBytes_36 : decode cJ9_getBytes 36 = .ok (.getfield 9, 3) := dk_180 0 9 (dk_at dksJ9_getBytes_1 14 rfl rfl)
theorem dJ9_getBytes_39 : decode cJ9_getBytes 39 = .ok (.arraylength, 1) := dk_190 (dk_at dksJ9_getBytes_1 17 rfl rfl)
theorem dJ9_getBytes_40 : decode cJ9_getBytes 40 = .ok (.invokestatic 106, 3) := dk_184 0 106 (dk_at dksJ9_getBytes_1 18 rfl rfl)
theorem dJ9_getBytes_43 : decode cJ9_getBytes 43 = .ok (.return_, 1) := dk_177 (dk_at dksJ9_getBytes_1 21 rfl rfl)
theorem c50009 : jtCode 50009 = cJ9_getBytes := rfl
theorem E50009_0 (d : Nat) (a0 : Nat) (v1 : Value) (i2 : Int32) (i3 : Int32) (h : AH) : G d 50009 0 [.ref a0, v1, .int i2, .int i3] [] h = zcI (M d 50005 [.ref a0] h) (fun x1 h2 => if x1 = i3 then (zpR (jf (jc h2 (.ref a0)) [50, 150] 0) (fun r3 => zkR v1 (zpR (jf (jc h2 (.ref a0)) [50, 150] 0) (fun r4 => zqL h2 r4 (fun x5 => zcV (M d 90001 [r3, .int 0, v1, .int (i2 <<< (i3 &&& 31)), .int x5] h2) (fun h7 => some (.inl none, h7)) ()) ()) ()) ()) ()) else (zpR (jf (jc h2 (.ref a0)) [50, 150] 0) (fun r8 => zkR v1 (zpR (jf (jc h2 (.ref a0)) [50, 150] 0) (fun r9 => zqL h2 r9 (fun x10 => zcV (M d 54011 [r8, .int 0, v1, .int i2, .int x10] h2) (fun h12 => some (.inl none, h12)) ()) ()) ()) ()) ())) () := by
  refine (g_aload_n c50009 dJ9_getBytes_0 rfl).trans ?_
  refine (g_virtual (as := [.ref a0]) (rest := []) c50009 dJ9_getBytes_1 rfl rfl rfl rfl rfl).trans ((jback_I (κx := cX) (fun e h => jthrow_out rfl)).trans (cI_cg fun x1 h2 => ?_))
  refine (g_iload_n c50009 dJ9_getBytes_4 rfl).trans ?_
  refine (g_icmp_ne (tgt := 28) c50009 dJ9_getBytes_5 rfl).trans (if_cg ?_ ?_)
  · skip
    refine (g_aload_n c50009 dJ9_getBytes_8 rfl).trans ?_
    refine (g_getR c50009 dJ9_getBytes_9 rfl).trans (rR_cg fun r3 => ?_)
    refine (g_iconst (x := 0) c50009 dJ9_getBytes_12 rfl).trans ?_
    refine (g_aload_nV c50009 dJ9_getBytes_13 rfl).trans (ckR_cg ?_)
    refine (g_iload_n c50009 dJ9_getBytes_14 rfl).trans ?_
    refine (g_iload_n c50009 dJ9_getBytes_15 rfl).trans ?_
    refine (g_ishl c50009 dJ9_getBytes_16).trans ?_
    refine (g_aload_n c50009 dJ9_getBytes_17 rfl).trans ?_
    refine (g_getR c50009 dJ9_getBytes_18 rfl).trans (rR_cg fun r4 => ?_)
    refine (g_alen c50009 dJ9_getBytes_21).trans (aL_cg fun x5 => ?_)
    refine (g_static (as := [r3, .int 0, v1, .int (i2 <<< (i3 &&& 31)), .int x5]) (rest := []) c50009 dJ9_getBytes_22 rfl rfl rfl rfl rfl).trans ((jback_V (κx := cX) (fun e h => jthrow_out rfl)).trans (cV_cg fun h7 => ?_))
    refine (g_goto (tgt := 43) c50009 dJ9_getBytes_25 rfl).trans ?_
    exact g_return c50009 dJ9_getBytes_43 rfl
  · skip
    refine (g_aload_n c50009 dJ9_getBytes_28 rfl).trans ?_
    refine (g_getR c50009 dJ9_getBytes_29 rfl).trans (rR_cg fun r8 => ?_)
    refine (g_iconst (x := 0) c50009 dJ9_getBytes_32 rfl).trans ?_
    refine (g_aload_nV c50009 dJ9_getBytes_33 rfl).trans (ckR_cg ?_)
    refine (g_iload_n c50009 dJ9_getBytes_34 rfl).trans ?_
    refine (g_aload_n c50009 dJ9_getBytes_35 rfl).trans ?_
    refine (g_getR c50009 dJ9_getBytes_36 rfl).trans (rR_cg fun r9 => ?_)
    refine (g_alen c50009 dJ9_getBytes_39).trans (aL_cg fun x10 => ?_)
    refine (g_static (as := [r8, .int 0, v1, .int i2, .int x10]) (rest := []) c50009 dJ9_getBytes_40 rfl rfl rfl rfl rfl).trans ((jback_V (κx := cX) (fun e h => jthrow_out rfl)).trans (cV_cg fun h12 => ?_))
    exact g_return c50009 dJ9_getBytes_43 rfl
theorem X50009 {d : Nat} {a0 : Nat} {v1 : Value} {i2 : Int32} {i3 : Int32} (h : AH) (hv1 : isR v1 = true) (hr : jrecv 50009 [.ref a0, v1, .int i2, .int i3] h = true) : M (d + 1) 50009 [.ref a0, v1, .int i2, .int i3] h = G d 50009 0 [.ref a0, v1, .int i2, .int i3] [] h := M_eq rfl hr (by simp only [jent, jargL_R hv1, jargL]; rfl)
/-! java/lang/String.length()I -/
abbrev cJ9_length : ByteArray := prog_51_method_54_code
def dkwJ9_length_0 : List UInt8 := [42, 180, 0, 9, 190, 42, 182, 1, 79, 122, 172]
abbrev dktJ9_length_0 : List UInt8 := dkwJ9_length_0 ++ []
theorem dksJ9_length_0 : cJ9_length.data.toList.drop 0 = dktJ9_length_0 := by decide +kernel
theorem dJ9_length_0 : decode cJ9_length 0 = .ok (.aload_n 0, 1) := dk_42 (dk_at dksJ9_length_0 0 rfl rfl)
theorem dJ9_length_1 : decode cJ9_length 1 = .ok (.getfield 9, 3) := dk_180 0 9 (dk_at dksJ9_length_0 1 rfl rfl)
theorem dJ9_length_4 : decode cJ9_length 4 = .ok (.arraylength, 1) := dk_190 (dk_at dksJ9_length_0 4 rfl rfl)
theorem dJ9_length_5 : decode cJ9_length 5 = .ok (.aload_n 0, 1) := dk_42 (dk_at dksJ9_length_0 5 rfl rfl)
theorem dJ9_length_6 : decode cJ9_length 6 = .ok (.invokevirtual 335, 3) := dk_182 1 79 (dk_at dksJ9_length_0 6 rfl rfl)
theorem dJ9_length_9 : decode cJ9_length 9 = .ok (.ishr, 1) := dk_122 (dk_at dksJ9_length_0 9 rfl rfl)
theorem dJ9_length_10 : decode cJ9_length 10 = .ok (.ireturn, 1) := dk_172 (dk_at dksJ9_length_0 10 rfl rfl)
theorem c50012 : jtCode 50012 = cJ9_length := rfl
theorem E50012_0 (d : Nat) (a0 : Nat) (h : AH) : G d 50012 0 [.ref a0] [] h = zpR (jf (jc h (.ref a0)) [50, 150] 0) (fun r1 => zqL h r1 (fun x2 => zcI (M d 50005 [.ref a0] h) (fun x3 h4 => some (.inl (some (.int (x2 >>> (x3 &&& 31)))), h4)) ()) ()) () := by
  refine (g_aload_n c50012 dJ9_length_0 rfl).trans ?_
  refine (g_getR c50012 dJ9_length_1 rfl).trans (rR_cg fun r1 => ?_)
  refine (g_alen c50012 dJ9_length_4).trans (aL_cg fun x2 => ?_)
  refine (g_aload_n c50012 dJ9_length_5 rfl).trans ?_
  refine (g_virtual (as := [.ref a0]) (rest := [.int x2]) c50012 dJ9_length_6 rfl rfl rfl rfl rfl).trans ((jback_I (κx := cX) (fun e h => jthrow_out rfl)).trans (cI_cg fun x3 h4 => ?_))
  refine (g_ishr c50012 dJ9_length_9).trans ?_
  exact g_ireturn c50012 dJ9_length_10 rfl
theorem X50012 {d : Nat} {a0 : Nat} (h : AH) (hr : jrecv 50012 [.ref a0] h = true) : M (d + 1) 50012 [.ref a0] h = G d 50012 0 [.ref a0] [] h := M_eq rfl hr rfl
/-! java/lang/String.<init>(Ljava/lang/StringBuilder;)V -/
abbrev cJ9_init : ByteArray := prog_51_method_53_code
def dkwJ9_init_0 : List UInt8 := [42, 43, 1, 183, 1, 233, 177]
abbrev dktJ9_init_0 : List UInt8 := dkwJ9_init_0 ++ []
theorem dksJ9_init_0 : cJ9_init.data.toList.drop 0 = dktJ9_init_0 := by decide +kernel
theorem dJ9_init_0 : decode cJ9_init 0 = .ok (.aload_n 0, 1) := dk_42 (dk_at dksJ9_init_0 0 rfl rfl)
theorem dJ9_init_1 : decode cJ9_init 1 = .ok (.aload_n 1, 1) := dk_43 (dk_at dksJ9_init_0 1 rfl rfl)
theorem dJ9_init_2 : decode cJ9_init 2 = .ok (.aconst_null, 1) := dk_1 (dk_at dksJ9_init_0 2 rfl rfl)
theorem dJ9_init_3 : decode cJ9_init 3 = .ok (.invokespecial 489, 3) := dk_183 1 233 (dk_at dksJ9_init_0 3 rfl rfl)
theorem dJ9_init_6 : decode cJ9_init 6 = .ok (.return_, 1) := dk_177 (dk_at dksJ9_init_0 6 rfl rfl)
theorem c50900 : jtCode 50900 = cJ9_init := rfl
theorem E50900_0 (d : Nat) (a0 : Nat) (v1 : Value) (h : AH) : G d 50900 0 [.ref a0, v1] [] h = zkR v1 (zcV (M d 50901 [.ref a0, v1, .null] h) (fun h2 => some (.inl none, h2)) ()) () := by
  refine (g_aload_n c50900 dJ9_init_0 rfl).trans ?_
  refine (g_aload_nV c50900 dJ9_init_1 rfl).trans (ckR_cg ?_)
  refine (g_aconst_null c50900 dJ9_init_2).trans ?_
  refine (g_special (as := [.ref a0, v1, .null]) (rest := []) c50900 dJ9_init_3 rfl rfl rfl rfl rfl).trans ((jback_V (κx := cX) (fun e h => jthrow_out rfl)).trans (cV_cg fun h2 => ?_))
  exact g_return c50900 dJ9_init_6 rfl
theorem X50900 {d : Nat} {a0 : Nat} {v1 : Value} (h : AH) (hv1 : isR v1 = true) (hr : jrecv 50900 [.ref a0, v1] h = true) : M (d + 1) 50900 [.ref a0, v1] h = G d 50900 0 [.ref a0, v1] [] h := M_eq rfl hr (by simp only [jent, jargL_R hv1, jargL]; rfl)
/-! java/lang/String.<init>(Ljava/lang/AbstractStringBuilder;Ljava/lang/Void;)V -/
abbrev cJ9_init_2 : ByteArray := prog_51_method_150_code
def dkwJ9_init_2_4 : List UInt8 := [181, 0, 9, 177]
abbrev dktJ9_init_2_4 : List UInt8 := dkwJ9_init_2_4 ++ []
def dkwJ9_init_2_3 : List UInt8 := [184, 0, 47, 181, 0, 15, 177, 42, 4, 181, 0, 15, 42, 45, 3, 21, 4, 4, 120, 184, 0, 54]
abbrev dktJ9_init_2_3 : List UInt8 := dkwJ9_init_2_3 ++ dktJ9_init_2_4
def dkwJ9_init_2_2 : List UInt8 := [180, 4, 24, 153, 0, 28, 42, 45, 3, 21, 4, 184, 4, 27, 181, 0, 9, 42, 42, 180, 0, 9, 21, 4]
abbrev dktJ9_init_2_2 : List UInt8 := dkwJ9_init_2_2 ++ dktJ9_init_2_3
def dkwJ9_init_2_1 : List UInt8 := [181, 0, 15, 42, 45, 3, 21, 4, 184, 0, 54, 181, 0, 9, 167, 0, 59, 178, 0, 38, 153, 0, 35, 43]
abbrev dktJ9_init_2_1 : List UInt8 := dkwJ9_init_2_1 ++ dktJ9_init_2_2
def dkwJ9_init_2_0 : List UInt8 := [42, 183, 0, 1, 43, 182, 2, 40, 78, 43, 182, 2, 37, 54, 4, 43, 182, 4, 23, 153, 0, 22, 42, 3]
abbrev dktJ9_init_2_0 : List UInt8 := dkwJ9_init_2_0 ++ dktJ9_init_2_1
theorem dksJ9_init_2_0 : cJ9_init_2.data.toList.drop 0 = dktJ9_init_2_0 := by decide +kernel
theorem dksJ9_init_2_1 : cJ9_init_2.data.toList.drop 24 = dktJ9_init_2_1 := dk_seg dksJ9_init_2_0 24 rfl rfl
theorem dksJ9_init_2_2 : cJ9_init_2.data.toList.drop 48 = dktJ9_init_2_2 := dk_seg dksJ9_init_2_1 24 rfl rfl
theorem dksJ9_init_2_3 : cJ9_init_2.data.toList.drop 72 = dktJ9_init_2_3 := dk_seg dksJ9_init_2_2 24 rfl rfl
theorem dksJ9_init_2_4 : cJ9_init_2.data.toList.drop 94 = dktJ9_init_2_4 := dk_seg dksJ9_init_2_3 22 rfl rfl
theorem dJ9_init_2_0 : decode cJ9_init_2 0 = .ok (.aload_n 0, 1) := dk_42 (dk_at dksJ9_init_2_0 0 rfl rfl)
theorem dJ9_init_2_1 : decode cJ9_init_2 1 = .ok (.invokespecial 1, 3) := dk_183 0 1 (dk_at dksJ9_init_2_0 1 rfl rfl)
theorem dJ9_init_2_4 : decode cJ9_init_2 4 = .ok (.aload_n 1, 1) := dk_43 (dk_at dksJ9_init_2_0 4 rfl rfl)
theorem dJ9_init_2_5 : decode cJ9_init_2 5 = .ok (.invokevirtual 552, 3) := dk_182 2 40 (dk_at dksJ9_init_2_0 5 rfl rfl)
theorem dJ9_init_2_8 : decode cJ9_init_2 8 = .ok (.astore_n 3, 1) := dk_78 (dk_at dksJ9_init_2_0 8 rfl rfl)
theorem dJ9_init_2_9 : decode cJ9_init_2 9 = .ok (.aload_n 1, 1) := dk_43 (dk_at dksJ9_init_2_0 9 rfl rfl)
theorem dJ9_init_2_10 : decode cJ9_init_2 10 = .ok (.invokevirtual 549, 3) := dk_182 2 37 (dk_at dksJ9_init_2_0 10 rfl rfl)
theorem dJ9_init_2_13 : decode cJ9_init_2 13 = .ok (.istore 4, 2) := dk_54 4 (dk_at dksJ9_init_2_0 13 rfl rfl)
theorem dJ9_init_2_15 : decode cJ9_init_2 15 = .ok (.aload_n 1, 1) := dk_43 (dk_at dksJ9_init_2_0 15 rfl rfl)
theorem dJ9_init_2_16 : decode cJ9_init_2 16 = .ok (.invokevirtual 1047, 3) := dk_182 4 23 (dk_at dksJ9_init_2_0 16 rfl rfl)
theorem dJ9_init_2_19 : decode cJ9_init_2 19 = .ok (.ifCond .eq 22, 3) := dk_153 0 22 (dk_at dksJ9_init_2_0 19 rfl rfl)
theorem dJ9_init_2_22 : decode cJ9_init_2 22 = .ok (.aload_n 0, 1) := dk_42 (dk_at dksJ9_init_2_0 22 rfl rfl)
theorem dJ9_init_2_23 : decode cJ9_init_2 23 = .ok (.iconst 0, 1) := dk_3 (dk_at dksJ9_init_2_0 23 rfl rfl)
theorem dJ9_init_2_24 : decode cJ9_init_2 24 = .ok (.putfield 15, 3) := dk_181 0 15 (dk_at dksJ9_init_2_1 0 rfl rfl)
theorem dJ9_init_2_27 : decode cJ9_init_2 27 = .ok (.aload_n 0, 1) := dk_42 (dk_at dksJ9_init_2_1 3 rfl rfl)
theorem dJ9_init_2_28 : decode cJ9_init_2 28 = .ok (.aload_n 3, 1) := dk_45 (dk_at dksJ9_init_2_1 4 rfl rfl)
theorem dJ9_init_2_29 : decode cJ9_init_2 29 = .ok (.iconst 0, 1) := dk_3 (dk_at dksJ9_init_2_1 5 rfl rfl)
theorem dJ9_init_2_30 : decode cJ9_init_2 30 = .ok (.iload 4, 2) := dk_21 4 (dk_at dksJ9_init_2_1 6 rfl rfl)
theorem dJ9_init_2_32 : decode cJ9_init_2 32 = .ok (.invokestatic 54, 3) := dk_184 0 54 (dk_at dksJ9_init_2_1 8 rfl rfl)
theorem dJ9_init_2_35 : decode cJ9_init_2 35 = .ok (.putfield 9, 3) := dk_181 0 9 (dk_at dksJ9_init_2_1 11 rfl rfl)
theorem dJ9_init_2_38 : decode cJ9_init_2 38 = .ok (.goto 59, 3) := dk_167 0 59 (dk_at dksJ9_init_2_1 14 rfl rfl)
theorem dJ9_init_2_41 : decode cJ9_init_2 41 = .ok (.getstatic 38, 3) := dk_178 0 38 (dk_at dksJ9_init_2_1 17 rfl rfl)
theorem dJ9_init_2_44 : decode cJ9_init_2 44 = .ok (.ifCond .eq 35, 3) := dk_153 0 35 (dk_at dksJ9_init_2_1 20 rfl rfl)
theorem dJ9_init_2_47 : decode cJ9_init_2 47 = .ok (.aload_n 1, 1) := dk_43 (dk_at dksJ9_init_2_1 23 rfl rfl)
theorem dJ9_init_2_48 : decode cJ9_init_2 48 = .ok (.getfield 1048, 3) := dk_180 4 24 (dk_at dksJ9_init_2_2 0 rfl rfl)
theorem dJ9_init_2_51 : decode cJ9_init_2 51 = .ok (.ifCond .eq 28, 3) := dk_153 0 28 (dk_at dksJ9_init_2_2 3 rfl rfl)
theorem dJ9_init_2_54 : decode cJ9_init_2 54 = .ok (.aload_n 0, 1) := dk_42 (dk_at dksJ9_init_2_2 6 rfl rfl)
theorem dJ9_init_2_55 : decode cJ9_init_2 55 = .ok (.aload_n 3, 1) := dk_45 (dk_at dksJ9_init_2_2 7 rfl rfl)
theorem dJ9_init_2_56 : decode cJ9_init_2 56 = .ok (.iconst 0, 1) := dk_3 (dk_at dksJ9_init_2_2 8 rfl rfl)
theorem dJ9_init_2_57 : decode cJ9_init_2 57 = .ok (.iload 4, 2) := dk_21 4 (dk_at dksJ9_init_2_2 9 rfl rfl)
theorem dJ9_init_2_59 : decode cJ9_init_2 59 = .ok (.invokestatic 1051, 3) := dk_184 4 27 (dk_at dksJ9_init_2_2 11 rfl rfl)
theorem dJ9_init_2_62 : decode cJ9_init_2 62 = .ok (.putfield 9, 3) := dk_181 0 9 (dk_at dksJ9_init_2_2 14 rfl rfl)
theorem dJ9_init_2_65 : decode cJ9_init_2 65 = .ok (.aload_n 0, 1) := dk_42 (dk_at dksJ9_init_2_2 17 rfl rfl)
theorem dJ9_init_2_66 : decode cJ9_init_2 66 = .ok (.aload_n 0, 1) := dk_42 (dk_at dksJ9_init_2_2 18 rfl rfl)
theorem dJ9_init_2_67 : decode cJ9_init_2 67 = .ok (.getfield 9, 3) := dk_180 0 9 (dk_at dksJ9_init_2_2 19 rfl rfl)
theorem dJ9_init_2_70 : decode cJ9_init_2 70 = .ok (.iload 4, 2) := dk_21 4 (dk_at dksJ9_init_2_2 22 rfl rfl)
theorem dJ9_init_2_72 : decode cJ9_init_2 72 = .ok (.invokestatic 47, 3) := dk_184 0 47 (dk_at dksJ9_init_2_3 0 rfl rfl)
theorem dJ9_init_2_75 : decode cJ9_init_2 75 = .ok (.putfield 15, 3) := dk_181 0 15 (dk_at dksJ9_init_2_3 3 rfl rfl)
theorem dJ9_init_2_78 : decode cJ9_init_2 78 = .ok (.return_, 1) := dk_177 (dk_at dksJ9_init_2_3 6 rfl rfl)
theorem dJ9_init_2_79 : decode cJ9_init_2 79 = .ok (.aload_n 0, 1) := dk_42 (dk_at dksJ9_init_2_3 7 rfl rfl)
theorem dJ9_init_2_80 : decode cJ9_init_2 80 = .ok (.iconst 1, 1) := dk_4 (dk_at dksJ9_init_2_3 8 rfl rfl)
theorem dJ9_init_2_81 : decode cJ9_init_2 81 = .ok (.putfield 15, 3) := dk_181 0 15 (dk_at dksJ9_init_2_3 9 rfl rfl)
theorem dJ9_init_2_84 : decode cJ9_init_2 84 = .ok (.aload_n 0, 1) := dk_42 (dk_at dksJ9_init_2_3 12 rfl rfl)
theorem dJ9_init_2_85 : decode cJ9_init_2 85 = .ok (.aload_n 3, 1) := dk_45 (dk_at dksJ9_init_2_3 13 rfl rfl)
theorem dJ9_init_2_86 : decode cJ9_init_2 86 = .ok (.iconst 0, 1) := dk_3 (dk_at dksJ9_init_2_3 14 rfl rfl)
theorem dJ9_init_2_87 : decode cJ9_init_2 87 = .ok (.iload 4, 2) := dk_21 4 (dk_at dksJ9_init_2_3 15 rfl rfl)
theorem dJ9_init_2_89 : decode cJ9_init_2 89 = .ok (.iconst 1, 1) := dk_4 (dk_at dksJ9_init_2_3 17 rfl rfl)
theorem dJ9_init_2_90 : decode cJ9_init_2 90 = .ok (.ishl, 1) := dk_120 (dk_at dksJ9_init_2_3 18 rfl rfl)
theorem dJ9_init_2_91 : decode cJ9_init_2 91 = .ok (.invokestatic 54, 3) := dk_184 0 54 (dk_at dksJ9_init_2_3 19 rfl rfl)
theorem dJ9_init_2_94 : decode cJ9_init_2 94 = .ok (.putfield 9, 3) := dk_181 0 9 (dk_at dksJ9_init_2_4 0 rfl rfl)
theorem dJ9_init_2_97 : decode cJ9_init_2 97 = .ok (.return_, 1) := dk_177 (dk_at dksJ9_init_2_4 3 rfl rfl)
theorem c50901 : jtCode 50901 = cJ9_init_2 := rfl
theorem E50901_0 (d : Nat) (a0 : Nat) (v1 : Value) (v2 : Value) (h : AH) : G d 50901 0 [.ref a0, v1, v2, jno, jno] [] h = zcV (M d 90000 [.ref a0] h) (fun h2 => zkR v1 (zcR (M d 48006 [v1] h2) (fun r3 h4 => zkR r3 (zkR v1 (zcI (M d 49006 [v1] h4) (fun x5 h6 => zkR v1 (zcI (M d 48009 [v1] h6) (fun x7 h8 => if x7 = 0 then (if (1 : Int32) = 0 then (zqF h8 (.ref a0) [50, 150] 1 4 (.int 1) (fun h9 => zkR r3 (zcR (M d 45002 [r3, .int 0, .int (x5 <<< ((1 : Int32) &&& 31))] h9) (fun r10 h11 => zqF h11 (.ref a0) [50, 150] 0 2 r10 (fun h12 => some (.inl none, h12)) ()) ()) ()) ()) else (zkR v1 (zpI (jf (jc h8 v1) [49] 2) (fun x13 => if x13 = 0 then (zqF h8 (.ref a0) [50, 150] 1 4 (.int 1) (fun h14 => zkR r3 (zcR (M d 45002 [r3, .int 0, .int (x5 <<< ((1 : Int32) &&& 31))] h14) (fun r15 h16 => zqF h16 (.ref a0) [50, 150] 0 2 r15 (fun h17 => some (.inl none, h17)) ()) ()) ()) ()) else (zkR r3 (zcR (M d 51011 [r3, .int 0, .int x5] h8) (fun r18 h19 => zqF h19 (.ref a0) [50, 150] 0 2 r18 (fun h20 => zpR (jf (jc h20 (.ref a0)) [50, 150] 0) (fun r21 => zcI (M d 51005 [r21, .int x5] h20) (fun x22 h23 => zqF h23 (.ref a0) [50, 150] 1 4 (.int x22) (fun h24 => some (.inl none, h24)) ()) ()) ()) ()) ()) ())) ()) ())) else (zqF h8 (.ref a0) [50, 150] 1 4 (.int 0) (fun h25 => zkR r3 (zcR (M d 45002 [r3, .int 0, .int x5] h25) (fun r26 h27 => zqF h27 (.ref a0) [50, 150] 0 2 r26 (fun h28 => some (.inl none, h28)) ()) ()) ()) ())) ()) ()) ()) ()) ()) ()) ()) () := by
  refine (g_aload_n c50901 dJ9_init_2_0 rfl).trans ?_
  refine (g_special (as := [.ref a0]) (rest := []) c50901 dJ9_init_2_1 rfl rfl rfl rfl rfl).trans ((jback_V (κx := cX) (fun e h => jthrow_out rfl)).trans (cV_cg fun h2 => ?_))
  refine (g_aload_nV c50901 dJ9_init_2_4 rfl).trans (ckR_cg ?_)
  refine (g_virtual (as := [v1]) (rest := []) c50901 dJ9_init_2_5 rfl rfl rfl rfl rfl).trans ((jback_R (κx := cX) (fun e h => jthrow_out rfl)).trans (cR_cg fun r3 h4 => ?_))
  refine (g_astore_nV (L' := [.ref a0, v1, v2, r3, jno]) c50901 dJ9_init_2_8 rfl rfl).trans (ckR_cg ?_)
  refine (g_aload_nV c50901 dJ9_init_2_9 rfl).trans (ckR_cg ?_)
  refine (g_virtual (as := [v1]) (rest := []) c50901 dJ9_init_2_10 rfl rfl rfl rfl rfl).trans ((jback_I (κx := cX) (fun e h => jthrow_out rfl)).trans (cI_cg fun x5 h6 => ?_))
  refine (g_istore (L' := [.ref a0, v1, v2, r3, .int x5]) c50901 dJ9_init_2_13 rfl rfl).trans ?_
  refine (g_aload_nV c50901 dJ9_init_2_15 rfl).trans (ckR_cg ?_)
  refine (g_virtual (as := [v1]) (rest := []) c50901 dJ9_init_2_16 rfl rfl rfl rfl rfl).trans ((jback_I (κx := cX) (fun e h => jthrow_out rfl)).trans (cI_cg fun x7 h8 => ?_))
  refine (g_if_eq (tgt := 41) c50901 dJ9_init_2_19 rfl).trans (if_cg ?_ ?_)
  · skip
    refine (g_getsI (x := 1) c50901 dJ9_init_2_41 rfl rfl).trans ?_
    refine (g_if_eq (tgt := 79) c50901 dJ9_init_2_44 rfl).trans (if_cg ?_ ?_)
    · skip
      refine (g_aload_n c50901 dJ9_init_2_79 rfl).trans ?_
      refine (g_iconst (x := 1) c50901 dJ9_init_2_80 rfl).trans ?_
      refine (g_putF c50901 dJ9_init_2_81 rfl rfl).trans (pF_cg fun h9 => ?_)
      refine (g_aload_n c50901 dJ9_init_2_84 rfl).trans ?_
      refine (g_aload_nV c50901 dJ9_init_2_85 rfl).trans (ckR_cg ?_)
      refine (g_iconst (x := 0) c50901 dJ9_init_2_86 rfl).trans ?_
      refine (g_iload c50901 dJ9_init_2_87 rfl).trans ?_
      refine (g_iconst (x := 1) c50901 dJ9_init_2_89 rfl).trans ?_
      refine (g_ishl c50901 dJ9_init_2_90).trans ?_
      refine (g_static (as := [r3, .int 0, .int (x5 <<< ((1 : Int32) &&& 31))]) (rest := [.ref a0]) c50901 dJ9_init_2_91 rfl rfl rfl rfl rfl).trans ((jback_R (κx := cX) (fun e h => jthrow_out rfl)).trans (cR_cg fun r10 h11 => ?_))
      refine (g_putF c50901 dJ9_init_2_94 rfl rfl).trans (pF_cg fun h12 => ?_)
      exact g_return c50901 dJ9_init_2_97 rfl
    · skip
      refine (g_aload_nV c50901 dJ9_init_2_47 rfl).trans (ckR_cg ?_)
      refine (g_getI c50901 dJ9_init_2_48 rfl rfl).trans (rI_cg fun x13 => ?_)
      refine (g_if_eq (tgt := 79) c50901 dJ9_init_2_51 rfl).trans (if_cg ?_ ?_)
      · skip
        refine (g_aload_n c50901 dJ9_init_2_79 rfl).trans ?_
        refine (g_iconst (x := 1) c50901 dJ9_init_2_80 rfl).trans ?_
        refine (g_putF c50901 dJ9_init_2_81 rfl rfl).trans (pF_cg fun h14 => ?_)
        refine (g_aload_n c50901 dJ9_init_2_84 rfl).trans ?_
        refine (g_aload_nV c50901 dJ9_init_2_85 rfl).trans (ckR_cg ?_)
        refine (g_iconst (x := 0) c50901 dJ9_init_2_86 rfl).trans ?_
        refine (g_iload c50901 dJ9_init_2_87 rfl).trans ?_
        refine (g_iconst (x := 1) c50901 dJ9_init_2_89 rfl).trans ?_
        refine (g_ishl c50901 dJ9_init_2_90).trans ?_
        refine (g_static (as := [r3, .int 0, .int (x5 <<< ((1 : Int32) &&& 31))]) (rest := [.ref a0]) c50901 dJ9_init_2_91 rfl rfl rfl rfl rfl).trans ((jback_R (κx := cX) (fun e h => jthrow_out rfl)).trans (cR_cg fun r15 h16 => ?_))
        refine (g_putF c50901 dJ9_init_2_94 rfl rfl).trans (pF_cg fun h17 => ?_)
        exact g_return c50901 dJ9_init_2_97 rfl
      · skip
        refine (g_aload_n c50901 dJ9_init_2_54 rfl).trans ?_
        refine (g_aload_nV c50901 dJ9_init_2_55 rfl).trans (ckR_cg ?_)
        refine (g_iconst (x := 0) c50901 dJ9_init_2_56 rfl).trans ?_
        refine (g_iload c50901 dJ9_init_2_57 rfl).trans ?_
        refine (g_static (as := [r3, .int 0, .int x5]) (rest := [.ref a0]) c50901 dJ9_init_2_59 rfl rfl rfl rfl rfl).trans ((jback_R (κx := cX) (fun e h => jthrow_out rfl)).trans (cR_cg fun r18 h19 => ?_))
        refine (g_putF c50901 dJ9_init_2_62 rfl rfl).trans (pF_cg fun h20 => ?_)
        refine (g_aload_n c50901 dJ9_init_2_65 rfl).trans ?_
        refine (g_aload_n c50901 dJ9_init_2_66 rfl).trans ?_
        refine (g_getR c50901 dJ9_init_2_67 rfl).trans (rR_cg fun r21 => ?_)
        refine (g_iload c50901 dJ9_init_2_70 rfl).trans ?_
        refine (g_static (as := [r21, .int x5]) (rest := [.ref a0]) c50901 dJ9_init_2_72 rfl rfl rfl rfl rfl).trans ((jback_I (κx := cX) (fun e h => jthrow_out rfl)).trans (cI_cg fun x22 h23 => ?_))
        refine (g_putF c50901 dJ9_init_2_75 rfl rfl).trans (pF_cg fun h24 => ?_)
        exact g_return c50901 dJ9_init_2_78 rfl
  · skip
    refine (g_aload_n c50901 dJ9_init_2_22 rfl).trans ?_
    refine (g_iconst (x := 0) c50901 dJ9_init_2_23 rfl).trans ?_
    refine (g_putF c50901 dJ9_init_2_24 rfl rfl).trans (pF_cg fun h25 => ?_)
    refine (g_aload_n c50901 dJ9_init_2_27 rfl).trans ?_
    refine (g_aload_nV c50901 dJ9_init_2_28 rfl).trans (ckR_cg ?_)
    refine (g_iconst (x := 0) c50901 dJ9_init_2_29 rfl).trans ?_
    refine (g_iload c50901 dJ9_init_2_30 rfl).trans ?_
    refine (g_static (as := [r3, .int 0, .int x5]) (rest := [.ref a0]) c50901 dJ9_init_2_32 rfl rfl rfl rfl rfl).trans ((jback_R (κx := cX) (fun e h => jthrow_out rfl)).trans (cR_cg fun r26 h27 => ?_))
    refine (g_putF c50901 dJ9_init_2_35 rfl rfl).trans (pF_cg fun h28 => ?_)
    refine (g_goto (tgt := 97) c50901 dJ9_init_2_38 rfl).trans ?_
    exact g_return c50901 dJ9_init_2_97 rfl
theorem X50901 {d : Nat} {a0 : Nat} {v1 : Value} {v2 : Value} (h : AH) (hv1 : isR v1 = true) (hv2 : isR v2 = true) (hr : jrecv 50901 [.ref a0, v1, v2] h = true) : M (d + 1) 50901 [.ref a0, v1, v2] h = G d 50901 0 [.ref a0, v1, v2, jno, jno] [] h := M_eq rfl hr (by simp only [jent, jargL_R hv1, jargL_R hv2, jargL]; rfl)
/-! java/lang/StringUTF16.checkBoundsBeginEnd(II[B)V -/
abbrev cJ10_checkBoundsBeginEnd : ByteArray := prog_54_method_93_code
def dkwJ10_checkBoundsBeginEnd_0 : List UInt8 := [26, 27, 44, 184, 0, 48, 184, 0, 241, 177]
abbrev dktJ10_checkBoundsBeginEnd_0 : List UInt8 := dkwJ10_checkBoundsBeginEnd_0 ++ []
theorem dksJ10_checkBoundsBeginEnd_0 : cJ10_checkBoundsBeginEnd.data.toList.drop 0 = dktJ10_checkBoundsBeginEnd_0 := by decide +kernel
theorem dJ10_checkBoundsBeginEnd_0 : decode cJ10_checkBoundsBeginEnd 0 = .ok (.iload_n 0, 1) := dk_26 (dk_at dksJ10_checkBoundsBeginEnd_0 0 rfl rfl)
theorem dJ10_checkBoundsBeginEnd_1 : decode cJ10_checkBoundsBeginEnd 1 = .ok (.iload_n 1, 1) := dk_27 (dk_at dksJ10_checkBoundsBeginEnd_0 1 rfl rfl)
theorem dJ10_checkBoundsBeginEnd_2 : decode cJ10_checkBoundsBeginEnd 2 = .ok (.aload_n 2, 1) := dk_44 (dk_at dksJ10_checkBoundsBeginEnd_0 2 rfl rfl)
theorem dJ10_checkBoundsBeginEnd_3 : decode cJ10_checkBoundsBeginEnd 3 = .ok (.invokestatic 48, 3) := dk_184 0 48 (dk_at dksJ10_checkBoundsBeginEnd_0 3 rfl rfl)
theorem dJ10_checkBoundsBeginEnd_6 : decode cJ10_checkBoundsBeginEnd 6 = .ok (.invokestatic 241, 3) := dk_184 0 241 (dk_at dksJ10_checkBoundsBeginEnd_0 6 rfl rfl)
theorem dJ10_checkBoundsBeginEnd_9 : decode cJ10_checkBoundsBeginEnd 9 = .ok (.return_, 1) := dk_177 (dk_at dksJ10_checkBoundsBeginEnd_0 9 rfl rfl)
theorem c51001 : jtCode 51001 = cJ10_checkBoundsBeginEnd := rfl
theorem E51001_0 (d : Nat) (i0 : Int32) (i1 : Int32) (v2 : Value) (h : AH) : G d 51001 0 [.int i0, .int i1, v2] [] h = zkR v2 (zcI (M d 51021 [v2] h) (fun x1 h2 => zcV (M d 50001 [.int i0, .int i1, .int x1] h2) (fun h4 => some (.inl none, h4)) ()) ()) () := by
  refine (g_iload_n c51001 dJ10_checkBoundsBeginEnd_0 rfl).trans ?_
  refine (g_iload_n c51001 dJ10_checkBoundsBeginEnd_1 rfl).trans ?_
  refine (g_aload_nV c51001 dJ10_checkBoundsBeginEnd_2 rfl).trans (ckR_cg ?_)
  refine (g_static (as := [v2]) (rest := [.int i1, .int i0]) c51001 dJ10_checkBoundsBeginEnd_3 rfl rfl rfl rfl rfl).trans ((jback_I (κx := cX) (fun e h => jthrow_out rfl)).trans (cI_cg fun x1 h2 => ?_))
  refine (g_static (as := [.int i0, .int i1, .int x1]) (rest := []) c51001 dJ10_checkBoundsBeginEnd_6 rfl rfl rfl rfl rfl).trans ((jback_V (κx := cX) (fun e h => jthrow_out rfl)).trans (cV_cg fun h4 => ?_))
  exact g_return c51001 dJ10_checkBoundsBeginEnd_9 rfl
theorem X51001 {d : Nat} {i0 : Int32} {i1 : Int32} {v2 : Value} (h : AH) (hv2 : isR v2 = true) : M (d + 1) 51001 [.int i0, .int i1, v2] h = G d 51001 0 [.int i0, .int i1, v2] [] h := M_eq rfl rfl (by simp only [jent, jargL_R hv2, jargL]; rfl)
/-! java/lang/StringUTF16.checkIndex(I[B)V -/
abbrev cJ10_checkIndex : ByteArray := prog_54_method_91_code
def dkwJ10_checkIndex_0 : List UInt8 := [26, 43, 184, 0, 48, 184, 1, 158, 177]
abbrev dktJ10_checkIndex_0 : List UInt8 := dkwJ10_checkIndex_0 ++ []
theorem dksJ10_checkIndex_0 : cJ10_checkIndex.data.toList.drop 0 = dktJ10_checkIndex_0 := by decide +kernel
theorem dJ10_checkIndex_0 : decode cJ10_checkIndex 0 = .ok (.iload_n 0, 1) := dk_26 (dk_at dksJ10_checkIndex_0 0 rfl rfl)
theorem dJ10_checkIndex_1 : decode cJ10_checkIndex 1 = .ok (.aload_n 1, 1) := dk_43 (dk_at dksJ10_checkIndex_0 1 rfl rfl)
theorem dJ10_checkIndex_2 : decode cJ10_checkIndex 2 = .ok (.invokestatic 48, 3) := dk_184 0 48 (dk_at dksJ10_checkIndex_0 2 rfl rfl)
theorem dJ10_checkIndex_5 : decode cJ10_checkIndex 5 = .ok (.invokestatic 414, 3) := dk_184 1 158 (dk_at dksJ10_checkIndex_0 5 rfl rfl)
theorem dJ10_checkIndex_8 : decode cJ10_checkIndex 8 = .ok (.return_, 1) := dk_177 (dk_at dksJ10_checkIndex_0 8 rfl rfl)
theorem c51003 : jtCode 51003 = cJ10_checkIndex := rfl
theorem E51003_0 (d : Nat) (i0 : Int32) (v1 : Value) (h : AH) : G d 51003 0 [.int i0, v1] [] h = zkR v1 (zcI (M d 51021 [v1] h) (fun x1 h2 => zcV (M d 50003 [.int i0, .int x1] h2) (fun h4 => some (.inl none, h4)) ()) ()) () := by
  refine (g_iload_n c51003 dJ10_checkIndex_0 rfl).trans ?_
  refine (g_aload_nV c51003 dJ10_checkIndex_1 rfl).trans (ckR_cg ?_)
  refine (g_static (as := [v1]) (rest := [.int i0]) c51003 dJ10_checkIndex_2 rfl rfl rfl rfl rfl).trans ((jback_I (κx := cX) (fun e h => jthrow_out rfl)).trans (cI_cg fun x1 h2 => ?_))
  refine (g_static (as := [.int i0, .int x1]) (rest := []) c51003 dJ10_checkIndex_5 rfl rfl rfl rfl rfl).trans ((jback_V (κx := cX) (fun e h => jthrow_out rfl)).trans (cV_cg fun h4 => ?_))
  exact g_return c51003 dJ10_checkIndex_8 rfl
theorem X51003 {d : Nat} {i0 : Int32} {v1 : Value} (h : AH) (hv1 : isR v1 = true) : M (d + 1) 51003 [.int i0, v1] h = G d 51003 0 [.int i0, v1] [] h := M_eq rfl rfl (by simp only [jent, jargL_R hv1, jargL]; rfl)
/-! java/lang/StringUTF16.getChars(III[B)I -/
abbrev cJ10_getChars : ByteArray := prog_54_method_77_code
def dkwJ10_getChars_1 : List UInt8 := [159, 0, 11, 187, 0, 52, 89, 183, 0, 66, 191, 21, 4, 172]
abbrev dktJ10_getChars_1 : List UInt8 := dkwJ10_getChars_1 ++ []
def dkwJ10_getChars_0 : List UInt8 := [27, 28, 45, 184, 0, 96, 26, 28, 45, 184, 1, 137, 54, 4, 178, 0, 44, 154, 0, 17, 27, 21, 4]
abbrev dktJ10_getChars_0 : List UInt8 := dkwJ10_getChars_0 ++ dktJ10_getChars_1
theorem dksJ10_getChars_0 : cJ10_getChars.data.toList.drop 0 = dktJ10_getChars_0 := by decide +kernel
theorem dksJ10_getChars_1 : cJ10_getChars.data.toList.drop 23 = dktJ10_getChars_1 := dk_seg dksJ10_getChars_0 23 rfl rfl
theorem dJ10_getChars_0 : decode cJ10_getChars 0 = .ok (.iload_n 1, 1) := dk_27 (dk_at dksJ10_getChars_0 0 rfl rfl)
theorem dJ10_getChars_1 : decode cJ10_getChars 1 = .ok (.iload_n 2, 1) := dk_28 (dk_at dksJ10_getChars_0 1 rfl rfl)
theorem dJ10_getChars_2 : decode cJ10_getChars 2 = .ok (.aload_n 3, 1) := dk_45 (dk_at dksJ10_getChars_0 2 rfl rfl)
theorem dJ10_getChars_3 : decode cJ10_getChars 3 = .ok (.invokestatic 96, 3) := dk_184 0 96 (dk_at dksJ10_getChars_0 3 rfl rfl)
theorem dJ10_getChars_6 : decode cJ10_getChars 6 = .ok (.iload_n 0, 1) := dk_26 (dk_at dksJ10_getChars_0 6 rfl rfl)
theorem dJ10_getChars_7 : decode cJ10_getChars 7 = .ok (.iload_n 2, 1) := dk_28 (dk_at dksJ10_getChars_0 7 rfl rfl)
theorem dJ10_getChars_8 : decode cJ10_getChars 8 = .ok (.aload_n 3, 1) := dk_45 (dk_at dksJ10_getChars_0 8 rfl rfl)
theorem dJ10_getChars_9 : decode cJ10_getChars 9 = .ok (.invokestatic 393, 3) := dk_184 1 137 (dk_at dksJ10_getChars_0 9 rfl rfl)
theorem dJ10_getChars_12 : decode cJ10_getChars 12 = .ok (.istore 4, 2) := dk_54 4 (dk_at dksJ10_getChars_0 12 rfl rfl)
theorem dJ10_getChars_14 : decode cJ10_getChars 14 = .ok (.getstatic 44, 3) := dk_178 0 44 (dk_at dksJ10_getChars_0 14 rfl rfl)
theorem dJ10_getChars_17 : decode cJ10_getChars 17 = .ok (.ifCond .ne 17, 3) := dk_154 0 17 (dk_at dksJ10_getChars_0 17 rfl rfl)
theorem dJ10_getChars_20 : decode cJ10_getChars 20 = .ok (.iload_n 1, 1) := dk_27 (dk_at dksJ10_getChars_0 20 rfl rfl)
theorem dJ10_getChars_21 : decode cJ10_getChars 21 = .ok (.iload 4, 2) := dk_21 4 (dk_at dksJ10_getChars_0 21 rfl rfl)
theorem dJ10_getChars_23 : decode cJ10_getChars 23 = .ok (.if_icmp .eq 11, 3) := dk_159 0 11 (dk_at dksJ10_getChars_1 0 rfl rfl)
theorem dJ10_getChars_26 : decode cJ10_getChars 26 = .ok (.new 52, 3) := dk_187 0 52 (dk_at dksJ10_getChars_1 3 rfl rfl)
theorem dJ10_getChars_29 : decode cJ10_getChars 29 = .ok (.dup, 1) := dk_89 (dk_at dksJ10_getChars_1 6 rfl rfl)
theorem dJ10_getChars_30 : decode cJ10_getChars 30 = .ok (.invokespecial 66, 3) := dk_183 0 66 (dk_at dksJ10_getChars_1 7 rfl rfl)
theorem dJ10_getChars_33 : decode cJ10_getChars 33 = .ok (.athrow, 1) := dk_191 (dk_at dksJ10_getChars_1 10 rfl rfl)
theorem dJ10_getChars_34 : decode cJ10_getChars 34 = .ok (.iload 4, 2) := dk_21 4 (dk_at dksJ10_getChars_1 11 rfl rfl)
theorem dJ10_getChars_36 : decode cJ10_getChars 36 = .ok (.ireturn, 1) := dk_172 (dk_at dksJ10_getChars_1 13 rfl rfl)
theorem c51014 : jtCode 51014 = cJ10_getChars := rfl
theorem E51014_0 (d : Nat) (i0 : Int32) (i1 : Int32) (i2 : Int32) (v3 : Value) (h : AH) : G d 51014 0 [.int i0, .int i1, .int i2, v3, jno] [] h = zkR v3 (zcV (M d 51001 [.int i1, .int i2, v3] h) (fun h2 => zkR v3 (zcI (M d 51015 [.int i0, .int i2, v3] h2) (fun x3 h4 => if (1 : Int32) = 0 then (if i1 = x3 then (some (.inl (some (.int x3)), h4)) else (G d 51014 26 [.int i0, .int i1, .int i2, v3, .int x3] [] h4)) else (some (.inl (some (.int x3)), h4))) ()) ()) ()) () := by
  refine (g_iload_n c51014 dJ10_getChars_0 rfl).trans ?_
  refine (g_iload_n c51014 dJ10_getChars_1 rfl).trans ?_
  refine (g_aload_nV c51014 dJ10_getChars_2 rfl).trans (ckR_cg ?_)
  refine (g_static (as := [.int i1, .int i2, v3]) (rest := []) c51014 dJ10_getChars_3 rfl rfl rfl rfl rfl).trans ((jback_V (κx := cX) (fun e h => jthrow_out rfl)).trans (cV_cg fun h2 => ?_))
  refine (g_iload_n c51014 dJ10_getChars_6 rfl).trans ?_
  refine (g_iload_n c51014 dJ10_getChars_7 rfl).trans ?_
  refine (g_aload_nV c51014 dJ10_getChars_8 rfl).trans (ckR_cg ?_)
  refine (g_static (as := [.int i0, .int i2, v3]) (rest := []) c51014 dJ10_getChars_9 rfl rfl rfl rfl rfl).trans ((jback_I (κx := cX) (fun e h => jthrow_out rfl)).trans (cI_cg fun x3 h4 => ?_))
  refine (g_istore (L' := [.int i0, .int i1, .int i2, v3, .int x3]) c51014 dJ10_getChars_12 rfl rfl).trans ?_
  refine (g_getsI (x := 1) c51014 dJ10_getChars_14 rfl rfl).trans ?_
  refine (g_if_ne (tgt := 34) c51014 dJ10_getChars_17 rfl).trans (if_cg ?_ ?_)
  · skip
    refine (g_iload_n c51014 dJ10_getChars_20 rfl).trans ?_
    refine (g_iload c51014 dJ10_getChars_21 rfl).trans ?_
    refine (g_icmp_eq (tgt := 34) c51014 dJ10_getChars_23 rfl).trans (if_cg ?_ ?_)
    · skip
      refine (g_iload c51014 dJ10_getChars_34 rfl).trans ?_
      exact g_ireturn c51014 dJ10_getChars_36 rfl
    · skip
      rfl
  · skip
    refine (g_iload c51014 dJ10_getChars_34 rfl).trans ?_
    exact g_ireturn c51014 dJ10_getChars_36 rfl
theorem X51014 {d : Nat} {i0 : Int32} {i1 : Int32} {i2 : Int32} {v3 : Value} (h : AH) (hv3 : isR v3 = true) : M (d + 1) 51014 [.int i0, .int i1, .int i2, v3] h = G d 51014 0 [.int i0, .int i1, .int i2, v3, jno] [] h := M_eq rfl rfl (by simp only [jent, jargL_R hv3, jargL]; rfl)
/-! java/lang/StringUTF16.getChars(II[B)I -/
abbrev cJ10_getChars_2 : ByteArray := prog_54_method_89_code
def dkwJ10_getChars_2_5 : List UInt8 := [132, 5, 255, 21, 5, 16, 45, 184, 0, 111, 21, 5, 172]
abbrev dktJ10_getChars_2_5 : List UInt8 := dkwJ10_getChars_2_5 ++ []
def dkwJ10_getChars_2_4 : List UInt8 := [162, 0, 18, 44, 132, 5, 255, 21, 5, 178, 1, 151, 26, 116, 51, 184, 0, 111, 21, 6, 153, 0, 14, 44]
abbrev dktJ10_getChars_2_4 : List UInt8 := dkwJ10_getChars_2_4 ++ dktJ10_getChars_2_5
def dkwJ10_getChars_2_3 : List UInt8 := [184, 0, 111, 167, 255, 205, 44, 132, 5, 255, 21, 5, 178, 1, 147, 26, 116, 51, 184, 0, 111, 26, 16, 247]
abbrev dktJ10_getChars_2_3 : List UInt8 := dkwJ10_getChars_2_3 ++ dktJ10_getChars_2_4
def dkwJ10_getChars_2_2 : List UInt8 := [21, 5, 178, 1, 147, 21, 4, 51, 184, 0, 111, 44, 132, 5, 255, 21, 5, 178, 1, 151, 21, 4, 51]
abbrev dktJ10_getChars_2_2 : List UInt8 := dkwJ10_getChars_2_2 ++ dktJ10_getChars_2_3
def dkwJ10_getChars_2_1 : List UInt8 := [16, 156, 163, 0, 51, 26, 16, 100, 108, 62, 29, 16, 100, 104, 26, 100, 54, 4, 29, 59, 44, 132, 5, 255]
abbrev dktJ10_getChars_2_1 : List UInt8 := dkwJ10_getChars_2_1 ++ dktJ10_getChars_2_2
def dkwJ10_getChars_2_0 : List UInt8 := [27, 54, 5, 26, 156, 0, 7, 4, 167, 0, 4, 3, 54, 6, 21, 6, 154, 0, 6, 26, 116, 59, 26]
abbrev dktJ10_getChars_2_0 : List UInt8 := dkwJ10_getChars_2_0 ++ dktJ10_getChars_2_1
theorem dksJ10_getChars_2_0 : cJ10_getChars_2.data.toList.drop 0 = dktJ10_getChars_2_0 := by decide +kernel
theorem dksJ10_getChars_2_1 : cJ10_getChars_2.data.toList.drop 23 = dktJ10_getChars_2_1 := dk_seg dksJ10_getChars_2_0 23 rfl rfl
theorem dksJ10_getChars_2_2 : cJ10_getChars_2.data.toList.drop 47 = dktJ10_getChars_2_2 := dk_seg dksJ10_getChars_2_1 24 rfl rfl
theorem dksJ10_getChars_2_3 : cJ10_getChars_2.data.toList.drop 70 = dktJ10_getChars_2_3 := dk_seg dksJ10_getChars_2_2 23 rfl rfl
theorem dksJ10_getChars_2_4 : cJ10_getChars_2.data.toList.drop 94 = dktJ10_getChars_2_4 := dk_seg dksJ10_getChars_2_3 24 rfl rfl
theorem dksJ10_getChars_2_5 : cJ10_getChars_2.data.toList.drop 118 = dktJ10_getChars_2_5 := dk_seg dksJ10_getChars_2_4 24 rfl rfl
theorem dJ10_getChars_2_0 : decode cJ10_getChars_2 0 = .ok (.iload_n 1, 1) := dk_27 (dk_at dksJ10_getChars_2_0 0 rfl rfl)
theorem dJ10_getChars_2_1 : decode cJ10_getChars_2 1 = .ok (.istore 5, 2) := dk_54 5 (dk_at dksJ10_getChars_2_0 1 rfl rfl)
theorem dJ10_getChars_2_3 : decode cJ10_getChars_2 3 = .ok (.iload_n 0, 1) := dk_26 (dk_at dksJ10_getChars_2_0 3 rfl rfl)
theorem dJ10_getChars_2_4 : decode cJ10_getChars_2 4 = .ok (.ifCond .ge 7, 3) := dk_156 0 7 (dk_at dksJ10_getChars_2_0 4 rfl rfl)
theorem dJ10_getChars_2_7 : decode cJ10_getChars_2 7 = .ok (.iconst 1, 1) := dk_4 (dk_at dksJ10_getChars_2_0 7 rfl rfl)
theorem dJ10_getChars_2_8 : decode cJ10_getChars_2 8 = .ok (.goto 4, 3) := dk_167 0 4 (dk_at dksJ10_getChars_2_0 8 rfl rfl)
theorem dJ10_getChars_2_11 : decode cJ10_getChars_2 11 = .ok (.iconst 0, 1) := dk_3 (dk_at dksJ10_getChars_2_0 11 rfl rfl)
theorem dJ10_getChars_2_12 : decode cJ10_getChars_2 12 = .ok (.istore 6, 2) := dk_54 6 (dk_at dksJ10_getChars_2_0 12 rfl rfl)
theorem dJ10_getChars_2_14 : decode cJ10_getChars_2 14 = .ok (.iload 6, 2) := dk_21 6 (dk_at dksJ10_getChars_2_0 14 rfl rfl)
theorem dJ10_getChars_2_16 : decode cJ10_getChars_2 16 = .ok (.ifCond .ne 6, 3) := dk_154 0 6 (dk_at dksJ10_getChars_2_0 16 rfl rfl)
theorem dJ10_getChars_2_19 : decode cJ10_getChars_2 19 = .ok (.iload_n 0, 1) := dk_26 (dk_at dksJ10_getChars_2_0 19 rfl rfl)
theorem dJ10_getChars_2_20 : decode cJ10_getChars_2 20 = .ok (.ineg, 1) := dk_116 (dk_at dksJ10_getChars_2_0 20 rfl rfl)
theorem dJ10_getChars_2_21 : decode cJ10_getChars_2 21 = .ok (.istore_n 0, 1) := dk_59 (dk_at dksJ10_getChars_2_0 21 rfl rfl)
theorem dJ10_getChars_2_22 : decode cJ10_getChars_2 22 = .ok (.iload_n 0, 1) := dk_26 (dk_at dksJ10_getChars_2_0 22 rfl rfl)
theorem dJ10_getChars_2_23 : decode cJ10_getChars_2 23 = .ok (.bipush (-100), 2) := dk_16 156 (dk_at dksJ10_getChars_2_1 0 rfl rfl)
theorem dJ10_getChars_2_25 : decode cJ10_getChars_2 25 = .ok (.if_icmp .gt 51, 3) := dk_163 0 51 (dk_at dksJ10_getChars_2_1 2 rfl rfl)
theorem dJ10_getChars_2_28 : decode cJ10_getChars_2 28 = .ok (.iload_n 0, 1) := dk_26 (dk_at dksJ10_getChars_2_1 5 rfl rfl)
theorem dJ10_getChars_2_29 : decode cJ10_getChars_2 29 = .ok (.bipush 100, 2) := dk_16 100 (dk_at dksJ10_getChars_2_1 6 rfl rfl)
theorem dJ10_getChars_2_31 : decode cJ10_getChars_2 31 = .ok (.idiv, 1) := dk_108 (dk_at dksJ10_getChars_2_1 8 rfl rfl)
theorem dJ10_getChars_2_32 : decode cJ10_getChars_2 32 = .ok (.istore_n 3, 1) := dk_62 (dk_at dksJ10_getChars_2_1 9 rfl rfl)
theorem dJ10_getChars_2_33 : decode cJ10_getChars_2 33 = .ok (.iload_n 3, 1) := dk_29 (dk_at dksJ10_getChars_2_1 10 rfl rfl)
theorem dJ10_getChars_2_34 : decode cJ10_getChars_2 34 = .ok (.bipush 100, 2) := dk_16 100 (dk_at dksJ10_getChars_2_1 11 rfl rfl)
theorem dJ10_getChars_2_36 : decode cJ10_getChars_2 36 = .ok (.imul, 1) := dk_104 (dk_at dksJ10_getChars_2_1 13 rfl rfl)
theorem dJ10_getChars_2_37 : decode cJ10_getChars_2 37 = .ok (.iload_n 0, 1) := dk_26 (dk_at dksJ10_getChars_2_1 14 rfl rfl)
theorem dJ10_getChars_2_38 : decode cJ10_getChars_2 38 = .ok (.isub, 1) := dk_100 (dk_at dksJ10_getChars_2_1 15 rfl rfl)
theorem dJ10_getChars_2_39 : decode cJ10_getChars_2 39 = .ok (.istore 4, 2) := dk_54 4 (dk_at dksJ10_getChars_2_1 16 rfl rfl)
theorem dJ10_getChars_2_41 : decode cJ10_getChars_2 41 = .ok (.iload_n 3, 1) := dk_29 (dk_at dksJ10_getChars_2_1 18 rfl rfl)
theorem dJ10_getChars_2_42 : decode cJ10_getChars_2 42 = .ok (.istore_n 0, 1) := dk_59 (dk_at dksJ10_getChars_2_1 19 rfl rfl)
theorem dJ10_getChars_2_43 : decode cJ10_getChars_2 43 = .ok (.aload_n 2, 1) := dk_44 (dk_at dksJ10_getChars_2_1 20 rfl rfl)
theorem dJ10_getChars_2_44 : decode cJ10_getChars_2 44 = .ok (.iinc 5 (-1), 3) := dk_132 5 255 (dk_at dksJ10_getChars_2_1 21 rfl rfl)
theorem dJ10_getChars_2_47 : decode cJ10_getChars_2 47 = .ok (.iload 5, 2) := dk_21 5 (dk_at dksJ10_getChars_2_2 0 rfl rfl)
theorem dJ10_getChars_2_49 : decode cJ10_getChars_2 49 = .ok (.getstatic 403, 3) := dk_178 1 147 (dk_at dksJ10_getChars_2_2 2 rfl rfl)
theorem dJ10_getChars_2_52 : decode cJ10_getChars_2 52 = .ok (.iload 4, 2) := dk_21 4 (dk_at dksJ10_getChars_2_2 5 rfl rfl)
theorem dJ10_getChars_2_54 : decode cJ10_getChars_2 54 = .ok (.baload, 1) := dk_51 (dk_at dksJ10_getChars_2_2 7 rfl rfl)
theorem dJ10_getChars_2_55 : decode cJ10_getChars_2 55 = .ok (.invokestatic 111, 3) := dk_184 0 111 (dk_at dksJ10_getChars_2_2 8 rfl rfl)
theorem dJ10_getChars_2_58 : decode cJ10_getChars_2 58 = .ok (.aload_n 2, 1) := dk_44 (dk_at dksJ10_getChars_2_2 11 rfl rfl)
theorem dJ10_getChars_2_59 : decode cJ10_getChars_2 59 = .ok (.iinc 5 (-1), 3) := dk_132 5 255 (dk_at dksJ10_getChars_2_2 12 rfl rfl)
theorem dJ10_getChars_2_62 : decode cJ10_getChars_2 62 = .ok (.iload 5, 2) := dk_21 5 (dk_at dksJ10_getChars_2_2 15 rfl rfl)
theorem dJ10_getChars_2_64 : decode cJ10_getChars_2 64 = .ok (.getstatic 407, 3) := dk_178 1 151 (dk_at dksJ10_getChars_2_2 17 rfl rfl)
theorem dJ10_getChars_2_67 : decode cJ10_getChars_2 67 = .ok (.iload 4, 2) := dk_21 4 (dk_at dksJ10_getChars_2_2 20 rfl rfl)
theorem dJ10_getChars_2_69 : decode cJ10_getChars_2 69 = .ok (.baload, 1) := dk_51 (dk_at dksJ10_getChars_2_2 22 rfl rfl)
theorem dJ10_getChars_2_70 : decode cJ10_getChars_2 70 = .ok (.invokestatic 111, 3) := dk_184 0 111 (dk_at dksJ10_getChars_2_3 0 rfl rfl)
theorem dJ10_getChars_2_73 : decode cJ10_getChars_2 73 = .ok (.goto (-51), 3) := dk_167 255 205 (dk_at dksJ10_getChars_2_3 3 rfl rfl)
theorem dJ10_getChars_2_76 : decode cJ10_getChars_2 76 = .ok (.aload_n 2, 1) := dk_44 (dk_at dksJ10_getChars_2_3 6 rfl rfl)
theorem dJ10_getChars_2_77 : decode cJ10_getChars_2 77 = .ok (.iinc 5 (-1), 3) := dk_132 5 255 (dk_at dksJ10_getChars_2_3 7 rfl rfl)
theorem dJ10_getChars_2_80 : decode cJ10_getChars_2 80 = .ok (.iload 5, 2) := dk_21 5 (dk_at dksJ10_getChars_2_3 10 rfl rfl)
theorem dJ10_getChars_2_82 : decode cJ10_getChars_2 82 = .ok (.getstatic 403, 3) := dk_178 1 147 (dk_at dksJ10_getChars_2_3 12 rfl rfl)
theorem dJ10_getChars_2_85 : decode cJ10_getChars_2 85 = .ok (.iload_n 0, 1) := dk_26 (dk_at dksJ10_getChars_2_3 15 rfl rfl)
theorem dJ10_getChars_2_86 : decode cJ10_getChars_2 86 = .ok (.ineg, 1) := dk_116 (dk_at dksJ10_getChars_2_3 16 rfl rfl)
theorem dJ10_getChars_2_87 : decode cJ10_getChars_2 87 = .ok (.baload, 1) := dk_51 (dk_at dksJ10_getChars_2_3 17 rfl rfl)
theorem dJ10_getChars_2_88 : decode cJ10_getChars_2 88 = .ok (.invokestatic 111, 3) := dk_184 0 111 (dk_at dksJ10_getChars_2_3 18 rfl rfl)
theorem dJ10_getChars_2_91 : decode cJ10_getChars_2 91 = .ok (.iload_n 0, 1) := dk_26 (dk_at dksJ10_getChars_2_3 21 rfl rfl)
theorem dJ10_getChars_2_92 : decode cJ10_getChars_2 92 = .ok (.bipush (-9), 2) := dk_16 247 (dk_at dksJ10_getChars_2_3 22 rfl rfl)
theorem dJ10_getChars_2_94 : decode cJ10_getChars_2 94 = .ok (.if_icmp .ge 18, 3) := dk_162 0 18 (dk_at dksJ10_getChars_2_4 0 rfl rfl)
theorem dJ10_getChars_2_97 : decode cJ10_getChars_2 97 = .ok (.aload_n 2, 1) := dk_44 (dk_at dksJ10_getChars_2_4 3 rfl rfl)
theorem dJ10_getChars_2_98 : decode cJ10_getChars_2 98 = .ok (.iinc 5 (-1), 3) := dk_132 5 255 (dk_at dksJ10_getChars_2_4 4 rfl rfl)
theorem dJ10_getChars_2_101 : decode cJ10_getChars_2 101 = .ok (.iload 5, 2) := dk_21 5 (dk_at dksJ10_getChars_2_4 7 rfl rfl)
theorem dJ10_getChars_2_103 : decode cJ10_getChars_2 103 = .ok (.getstatic 407, 3) := dk_178 1 151 (dk_at dksJ10_getChars_2_4 9 rfl rfl)
theorem dJ10_getChars_2_106 : decode cJ10_getChars_2 106 = .ok (.iload_n 0, 1) := dk_26 (dk_at dksJ10_getChars_2_4 12 rfl rfl)
theorem dJ10_getChars_2_107 : decode cJ10_getChars_2 107 = .ok (.ineg, 1) := dk_116 (dk_at dksJ10_getChars_2_4 13 rfl rfl)
theorem dJ10_getChars_2_108 : decode cJ10_getChars_2 108 = .ok (.baload, 1) := dk_51 (dk_at dksJ10_getChars_2_4 14 rfl rfl)
theorem dJ10_getChars_2_109 : decode cJ10_getChars_2 109 = .ok (.invokestatic 111, 3) := dk_184 0 111 (dk_at dksJ10_getChars_2_4 15 rfl rfl)
theorem dJ10_getChars_2_112 : decode cJ10_getChars_2 112 = .ok (.iload 6, 2) := dk_21 6 (dk_at dksJ10_getChars_2_4 18 rfl rfl)
theorem dJ10_getChars_2_114 : decode cJ10_getChars_2 114 = .ok (.ifCond .eq 14, 3) := dk_153 0 14 (dk_at dksJ10_getChars_2_4 20 rfl rfl)
theorem dJ10_getChars_2_117 : decode cJ10_getChars_2 117 = .ok (.aload_n 2, 1) := dk_44 (dk_at dksJ10_getChars_2_4 23 rfl rfl)
theorem dJ10_getChars_2_118 : decode cJ10_getChars_2 118 = .ok (.iinc 5 (-1), 3) := dk_132 5 255 (dk_at dksJ10_getChars_2_5 0 rfl rfl)
theorem dJ10_getChars_2_121 : decode cJ10_getChars_2 121 = .ok (.iload 5, 2) := dk_21 5 (dk_at dksJ10_getChars_2_5 3 rfl rfl)
theorem dJ10_getChars_2_123 : decode cJ10_getChars_2 123 = .ok (.bipush 45, 2) := dk_16 45 (dk_at dksJ10_getChars_2_5 5 rfl rfl)
theorem dJ10_getChars_2_125 : decode cJ10_getChars_2 125 = .ok (.invokestatic 111, 3) := dk_184 0 111 (dk_at dksJ10_getChars_2_5 7 rfl rfl)
theorem dJ10_getChars_2_128 : decode cJ10_getChars_2 128 = .ok (.iload 5, 2) := dk_21 5 (dk_at dksJ10_getChars_2_5 10 rfl rfl)
theorem dJ10_getChars_2_130 : decode cJ10_getChars_2 130 = .ok (.ireturn, 1) := dk_172 (dk_at dksJ10_getChars_2_5 12 rfl rfl)
theorem c51015 : jtCode 51015 = cJ10_getChars_2 := rfl
theorem E51015_0 (d : Nat) (i0 : Int32) (i1 : Int32) (v2 : Value) (h : AH) : G d 51015 0 [.int i0, .int i1, v2, jno, jno, jno, jno] [] h = if 0 ≤ i0 then (if (0 : Int32) = 0 then (G d 51015 22 [.int (-i0), .int i1, v2, jno, jno, .int i1, .int 0] [] h) else (G d 51015 22 [.int i0, .int i1, v2, jno, jno, .int i1, .int 0] [] h)) else (if (1 : Int32) = 0 then (G d 51015 22 [.int (-i0), .int i1, v2, jno, jno, .int i1, .int 1] [] h) else (G d 51015 22 [.int i0, .int i1, v2, jno, jno, .int i1, .int 1] [] h)) := by
  refine (g_iload_n c51015 dJ10_getChars_2_0 rfl).trans ?_
  refine (g_istore (L' := [.int i0, .int i1, v2, jno, jno, .int i1, jno]) c51015 dJ10_getChars_2_1 rfl rfl).trans ?_
  refine (g_iload_n c51015 dJ10_getChars_2_3 rfl).trans ?_
  refine (g_if_ge (tgt := 11) c51015 dJ10_getChars_2_4 rfl).trans (if_cg ?_ ?_)
  · skip
    refine (g_iconst (x := 0) c51015 dJ10_getChars_2_11 rfl).trans ?_
    refine (g_istore (L' := [.int i0, .int i1, v2, jno, jno, .int i1, .int 0]) c51015 dJ10_getChars_2_12 rfl rfl).trans ?_
    refine (g_iload c51015 dJ10_getChars_2_14 rfl).trans ?_
    refine (g_if_ne (tgt := 22) c51015 dJ10_getChars_2_16 rfl).trans (if_cg ?_ ?_)
    · skip
      refine (g_iload_n c51015 dJ10_getChars_2_19 rfl).trans ?_
      refine (g_ineg c51015 dJ10_getChars_2_20).trans ?_
      refine (g_istore_n (L' := [.int (-i0), .int i1, v2, jno, jno, .int i1, .int 0]) c51015 dJ10_getChars_2_21 rfl rfl).trans ?_
      rfl
    · skip
      rfl
  · skip
    refine (g_iconst (x := 1) c51015 dJ10_getChars_2_7 rfl).trans ?_
    refine (g_goto (tgt := 12) c51015 dJ10_getChars_2_8 rfl).trans ?_
    refine (g_istore (L' := [.int i0, .int i1, v2, jno, jno, .int i1, .int 1]) c51015 dJ10_getChars_2_12 rfl rfl).trans ?_
    refine (g_iload c51015 dJ10_getChars_2_14 rfl).trans ?_
    refine (g_if_ne (tgt := 22) c51015 dJ10_getChars_2_16 rfl).trans (if_cg ?_ ?_)
    · skip
      refine (g_iload_n c51015 dJ10_getChars_2_19 rfl).trans ?_
      refine (g_ineg c51015 dJ10_getChars_2_20).trans ?_
      refine (g_istore_n (L' := [.int (-i0), .int i1, v2, jno, jno, .int i1, .int 1]) c51015 dJ10_getChars_2_21 rfl rfl).trans ?_
      rfl
    · skip
      rfl
theorem E51015_22 (d : Nat) (i0 : Int32) (i1 : Int32) (v2 : Value) (v3 : Value) (v4 : Value) (i5 : Int32) (i6 : Int32) (h : AH) : G d 51015 22 [.int i0, .int i1, v2, v3, v4, .int i5, .int i6] [] h = if (-100) < i0 then (zkR v2 (zpR (je h 7) (fun r1 => zqG h r1 [1010, 1011, 1020] (-i0) (fun w2 => zpI w2 (fun x3 => zcV (M d 51024 [v2, .int (i5 + (-1)), .int x3] h) (fun h5 => if (-9) ≤ i0 then (if i6 = 0 then (some (.inl (some (.int (i5 + (-1)))), h5)) else (zkR v2 (zcV (M d 51024 [v2, .int ((i5 + (-1)) + (-1)), .int 45] h5) (fun h7 => some (.inl (some (.int ((i5 + (-1)) + (-1)))), h7)) ()) ())) else (zkR v2 (zpR (je h5 8) (fun r8 => zqG h5 r8 [1010, 1011, 1020] (-i0) (fun w9 => zpI w9 (fun x10 => zcV (M d 51024 [v2, .int ((i5 + (-1)) + (-1)), .int x10] h5) (fun h12 => if i6 = 0 then (some (.inl (some (.int ((i5 + (-1)) + (-1)))), h12)) else (zkR v2 (zcV (M d 51024 [v2, .int (((i5 + (-1)) + (-1)) + (-1)), .int 45] h12) (fun h14 => some (.inl (some (.int (((i5 + (-1)) + (-1)) + (-1)))), h14)) ()) ())) ()) ()) ()) ()) ())) ()) ()) ()) ()) ()) else (zqD 100 (zkR v2 (zpR (je h 7) (fun r15 => zqG h r15 [1010, 1011, 1020] (((i0 / 100) * 100) - i0) (fun w16 => zpI w16 (fun x17 => zcV (M d 51024 [v2, .int (i5 + (-1)), .int x17] h) (fun h19 => zkR v2 (zpR (je h19 8) (fun r20 => zqG h19 r20 [1010, 1011, 1020] (((i0 / 100) * 100) - i0) (fun w21 => zpI w21 (fun x22 => zcV (M d 51024 [v2, .int ((i5 + (-1)) + (-1)), .int x22] h19) (fun h24 => G d 51015 22 [.int (i0 / 100), .int i1, v2, .int (i0 / 100), .int (((i0 / 100) * 100) - i0), .int ((i5 + (-1)) + (-1)), .int i6] [] h24) ()) ()) ()) ()) ()) ()) ()) ()) ()) ()) ()) := by
  refine (g_iload_n c51015 dJ10_getChars_2_22 rfl).trans ?_
  refine (g_bipush (x := (-100)) c51015 dJ10_getChars_2_23 rfl).trans ?_
  refine (g_icmp_gt (tgt := 76) c51015 dJ10_getChars_2_25 rfl).trans (if_cg ?_ ?_)
  · skip
    refine (g_aload_nV c51015 dJ10_getChars_2_76 rfl).trans (ckR_cg ?_)
    refine (g_iinc (c := (-1)) (L' := [.int i0, .int i1, v2, v3, v4, .int (i5 + (-1)), .int i6]) c51015 dJ10_getChars_2_77 rfl rfl rfl rfl).trans ?_
    refine (g_iload c51015 dJ10_getChars_2_80 rfl).trans ?_
    refine (g_getsR (k := 7) c51015 dJ10_getChars_2_82 rfl rfl).trans (rR_cg fun r1 => ?_)
    refine (g_iload_n c51015 dJ10_getChars_2_85 rfl).trans ?_
    refine (g_ineg c51015 dJ10_getChars_2_86).trans ?_
    refine (g_baload c51015 dJ10_getChars_2_87).trans (aG_cg fun w2 => rI_cg fun x3 => ?_)
    refine (g_static (as := [v2, .int (i5 + (-1)), .int x3]) (rest := []) c51015 dJ10_getChars_2_88 rfl rfl rfl rfl rfl).trans ((jback_V (κx := cX) (fun e h => jthrow_out rfl)).trans (cV_cg fun h5 => ?_))
    refine (g_iload_n c51015 dJ10_getChars_2_91 rfl).trans ?_
    refine (g_bipush (x := (-9)) c51015 dJ10_getChars_2_92 rfl).trans ?_
    refine (g_icmp_ge (tgt := 112) c51015 dJ10_getChars_2_94 rfl).trans (if_cg ?_ ?_)
    · skip
      refine (g_iload c51015 dJ10_getChars_2_112 rfl).trans ?_
      refine (g_if_eq (tgt := 128) c51015 dJ10_getChars_2_114 rfl).trans (if_cg ?_ ?_)
      · skip
        refine (g_iload c51015 dJ10_getChars_2_128 rfl).trans ?_
        exact g_ireturn c51015 dJ10_getChars_2_130 rfl
      · skip
        refine (g_aload_nV c51015 dJ10_getChars_2_117 rfl).trans (ckR_cg ?_)
        refine (g_iinc (c := (-1)) (L' := [.int i0, .int i1, v2, v3, v4, .int ((i5 + (-1)) + (-1)), .int i6]) c51015 dJ10_getChars_2_118 rfl rfl rfl rfl).trans ?_
        refine (g_iload c51015 dJ10_getChars_2_121 rfl).trans ?_
        refine (g_bipush (x := 45) c51015 dJ10_getChars_2_123 rfl).trans ?_
        refine (g_static (as := [v2, .int ((i5 + (-1)) + (-1)), .int 45]) (rest := []) c51015 dJ10_getChars_2_125 rfl rfl rfl rfl rfl).trans ((jback_V (κx := cX) (fun e h => jthrow_out rfl)).trans (cV_cg fun h7 => ?_))
        refine (g_iload c51015 dJ10_getChars_2_128 rfl).trans ?_
        exact g_ireturn c51015 dJ10_getChars_2_130 rfl
    · skip
      refine (g_aload_nV c51015 dJ10_getChars_2_97 rfl).trans (ckR_cg ?_)
      refine (g_iinc (c := (-1)) (L' := [.int i0, .int i1, v2, v3, v4, .int ((i5 + (-1)) + (-1)), .int i6]) c51015 dJ10_getChars_2_98 rfl rfl rfl rfl).trans ?_
      refine (g_iload c51015 dJ10_getChars_2_101 rfl).trans ?_
      refine (g_getsR (k := 8) c51015 dJ10_getChars_2_103 rfl rfl).trans (rR_cg fun r8 => ?_)
      refine (g_iload_n c51015 dJ10_getChars_2_106 rfl).trans ?_
      refine (g_ineg c51015 dJ10_getChars_2_107).trans ?_
      refine (g_baload c51015 dJ10_getChars_2_108).trans (aG_cg fun w9 => rI_cg fun x10 => ?_)
      refine (g_static (as := [v2, .int ((i5 + (-1)) + (-1)), .int x10]) (rest := []) c51015 dJ10_getChars_2_109 rfl rfl rfl rfl rfl).trans ((jback_V (κx := cX) (fun e h => jthrow_out rfl)).trans (cV_cg fun h12 => ?_))
      refine (g_iload c51015 dJ10_getChars_2_112 rfl).trans ?_
      refine (g_if_eq (tgt := 128) c51015 dJ10_getChars_2_114 rfl).trans (if_cg ?_ ?_)
      · skip
        refine (g_iload c51015 dJ10_getChars_2_128 rfl).trans ?_
        exact g_ireturn c51015 dJ10_getChars_2_130 rfl
      · skip
        refine (g_aload_nV c51015 dJ10_getChars_2_117 rfl).trans (ckR_cg ?_)
        refine (g_iinc (c := (-1)) (L' := [.int i0, .int i1, v2, v3, v4, .int (((i5 + (-1)) + (-1)) + (-1)), .int i6]) c51015 dJ10_getChars_2_118 rfl rfl rfl rfl).trans ?_
        refine (g_iload c51015 dJ10_getChars_2_121 rfl).trans ?_
        refine (g_bipush (x := 45) c51015 dJ10_getChars_2_123 rfl).trans ?_
        refine (g_static (as := [v2, .int (((i5 + (-1)) + (-1)) + (-1)), .int 45]) (rest := []) c51015 dJ10_getChars_2_125 rfl rfl rfl rfl rfl).trans ((jback_V (κx := cX) (fun e h => jthrow_out rfl)).trans (cV_cg fun h14 => ?_))
        refine (g_iload c51015 dJ10_getChars_2_128 rfl).trans ?_
        exact g_ireturn c51015 dJ10_getChars_2_130 rfl
  · skip
    refine (g_iload_n c51015 dJ10_getChars_2_28 rfl).trans ?_
    refine (g_bipush (x := 100) c51015 dJ10_getChars_2_29 rfl).trans ?_
    refine (g_idiv c51015 dJ10_getChars_2_31).trans (dZ_cg ?_)
    refine (g_istore_n (L' := [.int i0, .int i1, v2, .int (i0 / 100), v4, .int i5, .int i6]) c51015 dJ10_getChars_2_32 rfl rfl).trans ?_
    refine (g_iload_n c51015 dJ10_getChars_2_33 rfl).trans ?_
    refine (g_bipush (x := 100) c51015 dJ10_getChars_2_34 rfl).trans ?_
    refine (g_imul c51015 dJ10_getChars_2_36).trans ?_
    refine (g_iload_n c51015 dJ10_getChars_2_37 rfl).trans ?_
    refine (g_isub c51015 dJ10_getChars_2_38).trans ?_
    refine (g_istore (L' := [.int i0, .int i1, v2, .int (i0 / 100), .int (((i0 / 100) * 100) - i0), .int i5, .int i6]) c51015 dJ10_getChars_2_39 rfl rfl).trans ?_
    refine (g_iload_n c51015 dJ10_getChars_2_41 rfl).trans ?_
    refine (g_istore_n (L' := [.int (i0 / 100), .int i1, v2, .int (i0 / 100), .int (((i0 / 100) * 100) - i0), .int i5, .int i6]) c51015 dJ10_getChars_2_42 rfl rfl).trans ?_
    refine (g_aload_nV c51015 dJ10_getChars_2_43 rfl).trans (ckR_cg ?_)
    refine (g_iinc (c := (-1)) (L' := [.int (i0 / 100), .int i1, v2, .int (i0 / 100), .int (((i0 / 100) * 100) - i0), .int (i5 + (-1)), .int i6]) c51015 dJ10_getChars_2_44 rfl rfl rfl rfl).trans ?_
    refine (g_iload c51015 dJ10_getChars_2_47 rfl).trans ?_
    refine (g_getsR (k := 7) c51015 dJ10_getChars_2_49 rfl rfl).trans (rR_cg fun r15 => ?_)
    refine (g_iload c51015 dJ10_getChars_2_52 rfl).trans ?_
    refine (g_baload c51015 dJ10_getChars_2_54).trans (aG_cg fun w16 => rI_cg fun x17 => ?_)
    refine (g_static (as := [v2, .int (i5 + (-1)), .int x17]) (rest := []) c51015 dJ10_getChars_2_55 rfl rfl rfl rfl rfl).trans ((jback_V (κx := cX) (fun e h => jthrow_out rfl)).trans (cV_cg fun h19 => ?_))
    refine (g_aload_nV c51015 dJ10_getChars_2_58 rfl).trans (ckR_cg ?_)
    refine (g_iinc (c := (-1)) (L' := [.int (i0 / 100), .int i1, v2, .int (i0 / 100), .int (((i0 / 100) * 100) - i0), .int ((i5 + (-1)) + (-1)), .int i6]) c51015 dJ10_getChars_2_59 rfl rfl rfl rfl).trans ?_
    refine (g_iload c51015 dJ10_getChars_2_62 rfl).trans ?_
    refine (g_getsR (k := 8) c51015 dJ10_getChars_2_64 rfl rfl).trans (rR_cg fun r20 => ?_)
    refine (g_iload c51015 dJ10_getChars_2_67 rfl).trans ?_
    refine (g_baload c51015 dJ10_getChars_2_69).trans (aG_cg fun w21 => rI_cg fun x22 => ?_)
    refine (g_static (as := [v2, .int ((i5 + (-1)) + (-1)), .int x22]) (rest := []) c51015 dJ10_getChars_2_70 rfl rfl rfl rfl rfl).trans ((jback_V (κx := cX) (fun e h => jthrow_out rfl)).trans (cV_cg fun h24 => ?_))
    refine (g_goto (tgt := 22) c51015 dJ10_getChars_2_73 rfl).trans ?_
    rfl
theorem X51015 {d : Nat} {i0 : Int32} {i1 : Int32} {v2 : Value} (h : AH) (hv2 : isR v2 = true) : M (d + 1) 51015 [.int i0, .int i1, v2] h = G d 51015 0 [.int i0, .int i1, v2, jno, jno, jno, jno] [] h := M_eq rfl rfl (by simp only [jent, jargL_R hv2, jargL]; rfl)
/-! java/lang/StringUTF16.inflate([BI[BII)V -/
abbrev cJ10_inflate : ByteArray := prog_54_method_86_code
def dkwJ10_inflate_1 : List UInt8 := [132, 1, 1, 51, 17, 0, 255, 126, 184, 0, 111, 132, 5, 1, 167, 255, 228, 177]
abbrev dktJ10_inflate_1 : List UInt8 := dkwJ10_inflate_1 ++ []
def dkwJ10_inflate_0 : List UInt8 := [29, 21, 4, 44, 184, 0, 173, 3, 54, 5, 21, 5, 21, 4, 162, 0, 27, 44, 29, 132, 3, 1, 42, 27]
abbrev dktJ10_inflate_0 : List UInt8 := dkwJ10_inflate_0 ++ dktJ10_inflate_1
theorem dksJ10_inflate_0 : cJ10_inflate.data.toList.drop 0 = dktJ10_inflate_0 := by decide +kernel
theorem dksJ10_inflate_1 : cJ10_inflate.data.toList.drop 24 = dktJ10_inflate_1 := dk_seg dksJ10_inflate_0 24 rfl rfl
theorem dJ10_inflate_0 : decode cJ10_inflate 0 = .ok (.iload_n 3, 1) := dk_29 (dk_at dksJ10_inflate_0 0 rfl rfl)
theorem dJ10_inflate_1 : decode cJ10_inflate 1 = .ok (.iload 4, 2) := dk_21 4 (dk_at dksJ10_inflate_0 1 rfl rfl)
theorem dJ10_inflate_3 : decode cJ10_inflate 3 = .ok (.aload_n 2, 1) := dk_44 (dk_at dksJ10_inflate_0 3 rfl rfl)
theorem dJ10_inflate_4 : decode cJ10_inflate 4 = .ok (.invokestatic 173, 3) := dk_184 0 173 (dk_at dksJ10_inflate_0 4 rfl rfl)
theorem dJ10_inflate_7 : decode cJ10_inflate 7 = .ok (.iconst 0, 1) := dk_3 (dk_at dksJ10_inflate_0 7 rfl rfl)
theorem dJ10_inflate_8 : decode cJ10_inflate 8 = .ok (.istore 5, 2) := dk_54 5 (dk_at dksJ10_inflate_0 8 rfl rfl)
theorem dJ10_inflate_10 : decode cJ10_inflate 10 = .ok (.iload 5, 2) := dk_21 5 (dk_at dksJ10_inflate_0 10 rfl rfl)
theorem dJ10_inflate_12 : decode cJ10_inflate 12 = .ok (.iload 4, 2) := dk_21 4 (dk_at dksJ10_inflate_0 12 rfl rfl)
theorem dJ10_inflate_14 : decode cJ10_inflate 14 = .ok (.if_icmp .ge 27, 3) := dk_162 0 27 (dk_at dksJ10_inflate_0 14 rfl rfl)
theorem dJ10_inflate_17 : decode cJ10_inflate 17 = .ok (.aload_n 2, 1) := dk_44 (dk_at dksJ10_inflate_0 17 rfl rfl)
theorem dJ10_inflate_18 : decode cJ10_inflate 18 = .ok (.iload_n 3, 1) := dk_29 (dk_at dksJ10_inflate_0 18 rfl rfl)
theorem dJ10_inflate_19 : decode cJ10_inflate 19 = .ok (.iinc 3 1, 3) := dk_132 3 1 (dk_at dksJ10_inflate_0 19 rfl rfl)
theorem dJ10_inflate_22 : decode cJ10_inflate 22 = .ok (.aload_n 0, 1) := dk_42 (dk_at dksJ10_inflate_0 22 rfl rfl)
theorem dJ10_inflate_23 : decode cJ10_inflate 23 = .ok (.iload_n 1, 1) := dk_27 (dk_at dksJ10_inflate_0 23 rfl rfl)
theorem dJ10_inflate_24 : decode cJ10_inflate 24 = .ok (.iinc 1 1, 3) := dk_132 1 1 (dk_at dksJ10_inflate_1 0 rfl rfl)
theorem dJ10_inflate_27 : decode cJ10_inflate 27 = .ok (.baload, 1) := dk_51 (dk_at dksJ10_inflate_1 3 rfl rfl)
theorem dJ10_inflate_28 : decode cJ10_inflate 28 = .ok (.sipush 255, 3) := dk_17 0 255 (dk_at dksJ10_inflate_1 4 rfl rfl)
theorem dJ10_inflate_31 : decode cJ10_inflate 31 = .ok (.iand, 1) := dk_126 (dk_at dksJ10_inflate_1 7 rfl rfl)
theorem dJ10_inflate_32 : decode cJ10_inflate 32 = .ok (.invokestatic 111, 3) := dk_184 0 111 (dk_at dksJ10_inflate_1 8 rfl rfl)
theorem dJ10_inflate_35 : decode cJ10_inflate 35 = .ok (.iinc 5 1, 3) := dk_132 5 1 (dk_at dksJ10_inflate_1 11 rfl rfl)
theorem dJ10_inflate_38 : decode cJ10_inflate 38 = .ok (.goto (-28), 3) := dk_167 255 228 (dk_at dksJ10_inflate_1 14 rfl rfl)
theorem dJ10_inflate_41 : decode cJ10_inflate 41 = .ok (.return_, 1) := dk_177 (dk_at dksJ10_inflate_1 17 rfl rfl)
theorem c51020 : jtCode 51020 = cJ10_inflate := rfl
theorem E51020_0 (d : Nat) (v0 : Value) (i1 : Int32) (v2 : Value) (i3 : Int32) (i4 : Int32) (h : AH) : G d 51020 0 [v0, .int i1, v2, .int i3, .int i4, jno] [] h = zkR v2 (zcV (M d 51002 [.int i3, .int i4, v2] h) (fun h2 => G d 51020 10 [v0, .int i1, v2, .int i3, .int i4, .int 0] [] h2) ()) () := by
  refine (g_iload_n c51020 dJ10_inflate_0 rfl).trans ?_
  refine (g_iload c51020 dJ10_inflate_1 rfl).trans ?_
  refine (g_aload_nV c51020 dJ10_inflate_3 rfl).trans (ckR_cg ?_)
  refine (g_static (as := [.int i3, .int i4, v2]) (rest := []) c51020 dJ10_inflate_4 rfl rfl rfl rfl rfl).trans ((jback_V (κx := cX) (fun e h => jthrow_out rfl)).trans (cV_cg fun h2 => ?_))
  refine (g_iconst (x := 0) c51020 dJ10_inflate_7 rfl).trans ?_
  refine (g_istore (L' := [v0, .int i1, v2, .int i3, .int i4, .int 0]) c51020 dJ10_inflate_8 rfl rfl).trans ?_
  rfl
theorem E51020_10 (d : Nat) (v0 : Value) (i1 : Int32) (v2 : Value) (i3 : Int32) (i4 : Int32) (i5 : Int32) (h : AH) : G d 51020 10 [v0, .int i1, v2, .int i3, .int i4, .int i5] [] h = if i4 ≤ i5 then (some (.inl none, h)) else (zkR v2 (zkR v0 (zqG h v0 [1010, 1011, 1020] i1 (fun w1 => zpI w1 (fun x2 => zcV (M d 51024 [v2, .int i3, .int (x2 &&& 255)] h) (fun h4 => G d 51020 10 [v0, .int (i1 + 1), v2, .int (i3 + 1), .int i4, .int (i5 + 1)] [] h4) ()) ()) ()) ()) ()) := by
  refine (g_iload c51020 dJ10_inflate_10 rfl).trans ?_
  refine (g_iload c51020 dJ10_inflate_12 rfl).trans ?_
  refine (g_icmp_ge (tgt := 41) c51020 dJ10_inflate_14 rfl).trans (if_cg ?_ ?_)
  · skip
    exact g_return c51020 dJ10_inflate_41 rfl
  · skip
    refine (g_aload_nV c51020 dJ10_inflate_17 rfl).trans (ckR_cg ?_)
    refine (g_iload_n c51020 dJ10_inflate_18 rfl).trans ?_
    refine (g_iinc (c := 1) (L' := [v0, .int i1, v2, .int (i3 + 1), .int i4, .int i5]) c51020 dJ10_inflate_19 rfl rfl rfl rfl).trans ?_
    refine (g_aload_nV c51020 dJ10_inflate_22 rfl).trans (ckR_cg ?_)
    refine (g_iload_n c51020 dJ10_inflate_23 rfl).trans ?_
    refine (g_iinc (c := 1) (L' := [v0, .int (i1 + 1), v2, .int (i3 + 1), .int i4, .int i5]) c51020 dJ10_inflate_24 rfl rfl rfl rfl).trans ?_
    refine (g_baload c51020 dJ10_inflate_27).trans (aG_cg fun w1 => rI_cg fun x2 => ?_)
    refine (g_sipush (x := 255) c51020 dJ10_inflate_28 rfl).trans ?_
    refine (g_iand c51020 dJ10_inflate_31).trans ?_
    refine (g_static (as := [v2, .int i3, .int (x2 &&& 255)]) (rest := []) c51020 dJ10_inflate_32 rfl rfl rfl rfl rfl).trans ((jback_V (κx := cX) (fun e h => jthrow_out rfl)).trans (cV_cg fun h4 => ?_))
    refine (g_iinc (c := 1) (L' := [v0, .int (i1 + 1), v2, .int (i3 + 1), .int i4, .int (i5 + 1)]) c51020 dJ10_inflate_35 rfl rfl rfl rfl).trans ?_
    refine (g_goto (tgt := 10) c51020 dJ10_inflate_38 rfl).trans ?_
    rfl
theorem X51020 {d : Nat} {v0 : Value} {i1 : Int32} {v2 : Value} {i3 : Int32} {i4 : Int32} (h : AH) (hv0 : isR v0 = true) (hv2 : isR v2 = true) : M (d + 1) 51020 [v0, .int i1, v2, .int i3, .int i4] h = G d 51020 0 [v0, .int i1, v2, .int i3, .int i4, jno] [] h := M_eq rfl rfl (by simp only [jent, jargL_R hv0, jargL_R hv2, jargL]; rfl)
/-! java/lang/StringUTF16.putChar([BII)V -/
abbrev cJ10_putChar : ByteArray := prog_54_method_4_code
def dkwJ10_putChar_2 : List UInt8 := [178, 0, 63, 122, 145, 84, 177]
abbrev dktJ10_putChar_2 : List UInt8 := dkwJ10_putChar_2 ++ []
def dkwJ10_putChar_1 : List UInt8 := [183, 0, 56, 191, 27, 4, 120, 60, 42, 27, 132, 1, 1, 28, 178, 0, 59, 122, 145, 84, 42, 27, 28]
abbrev dktJ10_putChar_1 : List UInt8 := dkwJ10_putChar_1 ++ dktJ10_putChar_2
def dkwJ10_putChar_0 : List UInt8 := [178, 0, 44, 154, 0, 25, 27, 155, 0, 11, 27, 42, 184, 0, 48, 161, 0, 13, 187, 0, 52, 89, 18, 54]
abbrev dktJ10_putChar_0 : List UInt8 := dkwJ10_putChar_0 ++ dktJ10_putChar_1
theorem dksJ10_putChar_0 : cJ10_putChar.data.toList.drop 0 = dktJ10_putChar_0 := by decide +kernel
theorem dksJ10_putChar_1 : cJ10_putChar.data.toList.drop 24 = dktJ10_putChar_1 := dk_seg dksJ10_putChar_0 24 rfl rfl
theorem dksJ10_putChar_2 : cJ10_putChar.data.toList.drop 47 = dktJ10_putChar_2 := dk_seg dksJ10_putChar_1 23 rfl rfl
theorem dJ10_putChar_0 : decode cJ10_putChar 0 = .ok (.getstatic 44, 3) := dk_178 0 44 (dk_at dksJ10_putChar_0 0 rfl rfl)
theorem dJ10_putChar_3 : decode cJ10_putChar 3 = .ok (.ifCond .ne 25, 3) := dk_154 0 25 (dk_at dksJ10_putChar_0 3 rfl rfl)
theorem dJ10_putChar_6 : decode cJ10_putChar 6 = .ok (.iload_n 1, 1) := dk_27 (dk_at dksJ10_putChar_0 6 rfl rfl)
theorem dJ10_putChar_7 : decode cJ10_putChar 7 = .ok (.ifCond .lt 11, 3) := dk_155 0 11 (dk_at dksJ10_putChar_0 7 rfl rfl)
theorem dJ10_putChar_10 : decode cJ10_putChar 10 = .ok (.iload_n 1, 1) := dk_27 (dk_at dksJ10_putChar_0 10 rfl rfl)
theorem dJ10_putChar_11 : decode cJ10_putChar 11 = .ok (.aload_n 0, 1) := dk_42 (dk_at dksJ10_putChar_0 11 rfl rfl)
theorem dJ10_putChar_12 : decode cJ10_putChar 12 = .ok (.invokestatic 48, 3) := dk_184 0 48 (dk_at dksJ10_putChar_0 12 rfl rfl)
theorem dJ10_putChar_15 : decode cJ10_putChar 15 = .ok (.if_icmp .lt 13, 3) := dk_161 0 13 (dk_at dksJ10_putChar_0 15 rfl rfl)
theorem dJ10_putChar_18 : decode cJ10_putChar 18 = .ok (.new 52, 3) := dk_187 0 52 (dk_at dksJ10_putChar_0 18 rfl rfl)
theorem dJ10_putChar_21 : decode cJ10_putChar 21 = .ok (.dup, 1) := dk_89 (dk_at dksJ10_putChar_0 21 rfl rfl)
theorem dJ10_putChar_22 : decode cJ10_putChar 22 = .ok (.ldc 54, 2) := dk_18 54 (dk_at dksJ10_putChar_0 22 rfl rfl)
theorem dJ10_putChar_24 : decode cJ10_putChar 24 = .ok (.invokespecial 56, 3) := dk_183 0 56 (dk_at dksJ10_putChar_1 0 rfl rfl)
theorem dJ10_putChar_27 : decode cJ10_putChar 27 = .ok (.athrow, 1) := dk_191 (dk_at dksJ10_putChar_1 3 rfl rfl)
theorem dJ10_putChar_28 : decode cJ10_putChar 28 = .ok (.iload_n 1, 1) := dk_27 (dk_at dksJ10_putChar_1 4 rfl rfl)
theorem dJ10_putChar_29 : decode cJ10_putChar 29 = .ok (.iconst 1, 1) := dk_4 (dk_at dksJ10_putChar_1 5 rfl rfl)
theorem dJ10_putChar_30 : decode cJ10_putChar 30 = .ok (.ishl, 1) := dk_120 (dk_at dksJ10_putChar_1 6 rfl rfl)
theorem dJ10_putChar_31 : decode cJ10_putChar 31 = .ok (.istore_n 1, 1) := dk_60 (dk_at dksJ10_putChar_1 7 rfl rfl)
theorem dJ10_putChar_32 : decode cJ10_putChar 32 = .ok (.aload_n 0, 1) := dk_42 (dk_at dksJ10_putChar_1 8 rfl rfl)
theorem dJ10_putChar_33 : decode cJ10_putChar 33 = .ok (.iload_n 1, 1) := dk_27 (dk_at dksJ10_putChar_1 9 rfl rfl)
theorem dJ10_putChar_34 : decode cJ10_putChar 34 = .ok (.iinc 1 1, 3) := dk_132 1 1 (dk_at dksJ10_putChar_1 10 rfl rfl)
theorem dJ10_putChar_37 : decode cJ10_putChar 37 = .ok (.iload_n 2, 1) := dk_28 (dk_at dksJ10_putChar_1 13 rfl rfl)
theorem dJ10_putChar_38 : decode cJ10_putChar 38 = .ok (.getstatic 59, 3) := dk_178 0 59 (dk_at dksJ10_putChar_1 14 rfl rfl)
theorem dJ10_putChar_41 : decode cJ10_putChar 41 = .ok (.ishr, 1) := dk_122 (dk_at dksJ10_putChar_1 17 rfl rfl)
theorem dJ10_putChar_42 : decode cJ10_putChar 42 = .ok (.i2b, 1) := dk_145 (dk_at dksJ10_putChar_1 18 rfl rfl)
theorem dJ10_putChar_43 : decode cJ10_putChar 43 = .ok (.bastore, 1) := dk_84 (dk_at dksJ10_putChar_1 19 rfl rfl)
theorem dJ10_putChar_44 : decode cJ10_putChar 44 = .ok (.aload_n 0, 1) := dk_42 (dk_at dksJ10_putChar_1 20 rfl rfl)
theorem dJ10_putChar_45 : decode cJ10_putChar 45 = .ok (.iload_n 1, 1) := dk_27 (dk_at dksJ10_putChar_1 21 rfl rfl)
theorem dJ10_putChar_46 : decode cJ10_putChar 46 = .ok (.iload_n 2, 1) := dk_28 (dk_at dksJ10_putChar_1 22 rfl rfl)
theorem dJ10_putChar_47 : decode cJ10_putChar 47 = .ok (.getstatic 63, 3) := dk_178 0 63 (dk_at dksJ10_putChar_2 0 rfl rfl)
theorem dJ10_putChar_50 : decode cJ10_putChar 50 = .ok (.ishr, 1) := dk_122 (dk_at dksJ10_putChar_2 3 rfl rfl)
theorem dJ10_putChar_51 : decode cJ10_putChar 51 = .ok (.i2b, 1) := dk_145 (dk_at dksJ10_putChar_2 4 rfl rfl)
theorem dJ10_putChar_52 : decode cJ10_putChar 52 = .ok (.bastore, 1) := dk_84 (dk_at dksJ10_putChar_2 5 rfl rfl)
theorem dJ10_putChar_53 : decode cJ10_putChar 53 = .ok (.return_, 1) := dk_177 (dk_at dksJ10_putChar_2 6 rfl rfl)
theorem c51024 : jtCode 51024 = cJ10_putChar := rfl
theorem E51024_0 (d : Nat) (v0 : Value) (i1 : Int32) (i2 : Int32) (h : AH) : G d 51024 0 [v0, .int i1, .int i2] [] h = if (1 : Int32) = 0 then (if i1 < 0 then (G d 51024 18 [v0, .int i1, .int i2] [] h) else (zkR v0 (zcI (M d 51021 [v0] h) (fun x1 h2 => if i1 < x1 then (G d 51024 28 [v0, .int i1, .int i2] [] h2) else (G d 51024 18 [v0, .int i1, .int i2] [] h2)) ()) ())) else (G d 51024 28 [v0, .int i1, .int i2] [] h) := by
  refine (g_getsI (x := 1) c51024 dJ10_putChar_0 rfl rfl).trans ?_
  refine (g_if_ne (tgt := 28) c51024 dJ10_putChar_3 rfl).trans (if_cg ?_ ?_)
  · skip
    refine (g_iload_n c51024 dJ10_putChar_6 rfl).trans ?_
    refine (g_if_lt (tgt := 18) c51024 dJ10_putChar_7 rfl).trans (if_cg ?_ ?_)
    · skip
      rfl
    · skip
      refine (g_iload_n c51024 dJ10_putChar_10 rfl).trans ?_
      refine (g_aload_nV c51024 dJ10_putChar_11 rfl).trans (ckR_cg ?_)
      refine (g_static (as := [v0]) (rest := [.int i1]) c51024 dJ10_putChar_12 rfl rfl rfl rfl rfl).trans ((jback_I (κx := cX) (fun e h => jthrow_out rfl)).trans (cI_cg fun x1 h2 => ?_))
      refine (g_icmp_lt (tgt := 28) c51024 dJ10_putChar_15 rfl).trans (if_cg ?_ ?_)
      · skip
        rfl
      · skip
        rfl
  · skip
    rfl
theorem E51024_28 (d : Nat) (v0 : Value) (i1 : Int32) (i2 : Int32) (h : AH) : G d 51024 28 [v0, .int i1, .int i2] [] h = zkR v0 (zqB h v0 (i1 <<< ((1 : Int32) &&& 31)) (((i2 >>> ((0 : Int32) &&& 31))).toInt8.toInt32) (fun h1 => zkR v0 (zqB h1 v0 ((i1 <<< ((1 : Int32) &&& 31)) + 1) (((i2 >>> ((8 : Int32) &&& 31))).toInt8.toInt32) (fun h2 => some (.inl none, h2)) ()) ()) ()) () := by
  refine (g_iload_n c51024 dJ10_putChar_28 rfl).trans ?_
  refine (g_iconst (x := 1) c51024 dJ10_putChar_29 rfl).trans ?_
  refine (g_ishl c51024 dJ10_putChar_30).trans ?_
  refine (g_istore_n (L' := [v0, .int (i1 <<< ((1 : Int32) &&& 31)), .int i2]) c51024 dJ10_putChar_31 rfl rfl).trans ?_
  refine (g_aload_nV c51024 dJ10_putChar_32 rfl).trans (ckR_cg ?_)
  refine (g_iload_n c51024 dJ10_putChar_33 rfl).trans ?_
  refine (g_iinc (c := 1) (L' := [v0, .int ((i1 <<< ((1 : Int32) &&& 31)) + 1), .int i2]) c51024 dJ10_putChar_34 rfl rfl rfl rfl).trans ?_
  refine (g_iload_n c51024 dJ10_putChar_37 rfl).trans ?_
  refine (g_getsI (x := 0) c51024 dJ10_putChar_38 rfl rfl).trans ?_
  refine (g_ishr c51024 dJ10_putChar_41).trans ?_
  refine (g_i2b c51024 dJ10_putChar_42).trans ?_
  refine (g_bastore c51024 dJ10_putChar_43).trans (aSb_cg fun h1 => ?_)
  refine (g_aload_nV c51024 dJ10_putChar_44 rfl).trans (ckR_cg ?_)
  refine (g_iload_n c51024 dJ10_putChar_45 rfl).trans ?_
  refine (g_iload_n c51024 dJ10_putChar_46 rfl).trans ?_
  refine (g_getsI (x := 8) c51024 dJ10_putChar_47 rfl rfl).trans ?_
  refine (g_ishr c51024 dJ10_putChar_50).trans ?_
  refine (g_i2b c51024 dJ10_putChar_51).trans ?_
  refine (g_bastore c51024 dJ10_putChar_52).trans (aSb_cg fun h2 => ?_)
  exact g_return c51024 dJ10_putChar_53 rfl
theorem X51024 {d : Nat} {v0 : Value} {i1 : Int32} {i2 : Int32} (h : AH) (hv0 : isR v0 = true) : M (d + 1) 51024 [v0, .int i1, .int i2] h = G d 51024 0 [v0, .int i1, .int i2] [] h := M_eq rfl rfl (by simp only [jent, jargL_R hv0, jargL]; rfl)
/-! java/lang/StringUTF16.putCharSB([BII)V -/
abbrev cJ10_putCharSB : ByteArray := prog_54_method_71_code
def dkwJ10_putCharSB_0 : List UInt8 := [27, 42, 184, 0, 67, 42, 27, 28, 184, 0, 111, 177]
abbrev dktJ10_putCharSB_0 : List UInt8 := dkwJ10_putCharSB_0 ++ []
theorem dksJ10_putCharSB_0 : cJ10_putCharSB.data.toList.drop 0 = dktJ10_putCharSB_0 := by decide +kernel
theorem dJ10_putCharSB_0 : decode cJ10_putCharSB 0 = .ok (.iload_n 1, 1) := dk_27 (dk_at dksJ10_putCharSB_0 0 rfl rfl)
theorem dJ10_putCharSB_1 : decode cJ10_putCharSB 1 = .ok (.aload_n 0, 1) := dk_42 (dk_at dksJ10_putCharSB_0 1 rfl rfl)
theorem dJ10_putCharSB_2 : decode cJ10_putCharSB 2 = .ok (.invokestatic 67, 3) := dk_184 0 67 (dk_at dksJ10_putCharSB_0 2 rfl rfl)
theorem dJ10_putCharSB_5 : decode cJ10_putCharSB 5 = .ok (.aload_n 0, 1) := dk_42 (dk_at dksJ10_putCharSB_0 5 rfl rfl)
theorem dJ10_putCharSB_6 : decode cJ10_putCharSB 6 = .ok (.iload_n 1, 1) := dk_27 (dk_at dksJ10_putCharSB_0 6 rfl rfl)
theorem dJ10_putCharSB_7 : decode cJ10_putCharSB 7 = .ok (.iload_n 2, 1) := dk_28 (dk_at dksJ10_putCharSB_0 7 rfl rfl)
theorem dJ10_putCharSB_8 : decode cJ10_putCharSB 8 = .ok (.invokestatic 111, 3) := dk_184 0 111 (dk_at dksJ10_putCharSB_0 8 rfl rfl)
theorem dJ10_putCharSB_11 : decode cJ10_putCharSB 11 = .ok (.return_, 1) := dk_177 (dk_at dksJ10_putCharSB_0 11 rfl rfl)
theorem c51025 : jtCode 51025 = cJ10_putCharSB := rfl
theorem E51025_0 (d : Nat) (v0 : Value) (i1 : Int32) (i2 : Int32) (h : AH) : G d 51025 0 [v0, .int i1, .int i2] [] h = zkR v0 (zcV (M d 51003 [.int i1, v0] h) (fun h2 => zkR v0 (zcV (M d 51024 [v0, .int i1, .int i2] h2) (fun h4 => some (.inl none, h4)) ()) ()) ()) () := by
  refine (g_iload_n c51025 dJ10_putCharSB_0 rfl).trans ?_
  refine (g_aload_nV c51025 dJ10_putCharSB_1 rfl).trans (ckR_cg ?_)
  refine (g_static (as := [.int i1, v0]) (rest := []) c51025 dJ10_putCharSB_2 rfl rfl rfl rfl rfl).trans ((jback_V (κx := cX) (fun e h => jthrow_out rfl)).trans (cV_cg fun h2 => ?_))
  refine (g_aload_nV c51025 dJ10_putCharSB_5 rfl).trans (ckR_cg ?_)
  refine (g_iload_n c51025 dJ10_putCharSB_6 rfl).trans ?_
  refine (g_iload_n c51025 dJ10_putCharSB_7 rfl).trans ?_
  refine (g_static (as := [v0, .int i1, .int i2]) (rest := []) c51025 dJ10_putCharSB_8 rfl rfl rfl rfl rfl).trans ((jback_V (κx := cX) (fun e h => jthrow_out rfl)).trans (cV_cg fun h4 => ?_))
  exact g_return c51025 dJ10_putCharSB_11 rfl
theorem X51025 {d : Nat} {v0 : Value} {i1 : Int32} {i2 : Int32} (h : AH) (hv0 : isR v0 = true) : M (d + 1) 51025 [v0, .int i1, .int i2] h = G d 51025 0 [v0, .int i1, .int i2] [] h := M_eq rfl rfl (by simp only [jent, jargL_R hv0, jargL]; rfl)
/-! java/lang/StringUTF16.putCharsAt([BICCCC)I -/
abbrev cJ10_putCharsAt : ByteArray := prog_54_method_81_code
def dkwJ10_putCharsAt_3 : List UInt8 := [21, 6, 172]
abbrev dktJ10_putCharsAt_3 : List UInt8 := dkwJ10_putCharsAt_3 ++ []
def dkwJ10_putCharsAt_2 : List UInt8 := [184, 0, 111, 178, 0, 44, 154, 0, 17, 27, 21, 6, 159, 0, 11, 187, 0, 52, 89, 183, 0, 66, 191]
abbrev dktJ10_putCharsAt_2 : List UInt8 := dkwJ10_putCharsAt_2 ++ dktJ10_putCharsAt_3
def dkwJ10_putCharsAt_1 : List UInt8 := [132, 1, 1, 29, 184, 0, 111, 42, 27, 132, 1, 1, 21, 4, 184, 0, 111, 42, 27, 132, 1, 1, 21, 5]
abbrev dktJ10_putCharsAt_1 : List UInt8 := dkwJ10_putCharsAt_1 ++ dktJ10_putCharsAt_2
def dkwJ10_putCharsAt_0 : List UInt8 := [27, 7, 96, 54, 6, 27, 21, 6, 42, 184, 0, 96, 42, 27, 132, 1, 1, 28, 184, 0, 111, 42, 27]
abbrev dktJ10_putCharsAt_0 : List UInt8 := dkwJ10_putCharsAt_0 ++ dktJ10_putCharsAt_1
theorem dksJ10_putCharsAt_0 : cJ10_putCharsAt.data.toList.drop 0 = dktJ10_putCharsAt_0 := by decide +kernel
theorem dksJ10_putCharsAt_1 : cJ10_putCharsAt.data.toList.drop 23 = dktJ10_putCharsAt_1 := dk_seg dksJ10_putCharsAt_0 23 rfl rfl
theorem dksJ10_putCharsAt_2 : cJ10_putCharsAt.data.toList.drop 47 = dktJ10_putCharsAt_2 := dk_seg dksJ10_putCharsAt_1 24 rfl rfl
theorem dksJ10_putCharsAt_3 : cJ10_putCharsAt.data.toList.drop 70 = dktJ10_putCharsAt_3 := dk_seg dksJ10_putCharsAt_2 23 rfl rfl
theorem dJ10_putCharsAt_0 : decode cJ10_putCharsAt 0 = .ok (.iload_n 1, 1) := dk_27 (dk_at dksJ10_putCharsAt_0 0 rfl rfl)
theorem dJ10_putCharsAt_1 : decode cJ10_putCharsAt 1 = .ok (.iconst 4, 1) := dk_7 (dk_at dksJ10_putCharsAt_0 1 rfl rfl)
theorem dJ10_putCharsAt_2 : decode cJ10_putCharsAt 2 = .ok (.iadd, 1) := dk_96 (dk_at dksJ10_putCharsAt_0 2 rfl rfl)
theorem dJ10_putCharsAt_3 : decode cJ10_putCharsAt 3 = .ok (.istore 6, 2) := dk_54 6 (dk_at dksJ10_putCharsAt_0 3 rfl rfl)
theorem dJ10_putCharsAt_5 : decode cJ10_putCharsAt 5 = .ok (.iload_n 1, 1) := dk_27 (dk_at dksJ10_putCharsAt_0 5 rfl rfl)
theorem dJ10_putCharsAt_6 : decode cJ10_putCharsAt 6 = .ok (.iload 6, 2) := dk_21 6 (dk_at dksJ10_putCharsAt_0 6 rfl rfl)
theorem dJ10_putCharsAt_8 : decode cJ10_putCharsAt 8 = .ok (.aload_n 0, 1) := dk_42 (dk_at dksJ10_putCharsAt_0 8 rfl rfl)
theorem dJ10_putCharsAt_9 : decode cJ10_putCharsAt 9 = .ok (.invokestatic 96, 3) := dk_184 0 96 (dk_at dksJ10_putCharsAt_0 9 rfl rfl)
theorem dJ10_putCharsAt_12 : decode cJ10_putCharsAt 12 = .ok (.aload_n 0, 1) := dk_42 (dk_at dksJ10_putCharsAt_0 12 rfl rfl)
theorem dJ10_putCharsAt_13 : decode cJ10_putCharsAt 13 = .ok (.iload_n 1, 1) := dk_27 (dk_at dksJ10_putCharsAt_0 13 rfl rfl)
theorem dJ10_putCharsAt_14 : decode cJ10_putCharsAt 14 = .ok (.iinc 1 1, 3) := dk_132 1 1 (dk_at dksJ10_putCharsAt_0 14 rfl rfl)
theorem dJ10_putCharsAt_17 : decode cJ10_putCharsAt 17 = .ok (.iload_n 2, 1) := dk_28 (dk_at dksJ10_putCharsAt_0 17 rfl rfl)
theorem dJ10_putCharsAt_18 : decode cJ10_putCharsAt 18 = .ok (.invokestatic 111, 3) := dk_184 0 111 (dk_at dksJ10_putCharsAt_0 18 rfl rfl)
theorem dJ10_putCharsAt_21 : decode cJ10_putCharsAt 21 = .ok (.aload_n 0, 1) := dk_42 (dk_at dksJ10_putCharsAt_0 21 rfl rfl)
theorem dJ10_putCharsAt_22 : decode cJ10_putCharsAt 22 = .ok (.iload_n 1, 1) := dk_27 (dk_at dksJ10_putCharsAt_0 22 rfl rfl)
theorem dJ10_putCharsAt_23 : decode cJ10_putCharsAt 23 = .ok (.iinc 1 1, 3) := dk_132 1 1 (dk_at dksJ10_putCharsAt_1 0 rfl rfl)
theorem dJ10_putCharsAt_26 : decode cJ10_putCharsAt 26 = .ok (.iload_n 3, 1) := dk_29 (dk_at dksJ10_putCharsAt_1 3 rfl rfl)
theorem dJ10_putCharsAt_27 : decode cJ10_putCharsAt 27 = .ok (.invokestatic 111, 3) := dk_184 0 111 (dk_at dksJ10_putCharsAt_1 4 rfl rfl)
theorem dJ10_putCharsAt_30 : decode cJ10_putCharsAt 30 = .ok (.aload_n 0, 1) := dk_42 (dk_at dksJ10_putCharsAt_1 7 rfl rfl)
theorem dJ10_putCharsAt_31 : decode cJ10_putCharsAt 31 = .ok (.iload_n 1, 1) := dk_27 (dk_at dksJ10_putCharsAt_1 8 rfl rfl)
theorem dJ10_putCharsAt_32 : decode cJ10_putCharsAt 32 = .ok (.iinc 1 1, 3) := dk_132 1 1 (dk_at dksJ10_putCharsAt_1 9 rfl rfl)
theorem dJ10_putCharsAt_35 : decode cJ10_putCharsAt 35 = .ok (.iload 4, 2) := dk_21 4 (dk_at dksJ10_putCharsAt_1 12 rfl rfl)
theorem dJ10_putCharsAt_37 : decode cJ10_putCharsAt 37 = .ok (.invokestatic 111, 3) := dk_184 0 111 (dk_at dksJ10_putCharsAt_1 14 rfl rfl)
theorem dJ10_putCharsAt_40 : decode cJ10_putCharsAt 40 = .ok (.aload_n 0, 1) := dk_42 (dk_at dksJ10_putCharsAt_1 17 rfl rfl)
theorem dJ10_putCharsAt_41 : decode cJ10_putCharsAt 41 = .ok (.iload_n 1, 1) := dk_27 (dk_at dksJ10_putCharsAt_1 18 rfl rfl)
theorem dJ10_putCharsAt_42 : decode cJ10_putCharsAt 42 = .ok (.iinc 1 1, 3) := dk_132 1 1 (dk_at dksJ10_putCharsAt_1 19 rfl rfl)
theorem dJ10_putCharsAt_45 : decode cJ10_putCharsAt 45 = .ok (.iload 5, 2) := dk_21 5 (dk_at dksJ10_putCharsAt_1 22 rfl rfl)
theorem dJ10_putCharsAt_47 : decode cJ10_putCharsAt 47 = .ok (.invokestatic 111, 3) := dk_184 0 111 (dk_at dksJ10_putCharsAt_2 0 rfl rfl)
theorem dJ10_putCharsAt_50 : decode cJ10_putCharsAt 50 = .ok (.getstatic 44, 3) := dk_178 0 44 (dk_at dksJ10_putCharsAt_2 3 rfl rfl)
theorem dJ10_putCharsAt_53 : decode cJ10_putCharsAt 53 = .ok (.ifCond .ne 17, 3) := dk_154 0 17 (dk_at dksJ10_putCharsAt_2 6 rfl rfl)
theorem dJ10_putCharsAt_56 : decode cJ10_putCharsAt 56 = .ok (.iload_n 1, 1) := dk_27 (dk_at dksJ10_putCharsAt_2 9 rfl rfl)
theorem dJ10_putCharsAt_57 : decode cJ10_putCharsAt 57 = .ok (.iload 6, 2) := dk_21 6 (dk_at dksJ10_putCharsAt_2 10 rfl rfl)
theorem dJ10_putCharsAt_59 : decode cJ10_putCharsAt 59 = .ok (.if_icmp .eq 11, 3) := dk_159 0 11 (dk_at dksJ10_putCharsAt_2 12 rfl rfl)
theorem dJ10_putCharsAt_62 : decode cJ10_putCharsAt 62 = .ok (.new 52, 3) := dk_187 0 52 (dk_at dksJ10_putCharsAt_2 15 rfl rfl)
theorem dJ10_putCharsAt_65 : decode cJ10_putCharsAt 65 = .ok (.dup, 1) := dk_89 (dk_at dksJ10_putCharsAt_2 18 rfl rfl)
theorem dJ10_putCharsAt_66 : decode cJ10_putCharsAt 66 = .ok (.invokespecial 66, 3) := dk_183 0 66 (dk_at dksJ10_putCharsAt_2 19 rfl rfl)
theorem dJ10_putCharsAt_69 : decode cJ10_putCharsAt 69 = .ok (.athrow, 1) := dk_191 (dk_at dksJ10_putCharsAt_2 22 rfl rfl)
theorem dJ10_putCharsAt_70 : decode cJ10_putCharsAt 70 = .ok (.iload 6, 2) := dk_21 6 (dk_at dksJ10_putCharsAt_3 0 rfl rfl)
theorem dJ10_putCharsAt_72 : decode cJ10_putCharsAt 72 = .ok (.ireturn, 1) := dk_172 (dk_at dksJ10_putCharsAt_3 2 rfl rfl)
theorem c51026 : jtCode 51026 = cJ10_putCharsAt := rfl
theorem E51026_0 (d : Nat) (v0 : Value) (i1 : Int32) (i2 : Int32) (i3 : Int32) (i4 : Int32) (i5 : Int32) (h : AH) : G d 51026 0 [v0, .int i1, .int i2, .int i3, .int i4, .int i5, jno] [] h = zkR v0 (zcV (M d 51001 [.int i1, .int (i1 + 4), v0] h) (fun h2 => zkR v0 (zcV (M d 51024 [v0, .int i1, .int i2] h2) (fun h4 => zkR v0 (zcV (M d 51024 [v0, .int (i1 + 1), .int i3] h4) (fun h6 => zkR v0 (zcV (M d 51024 [v0, .int ((i1 + 1) + 1), .int i4] h6) (fun h8 => zkR v0 (zcV (M d 51024 [v0, .int (((i1 + 1) + 1) + 1), .int i5] h8) (fun h10 => if (1 : Int32) = 0 then (if ((((i1 + 1) + 1) + 1) + 1) = (i1 + 4) then (some (.inl (some (.int (i1 + 4))), h10)) else (G d 51026 62 [v0, .int ((((i1 + 1) + 1) + 1) + 1), .int i2, .int i3, .int i4, .int i5, .int (i1 + 4)] [] h10)) else (some (.inl (some (.int (i1 + 4))), h10))) ()) ()) ()) ()) ()) ()) ()) ()) ()) () := by
  refine (g_iload_n c51026 dJ10_putCharsAt_0 rfl).trans ?_
  refine (g_iconst (x := 4) c51026 dJ10_putCharsAt_1 rfl).trans ?_
  refine (g_iadd c51026 dJ10_putCharsAt_2).trans ?_
  refine (g_istore (L' := [v0, .int i1, .int i2, .int i3, .int i4, .int i5, .int (i1 + 4)]) c51026 dJ10_putCharsAt_3 rfl rfl).trans ?_
  refine (g_iload_n c51026 dJ10_putCharsAt_5 rfl).trans ?_
  refine (g_iload c51026 dJ10_putCharsAt_6 rfl).trans ?_
  refine (g_aload_nV c51026 dJ10_putCharsAt_8 rfl).trans (ckR_cg ?_)
  refine (g_static (as := [.int i1, .int (i1 + 4), v0]) (rest := []) c51026 dJ10_putCharsAt_9 rfl rfl rfl rfl rfl).trans ((jback_V (κx := cX) (fun e h => jthrow_out rfl)).trans (cV_cg fun h2 => ?_))
  refine (g_aload_nV c51026 dJ10_putCharsAt_12 rfl).trans (ckR_cg ?_)
  refine (g_iload_n c51026 dJ10_putCharsAt_13 rfl).trans ?_
  refine (g_iinc (c := 1) (L' := [v0, .int (i1 + 1), .int i2, .int i3, .int i4, .int i5, .int (i1 + 4)]) c51026 dJ10_putCharsAt_14 rfl rfl rfl rfl).trans ?_
  refine (g_iload_n c51026 dJ10_putCharsAt_17 rfl).trans ?_
  refine (g_static (as := [v0, .int i1, .int i2]) (rest := []) c51026 dJ10_putCharsAt_18 rfl rfl rfl rfl rfl).trans ((jback_V (κx := cX) (fun e h => jthrow_out rfl)).trans (cV_cg fun h4 => ?_))
  refine (g_aload_nV c51026 dJ10_putCharsAt_21 rfl).trans (ckR_cg ?_)
  refine (g_iload_n c51026 dJ10_putCharsAt_22 rfl).trans ?_
  refine (g_iinc (c := 1) (L' := [v0, .int ((i1 + 1) + 1), .int i2, .int i3, .int i4, .int i5, .int (i1 + 4)]) c51026 dJ10_putCharsAt_23 rfl rfl rfl rfl).trans ?_
  refine (g_iload_n c51026 dJ10_putCharsAt_26 rfl).trans ?_
  refine (g_static (as := [v0, .int (i1 + 1), .int i3]) (rest := []) c51026 dJ10_putCharsAt_27 rfl rfl rfl rfl rfl).trans ((jback_V (κx := cX) (fun e h => jthrow_out rfl)).trans (cV_cg fun h6 => ?_))
  refine (g_aload_nV c51026 dJ10_putCharsAt_30 rfl).trans (ckR_cg ?_)
  refine (g_iload_n c51026 dJ10_putCharsAt_31 rfl).trans ?_
  refine (g_iinc (c := 1) (L' := [v0, .int (((i1 + 1) + 1) + 1), .int i2, .int i3, .int i4, .int i5, .int (i1 + 4)]) c51026 dJ10_putCharsAt_32 rfl rfl rfl rfl).trans ?_
  refine (g_iload c51026 dJ10_putCharsAt_35 rfl).trans ?_
  refine (g_static (as := [v0, .int ((i1 + 1) + 1), .int i4]) (rest := []) c51026 dJ10_putCharsAt_37 rfl rfl rfl rfl rfl).trans ((jback_V (κx := cX) (fun e h => jthrow_out rfl)).trans (cV_cg fun h8 => ?_))
  refine (g_aload_nV c51026 dJ10_putCharsAt_40 rfl).trans (ckR_cg ?_)
  refine (g_iload_n c51026 dJ10_putCharsAt_41 rfl).trans ?_
  refine (g_iinc (c := 1) (L' := [v0, .int ((((i1 + 1) + 1) + 1) + 1), .int i2, .int i3, .int i4, .int i5, .int (i1 + 4)]) c51026 dJ10_putCharsAt_42 rfl rfl rfl rfl).trans ?_
  refine (g_iload c51026 dJ10_putCharsAt_45 rfl).trans ?_
  refine (g_static (as := [v0, .int (((i1 + 1) + 1) + 1), .int i5]) (rest := []) c51026 dJ10_putCharsAt_47 rfl rfl rfl rfl rfl).trans ((jback_V (κx := cX) (fun e h => jthrow_out rfl)).trans (cV_cg fun h10 => ?_))
  refine (g_getsI (x := 1) c51026 dJ10_putCharsAt_50 rfl rfl).trans ?_
  refine (g_if_ne (tgt := 70) c51026 dJ10_putCharsAt_53 rfl).trans (if_cg ?_ ?_)
  · skip
    refine (g_iload_n c51026 dJ10_putCharsAt_56 rfl).trans ?_
    refine (g_iload c51026 dJ10_putCharsAt_57 rfl).trans ?_
    refine (g_icmp_eq (tgt := 70) c51026 dJ10_putCharsAt_59 rfl).trans (if_cg ?_ ?_)
    · skip
      refine (g_iload c51026 dJ10_putCharsAt_70 rfl).trans ?_
      exact g_ireturn c51026 dJ10_putCharsAt_72 rfl
    · skip
      rfl
  · skip
    refine (g_iload c51026 dJ10_putCharsAt_70 rfl).trans ?_
    exact g_ireturn c51026 dJ10_putCharsAt_72 rfl
theorem X51026 {d : Nat} {v0 : Value} {i1 : Int32} {i2 : Int32} {i3 : Int32} {i4 : Int32} {i5 : Int32} (h : AH) (hv0 : isR v0 = true) : M (d + 1) 51026 [v0, .int i1, .int i2, .int i3, .int i4, .int i5] h = G d 51026 0 [v0, .int i1, .int i2, .int i3, .int i4, .int i5, jno] [] h := M_eq rfl rfl (by simp only [jent, jargL_R hv0, jargL]; rfl)
/-! jdk/internal/util/ArraysSupport.newLength(III)I -/
abbrev cJ11_newLength : ByteArray := prog_92_method_27_code
def dkwJ11_newLength_1 : List UInt8 := [184, 0, 201, 172]
abbrev dktJ11_newLength_1 : List UInt8 := dkwJ11_newLength_1 ++ []
def dkwJ11_newLength_0 : List UInt8 := [26, 27, 28, 184, 0, 194, 96, 62, 3, 29, 162, 0, 11, 29, 18, 200, 163, 0, 5, 29, 172, 26, 27]
abbrev dktJ11_newLength_0 : List UInt8 := dkwJ11_newLength_0 ++ dktJ11_newLength_1
theorem dksJ11_newLength_0 : cJ11_newLength.data.toList.drop 0 = dktJ11_newLength_0 := by decide +kernel
theorem dksJ11_newLength_1 : cJ11_newLength.data.toList.drop 23 = dktJ11_newLength_1 := dk_seg dksJ11_newLength_0 23 rfl rfl
theorem dJ11_newLength_0 : decode cJ11_newLength 0 = .ok (.iload_n 0, 1) := dk_26 (dk_at dksJ11_newLength_0 0 rfl rfl)
theorem dJ11_newLength_1 : decode cJ11_newLength 1 = .ok (.iload_n 1, 1) := dk_27 (dk_at dksJ11_newLength_0 1 rfl rfl)
theorem dJ11_newLength_2 : decode cJ11_newLength 2 = .ok (.iload_n 2, 1) := dk_28 (dk_at dksJ11_newLength_0 2 rfl rfl)
theorem dJ11_newLength_3 : decode cJ11_newLength 3 = .ok (.invokestatic 194, 3) := dk_184 0 194 (dk_at dksJ11_newLength_0 3 rfl rfl)
theorem dJ11_newLength_6 : decode cJ11_newLength 6 = .ok (.iadd, 1) := dk_96 (dk_at dksJ11_newLength_0 6 rfl rfl)
theorem dJ11_newLength_7 : decode cJ11_newLength 7 = .ok (.istore_n 3, 1) := dk_62 (dk_at dksJ11_newLength_0 7 rfl rfl)
theorem dJ11_newLength_8 : decode cJ11_newLength 8 = .ok (.iconst 0, 1) := dk_3 (dk_at dksJ11_newLength_0 8 rfl rfl)
theorem dJ11_newLength_9 : decode cJ11_newLength 9 = .ok (.iload_n 3, 1) := dk_29 (dk_at dksJ11_newLength_0 9 rfl rfl)
theorem dJ11_newLength_10 : decode cJ11_newLength 10 = .ok (.if_icmp .ge 11, 3) := dk_162 0 11 (dk_at dksJ11_newLength_0 10 rfl rfl)
theorem dJ11_newLength_13 : decode cJ11_newLength 13 = .ok (.iload_n 3, 1) := dk_29 (dk_at dksJ11_newLength_0 13 rfl rfl)
theorem dJ11_newLength_14 : decode cJ11_newLength 14 = .ok (.ldc 200, 2) := dk_18 200 (dk_at dksJ11_newLength_0 14 rfl rfl)
theorem dJ11_newLength_16 : decode cJ11_newLength 16 = .ok (.if_icmp .gt 5, 3) := dk_163 0 5 (dk_at dksJ11_newLength_0 16 rfl rfl)
theorem dJ11_newLength_19 : decode cJ11_newLength 19 = .ok (.iload_n 3, 1) := dk_29 (dk_at dksJ11_newLength_0 19 rfl rfl)
theorem dJ11_newLength_20 : decode cJ11_newLength 20 = .ok (.ireturn, 1) := dk_172 (dk_at dksJ11_newLength_0 20 rfl rfl)
theorem dJ11_newLength_21 : decode cJ11_newLength 21 = .ok (.iload_n 0, 1) := dk_26 (dk_at dksJ11_newLength_0 21 rfl rfl)
theorem dJ11_newLength_22 : decode cJ11_newLength 22 = .ok (.iload_n 1, 1) := dk_27 (dk_at dksJ11_newLength_0 22 rfl rfl)
theorem dJ11_newLength_23 : decode cJ11_newLength 23 = .ok (.invokestatic 201, 3) := dk_184 0 201 (dk_at dksJ11_newLength_1 0 rfl rfl)
theorem dJ11_newLength_26 : decode cJ11_newLength 26 = .ok (.ireturn, 1) := dk_172 (dk_at dksJ11_newLength_1 3 rfl rfl)
theorem c52003 : jtCode 52003 = cJ11_newLength := rfl
theorem E52003_0 (d : Nat) (i0 : Int32) (i1 : Int32) (i2 : Int32) (h : AH) : G d 52003 0 [.int i0, .int i1, .int i2, jno] [] h = zcI (M d 53000 [.int i1, .int i2] h) (fun x1 h2 => if (i0 + x1) ≤ 0 then (zcI (M d 52000 [.int i0, .int i1] h2) (fun x3 h4 => some (.inl (some (.int x3)), h4)) ()) else (if 2147483639 < (i0 + x1) then (zcI (M d 52000 [.int i0, .int i1] h2) (fun x5 h6 => some (.inl (some (.int x5)), h6)) ()) else (some (.inl (some (.int (i0 + x1))), h2)))) () := by
  refine (g_iload_n c52003 dJ11_newLength_0 rfl).trans ?_
  refine (g_iload_n c52003 dJ11_newLength_1 rfl).trans ?_
  refine (g_iload_n c52003 dJ11_newLength_2 rfl).trans ?_
  refine (g_static (as := [.int i1, .int i2]) (rest := [.int i0]) c52003 dJ11_newLength_3 rfl rfl rfl rfl rfl).trans ((jback_I (κx := cX) (fun e h => jthrow_out rfl)).trans (cI_cg fun x1 h2 => ?_))
  refine (g_iadd c52003 dJ11_newLength_6).trans ?_
  refine (g_istore_n (L' := [.int i0, .int i1, .int i2, .int (i0 + x1)]) c52003 dJ11_newLength_7 rfl rfl).trans ?_
  refine (g_iconst (x := 0) c52003 dJ11_newLength_8 rfl).trans ?_
  refine (g_iload_n c52003 dJ11_newLength_9 rfl).trans ?_
  refine (g_icmp_ge (tgt := 21) c52003 dJ11_newLength_10 rfl).trans (if_cg ?_ ?_)
  · skip
    refine (g_iload_n c52003 dJ11_newLength_21 rfl).trans ?_
    refine (g_iload_n c52003 dJ11_newLength_22 rfl).trans ?_
    refine (g_static (as := [.int i0, .int i1]) (rest := []) c52003 dJ11_newLength_23 rfl rfl rfl rfl rfl).trans ((jback_I (κx := cX) (fun e h => jthrow_out rfl)).trans (cI_cg fun x3 h4 => ?_))
    exact g_ireturn c52003 dJ11_newLength_26 rfl
  · skip
    refine (g_iload_n c52003 dJ11_newLength_13 rfl).trans ?_
    refine (g_ldcI (x := 2147483639) c52003 dJ11_newLength_14 rfl rfl).trans ?_
    refine (g_icmp_gt (tgt := 21) c52003 dJ11_newLength_16 rfl).trans (if_cg ?_ ?_)
    · skip
      refine (g_iload_n c52003 dJ11_newLength_21 rfl).trans ?_
      refine (g_iload_n c52003 dJ11_newLength_22 rfl).trans ?_
      refine (g_static (as := [.int i0, .int i1]) (rest := []) c52003 dJ11_newLength_23 rfl rfl rfl rfl rfl).trans ((jback_I (κx := cX) (fun e h => jthrow_out rfl)).trans (cI_cg fun x5 h6 => ?_))
      exact g_ireturn c52003 dJ11_newLength_26 rfl
    · skip
      refine (g_iload_n c52003 dJ11_newLength_19 rfl).trans ?_
      exact g_ireturn c52003 dJ11_newLength_20 rfl
theorem X52003 {d : Nat} {i0 : Int32} {i1 : Int32} {i2 : Int32} (h : AH) : M (d + 1) 52003 [.int i0, .int i1, .int i2] h = G d 52003 0 [.int i0, .int i1, .int i2, jno] [] h := M_eq rfl rfl rfl
/-! java/lang/Math.max(II)I -/
abbrev cJ12_max : ByteArray := prog_48_method_65_code
def dkwJ12_max_0 : List UInt8 := [26, 27, 161, 0, 7, 26, 167, 0, 4, 27, 172]
abbrev dktJ12_max_0 : List UInt8 := dkwJ12_max_0 ++ []
theorem dksJ12_max_0 : cJ12_max.data.toList.drop 0 = dktJ12_max_0 := by decide +kernel
theorem dJ12_max_0 : decode cJ12_max 0 = .ok (.iload_n 0, 1) := dk_26 (dk_at dksJ12_max_0 0 rfl rfl)
theorem dJ12_max_1 : decode cJ12_max 1 = .ok (.iload_n 1, 1) := dk_27 (dk_at dksJ12_max_0 1 rfl rfl)
theorem dJ12_max_2 : decode cJ12_max 2 = .ok (.if_icmp .lt 7, 3) := dk_161 0 7 (dk_at dksJ12_max_0 2 rfl rfl)
theorem dJ12_max_5 : decode cJ12_max 5 = .ok (.iload_n 0, 1) := dk_26 (dk_at dksJ12_max_0 5 rfl rfl)
theorem dJ12_max_6 : decode cJ12_max 6 = .ok (.goto 4, 3) := dk_167 0 4 (dk_at dksJ12_max_0 6 rfl rfl)
theorem dJ12_max_9 : decode cJ12_max 9 = .ok (.iload_n 1, 1) := dk_27 (dk_at dksJ12_max_0 9 rfl rfl)
theorem dJ12_max_10 : decode cJ12_max 10 = .ok (.ireturn, 1) := dk_172 (dk_at dksJ12_max_0 10 rfl rfl)
theorem c53000 : jtCode 53000 = cJ12_max := rfl
theorem E53000_0 (d : Nat) (i0 : Int32) (i1 : Int32) (h : AH) : G d 53000 0 [.int i0, .int i1] [] h = if i0 < i1 then (some (.inl (some (.int i1)), h)) else (some (.inl (some (.int i0)), h)) := by
  refine (g_iload_n c53000 dJ12_max_0 rfl).trans ?_
  refine (g_iload_n c53000 dJ12_max_1 rfl).trans ?_
  refine (g_icmp_lt (tgt := 9) c53000 dJ12_max_2 rfl).trans (if_cg ?_ ?_)
  · skip
    refine (g_iload_n c53000 dJ12_max_9 rfl).trans ?_
    exact g_ireturn c53000 dJ12_max_10 rfl
  · skip
    refine (g_iload_n c53000 dJ12_max_5 rfl).trans ?_
    refine (g_goto (tgt := 10) c53000 dJ12_max_6 rfl).trans ?_
    exact g_ireturn c53000 dJ12_max_10 rfl
theorem X53000 {d : Nat} {i0 : Int32} {i1 : Int32} (h : AH) : M (d + 1) 53000 [.int i0, .int i1] h = G d 53000 0 [.int i0, .int i1] [] h := M_eq rfl rfl rfl
/-! java/lang/Math.min(II)I -/
abbrev cJ12_min : ByteArray := prog_48_method_69_code
def dkwJ12_min_0 : List UInt8 := [26, 27, 163, 0, 7, 26, 167, 0, 4, 27, 172]
abbrev dktJ12_min_0 : List UInt8 := dkwJ12_min_0 ++ []
theorem dksJ12_min_0 : cJ12_min.data.toList.drop 0 = dktJ12_min_0 := by decide +kernel
theorem dJ12_min_0 : decode cJ12_min 0 = .ok (.iload_n 0, 1) := dk_26 (dk_at dksJ12_min_0 0 rfl rfl)
theorem dJ12_min_1 : decode cJ12_min 1 = .ok (.iload_n 1, 1) := dk_27 (dk_at dksJ12_min_0 1 rfl rfl)
theorem dJ12_min_2 : decode cJ12_min 2 = .ok (.if_icmp .gt 7, 3) := dk_163 0 7 (dk_at dksJ12_min_0 2 rfl rfl)
theorem dJ12_min_5 : decode cJ12_min 5 = .ok (.iload_n 0, 1) := dk_26 (dk_at dksJ12_min_0 5 rfl rfl)
theorem dJ12_min_6 : decode cJ12_min 6 = .ok (.goto 4, 3) := dk_167 0 4 (dk_at dksJ12_min_0 6 rfl rfl)
theorem dJ12_min_9 : decode cJ12_min 9 = .ok (.iload_n 1, 1) := dk_27 (dk_at dksJ12_min_0 9 rfl rfl)
theorem dJ12_min_10 : decode cJ12_min 10 = .ok (.ireturn, 1) := dk_172 (dk_at dksJ12_min_0 10 rfl rfl)
theorem c53001 : jtCode 53001 = cJ12_min := rfl
theorem E53001_0 (d : Nat) (i0 : Int32) (i1 : Int32) (h : AH) : G d 53001 0 [.int i0, .int i1] [] h = if i1 < i0 then (some (.inl (some (.int i1)), h)) else (some (.inl (some (.int i0)), h)) := by
  refine (g_iload_n c53001 dJ12_min_0 rfl).trans ?_
  refine (g_iload_n c53001 dJ12_min_1 rfl).trans ?_
  refine (g_icmp_gt (tgt := 9) c53001 dJ12_min_2 rfl).trans (if_cg ?_ ?_)
  · skip
    refine (g_iload_n c53001 dJ12_min_9 rfl).trans ?_
    exact g_ireturn c53001 dJ12_min_10 rfl
  · skip
    refine (g_iload_n c53001 dJ12_min_5 rfl).trans ?_
    refine (g_goto (tgt := 10) c53001 dJ12_min_6 rfl).trans ?_
    exact g_ireturn c53001 dJ12_min_10 rfl
theorem X53001 {d : Nat} {i0 : Int32} {i1 : Int32} (h : AH) : M (d + 1) 53001 [.int i0, .int i1] h = G d 53001 0 [.int i0, .int i1] [] h := M_eq rfl rfl rfl
/-! java/lang/StringLatin1.canEncode(C)Z -/
abbrev cJ13_canEncode : ByteArray := prog_53_method_3_code
def dkwJ13_canEncode_0 : List UInt8 := [26, 17, 0, 255, 163, 0, 7, 4, 167, 0, 4, 3, 172]
abbrev dktJ13_canEncode_0 : List UInt8 := dkwJ13_canEncode_0 ++ []
theorem dksJ13_canEncode_0 : cJ13_canEncode.data.toList.drop 0 = dktJ13_canEncode_0 := by decide +kernel
theorem dJ13_canEncode_0 : decode cJ13_canEncode 0 = .ok (.iload_n 0, 1) := dk_26 (dk_at dksJ13_canEncode_0 0 rfl rfl)
theorem dJ13_canEncode_1 : decode cJ13_canEncode 1 = .ok (.sipush 255, 3) := dk_17 0 255 (dk_at dksJ13_canEncode_0 1 rfl rfl)
theorem dJ13_canEncode_4 : decode cJ13_canEncode 4 = .ok (.if_icmp .gt 7, 3) := dk_163 0 7 (dk_at dksJ13_canEncode_0 4 rfl rfl)
theorem dJ13_canEncode_7 : decode cJ13_canEncode 7 = .ok (.iconst 1, 1) := dk_4 (dk_at dksJ13_canEncode_0 7 rfl rfl)
theorem dJ13_canEncode_8 : decode cJ13_canEncode 8 = .ok (.goto 4, 3) := dk_167 0 4 (dk_at dksJ13_canEncode_0 8 rfl rfl)
theorem dJ13_canEncode_11 : decode cJ13_canEncode 11 = .ok (.iconst 0, 1) := dk_3 (dk_at dksJ13_canEncode_0 11 rfl rfl)
theorem dJ13_canEncode_12 : decode cJ13_canEncode 12 = .ok (.ireturn, 1) := dk_172 (dk_at dksJ13_canEncode_0 12 rfl rfl)
theorem c54000 : jtCode 54000 = cJ13_canEncode := rfl
theorem E54000_0 (d : Nat) (i0 : Int32) (h : AH) : G d 54000 0 [.int i0] [] h = if 255 < i0 then (some (.inl (some (.int 0)), h)) else (some (.inl (some (.int 1)), h)) := by
  refine (g_iload_n c54000 dJ13_canEncode_0 rfl).trans ?_
  refine (g_sipush (x := 255) c54000 dJ13_canEncode_1 rfl).trans ?_
  refine (g_icmp_gt (tgt := 11) c54000 dJ13_canEncode_4 rfl).trans (if_cg ?_ ?_)
  · skip
    refine (g_iconst (x := 0) c54000 dJ13_canEncode_11 rfl).trans ?_
    exact g_zreturn0 c54000 dJ13_canEncode_12 rfl
  · skip
    refine (g_iconst (x := 1) c54000 dJ13_canEncode_7 rfl).trans ?_
    refine (g_goto (tgt := 12) c54000 dJ13_canEncode_8 rfl).trans ?_
    exact g_zreturn1 c54000 dJ13_canEncode_12 rfl
theorem X54000 {d : Nat} {i0 : Int32} (h : AH) : M (d + 1) 54000 [.int i0] h = G d 54000 0 [.int i0] [] h := M_eq rfl rfl rfl
/-! java/lang/StringLatin1.equals([B[B)Z -/
abbrev cJ13_equals : ByteArray := prog_53_method_13_code
def dkwJ13_equals_1 : List UInt8 := [3, 172, 132, 2, 1, 167, 255, 236, 4, 172, 3, 172]
abbrev dktJ13_equals_1 : List UInt8 := dkwJ13_equals_1 ++ []
def dkwJ13_equals_0 : List UInt8 := [42, 190, 43, 190, 160, 0, 30, 3, 61, 28, 42, 190, 162, 0, 20, 42, 28, 51, 43, 28, 51, 159, 0, 5]
abbrev dktJ13_equals_0 : List UInt8 := dkwJ13_equals_0 ++ dktJ13_equals_1
theorem dksJ13_equals_0 : cJ13_equals.data.toList.drop 0 = dktJ13_equals_0 := by decide +kernel
theorem dksJ13_equals_1 : cJ13_equals.data.toList.drop 24 = dktJ13_equals_1 := dk_seg dksJ13_equals_0 24 rfl rfl
theorem dJ13_equals_0 : decode cJ13_equals 0 = .ok (.aload_n 0, 1) := dk_42 (dk_at dksJ13_equals_0 0 rfl rfl)
theorem dJ13_equals_1 : decode cJ13_equals 1 = .ok (.arraylength, 1) := dk_190 (dk_at dksJ13_equals_0 1 rfl rfl)
theorem dJ13_equals_2 : decode cJ13_equals 2 = .ok (.aload_n 1, 1) := dk_43 (dk_at dksJ13_equals_0 2 rfl rfl)
theorem dJ13_equals_3 : decode cJ13_equals 3 = .ok (.arraylength, 1) := dk_190 (dk_at dksJ13_equals_0 3 rfl rfl)
theorem dJ13_equals_4 : decode cJ13_equals 4 = .ok (.if_icmp .ne 30, 3) := dk_160 0 30 (dk_at dksJ13_equals_0 4 rfl rfl)
theorem dJ13_equals_7 : decode cJ13_equals 7 = .ok (.iconst 0, 1) := dk_3 (dk_at dksJ13_equals_0 7 rfl rfl)
theorem dJ13_equals_8 : decode cJ13_equals 8 = .ok (.istore_n 2, 1) := dk_61 (dk_at dksJ13_equals_0 8 rfl rfl)
theorem dJ13_equals_9 : decode cJ13_equals 9 = .ok (.iload_n 2, 1) := dk_28 (dk_at dksJ13_equals_0 9 rfl rfl)
theorem dJ13_equals_10 : decode cJ13_equals 10 = .ok (.aload_n 0, 1) := dk_42 (dk_at dksJ13_equals_0 10 rfl rfl)
theorem dJ13_equals_11 : decode cJ13_equals 11 = .ok (.arraylength, 1) := dk_190 (dk_at dksJ13_equals_0 11 rfl rfl)
theorem dJ13_equals_12 : decode cJ13_equals 12 = .ok (.if_icmp .ge 20, 3) := dk_162 0 20 (dk_at dksJ13_equals_0 12 rfl rfl)
theorem dJ13_equals_15 : decode cJ13_equals 15 = .ok (.aload_n 0, 1) := dk_42 (dk_at dksJ13_equals_0 15 rfl rfl)
theorem dJ13_equals_16 : decode cJ13_equals 16 = .ok (.iload_n 2, 1) := dk_28 (dk_at dksJ13_equals_0 16 rfl rfl)
theorem dJ13_equals_17 : decode cJ13_equals 17 = .ok (.baload, 1) := dk_51 (dk_at dksJ13_equals_0 17 rfl rfl)
theorem dJ13_equals_18 : decode cJ13_equals 18 = .ok (.aload_n 1, 1) := dk_43 (dk_at dksJ13_equals_0 18 rfl rfl)
theorem dJ13_equals_19 : decode cJ13_equals 19 = .ok (.iload_n 2, 1) := dk_28 (dk_at dksJ13_equals_0 19 rfl rfl)
theorem dJ13_equals_20 : decode cJ13_equals 20 = .ok (.baload, 1) := dk_51 (dk_at dksJ13_equals_0 20 rfl rfl)
theorem dJ13_equals_21 : decode cJ13_equals 21 = .ok (.if_icmp .eq 5, 3) := dk_159 0 5 (dk_at dksJ13_equals_0 21 rfl rfl)
theorem dJ13_equals_24 : decode cJ13_equals 24 = .ok (.iconst 0, 1) := dk_3 (dk_at dksJ13_equals_1 0 rfl rfl)
theorem dJ13_equals_25 : decode cJ13_equals 25 = .ok (.ireturn, 1) := dk_172 (dk_at dksJ13_equals_1 1 rfl rfl)
theorem dJ13_equals_26 : decode cJ13_equals 26 = .ok (.iinc 2 1, 3) := dk_132 2 1 (dk_at dksJ13_equals_1 2 rfl rfl)
theorem dJ13_equals_29 : decode cJ13_equals 29 = .ok (.goto (-20), 3) := dk_167 255 236 (dk_at dksJ13_equals_1 5 rfl rfl)
theorem dJ13_equals_32 : decode cJ13_equals 32 = .ok (.iconst 1, 1) := dk_4 (dk_at dksJ13_equals_1 8 rfl rfl)
theorem dJ13_equals_33 : decode cJ13_equals 33 = .ok (.ireturn, 1) := dk_172 (dk_at dksJ13_equals_1 9 rfl rfl)
theorem dJ13_equals_34 : decode cJ13_equals 34 = .ok (.iconst 0, 1) := dk_3 (dk_at dksJ13_equals_1 10 rfl rfl)
theorem dJ13_equals_35 : decode cJ13_equals 35 = .ok (.ireturn, 1) := dk_172 (dk_at dksJ13_equals_1 11 rfl rfl)
theorem c54007 : jtCode 54007 = cJ13_equals := rfl
theorem E54007_0 (d : Nat) (v0 : Value) (v1 : Value) (h : AH) : G d 54007 0 [v0, v1, jno] [] h = zkR v0 (zqL h v0 (fun x1 => zkR v1 (zqL h v1 (fun x2 => if x1 = x2 then (G d 54007 9 [v0, v1, .int 0] [] h) else (some (.inl (some (.int 0)), h))) ()) ()) ()) () := by
  refine (g_aload_nV c54007 dJ13_equals_0 rfl).trans (ckR_cg ?_)
  refine (g_alen c54007 dJ13_equals_1).trans (aL_cg fun x1 => ?_)
  refine (g_aload_nV c54007 dJ13_equals_2 rfl).trans (ckR_cg ?_)
  refine (g_alen c54007 dJ13_equals_3).trans (aL_cg fun x2 => ?_)
  refine (g_icmp_ne (tgt := 34) c54007 dJ13_equals_4 rfl).trans (if_cg ?_ ?_)
  · skip
    refine (g_iconst (x := 0) c54007 dJ13_equals_7 rfl).trans ?_
    refine (g_istore_n (L' := [v0, v1, .int 0]) c54007 dJ13_equals_8 rfl rfl).trans ?_
    rfl
  · skip
    refine (g_iconst (x := 0) c54007 dJ13_equals_34 rfl).trans ?_
    exact g_zreturn0 c54007 dJ13_equals_35 rfl
theorem E54007_9 (d : Nat) (v0 : Value) (v1 : Value) (i2 : Int32) (h : AH) : G d 54007 9 [v0, v1, .int i2] [] h = zkR v0 (zqL h v0 (fun x1 => if x1 ≤ i2 then (some (.inl (some (.int 1)), h)) else (zkR v0 (zqG h v0 [1010, 1011, 1020] i2 (fun w2 => zpI w2 (fun x3 => zkR v1 (zqG h v1 [1010, 1011, 1020] i2 (fun w4 => zpI w4 (fun x5 => if x3 = x5 then (G d 54007 9 [v0, v1, .int (i2 + 1)] [] h) else (some (.inl (some (.int 0)), h))) ()) ()) ()) ()) ()) ())) ()) () := by
  refine (g_iload_n c54007 dJ13_equals_9 rfl).trans ?_
  refine (g_aload_nV c54007 dJ13_equals_10 rfl).trans (ckR_cg ?_)
  refine (g_alen c54007 dJ13_equals_11).trans (aL_cg fun x1 => ?_)
  refine (g_icmp_ge (tgt := 32) c54007 dJ13_equals_12 rfl).trans (if_cg ?_ ?_)
  · skip
    refine (g_iconst (x := 1) c54007 dJ13_equals_32 rfl).trans ?_
    exact g_zreturn1 c54007 dJ13_equals_33 rfl
  · skip
    refine (g_aload_nV c54007 dJ13_equals_15 rfl).trans (ckR_cg ?_)
    refine (g_iload_n c54007 dJ13_equals_16 rfl).trans ?_
    refine (g_baload c54007 dJ13_equals_17).trans (aG_cg fun w2 => rI_cg fun x3 => ?_)
    refine (g_aload_nV c54007 dJ13_equals_18 rfl).trans (ckR_cg ?_)
    refine (g_iload_n c54007 dJ13_equals_19 rfl).trans ?_
    refine (g_baload c54007 dJ13_equals_20).trans (aG_cg fun w4 => rI_cg fun x5 => ?_)
    refine (g_icmp_eq (tgt := 26) c54007 dJ13_equals_21 rfl).trans (if_cg ?_ ?_)
    · skip
      refine (g_iinc (c := 1) (L' := [v0, v1, .int (i2 + 1)]) c54007 dJ13_equals_26 rfl rfl rfl rfl).trans ?_
      refine (g_goto (tgt := 9) c54007 dJ13_equals_29 rfl).trans ?_
      rfl
    · skip
      refine (g_iconst (x := 0) c54007 dJ13_equals_24 rfl).trans ?_
      exact g_zreturn0 c54007 dJ13_equals_25 rfl
theorem X54007 {d : Nat} {v0 : Value} {v1 : Value} (h : AH) (hv0 : isR v0 = true) (hv1 : isR v1 = true) : M (d + 1) 54007 [v0, v1] h = G d 54007 0 [v0, v1, jno] [] h := M_eq rfl rfl (by simp only [jent, jargL_R hv0, jargL_R hv1, jargL]; rfl)
/-! java/lang/StringLatin1.inflate([BI[BII)V -/
abbrev cJ13_inflate : ByteArray := prog_53_method_50_code
def dkwJ13_inflate_0 : List UInt8 := [42, 27, 44, 29, 21, 4, 184, 0, 240, 177]
abbrev dktJ13_inflate_0 : List UInt8 := dkwJ13_inflate_0 ++ []
theorem dksJ13_inflate_0 : cJ13_inflate.data.toList.drop 0 = dktJ13_inflate_0 := by decide +kernel
theorem dJ13_inflate_0 : decode cJ13_inflate 0 = .ok (.aload_n 0, 1) := dk_42 (dk_at dksJ13_inflate_0 0 rfl rfl)
theorem dJ13_inflate_1 : decode cJ13_inflate 1 = .ok (.iload_n 1, 1) := dk_27 (dk_at dksJ13_inflate_0 1 rfl rfl)
theorem dJ13_inflate_2 : decode cJ13_inflate 2 = .ok (.aload_n 2, 1) := dk_44 (dk_at dksJ13_inflate_0 2 rfl rfl)
theorem dJ13_inflate_3 : decode cJ13_inflate 3 = .ok (.iload_n 3, 1) := dk_29 (dk_at dksJ13_inflate_0 3 rfl rfl)
theorem dJ13_inflate_4 : decode cJ13_inflate 4 = .ok (.iload 4, 2) := dk_21 4 (dk_at dksJ13_inflate_0 4 rfl rfl)
theorem dJ13_inflate_6 : decode cJ13_inflate 6 = .ok (.invokestatic 240, 3) := dk_184 0 240 (dk_at dksJ13_inflate_0 6 rfl rfl)
theorem dJ13_inflate_9 : decode cJ13_inflate 9 = .ok (.return_, 1) := dk_177 (dk_at dksJ13_inflate_0 9 rfl rfl)
theorem c54011 : jtCode 54011 = cJ13_inflate := rfl
theorem E54011_0 (d : Nat) (v0 : Value) (i1 : Int32) (v2 : Value) (i3 : Int32) (i4 : Int32) (h : AH) : G d 54011 0 [v0, .int i1, v2, .int i3, .int i4] [] h = zkR v0 (zkR v2 (zcV (M d 51020 [v0, .int i1, v2, .int i3, .int i4] h) (fun h2 => some (.inl none, h2)) ()) ()) () := by
  refine (g_aload_nV c54011 dJ13_inflate_0 rfl).trans (ckR_cg ?_)
  refine (g_iload_n c54011 dJ13_inflate_1 rfl).trans ?_
  refine (g_aload_nV c54011 dJ13_inflate_2 rfl).trans (ckR_cg ?_)
  refine (g_iload_n c54011 dJ13_inflate_3 rfl).trans ?_
  refine (g_iload c54011 dJ13_inflate_4 rfl).trans ?_
  refine (g_static (as := [v0, .int i1, v2, .int i3, .int i4]) (rest := []) c54011 dJ13_inflate_6 rfl rfl rfl rfl rfl).trans ((jback_V (κx := cX) (fun e h => jthrow_out rfl)).trans (cV_cg fun h2 => ?_))
  exact g_return c54011 dJ13_inflate_9 rfl
theorem X54011 {d : Nat} {v0 : Value} {i1 : Int32} {v2 : Value} {i3 : Int32} {i4 : Int32} (h : AH) (hv0 : isR v0 = true) (hv2 : isR v2 = true) : M (d + 1) 54011 [v0, .int i1, v2, .int i3, .int i4] h = G d 54011 0 [v0, .int i1, v2, .int i3, .int i4] [] h := M_eq rfl rfl (by simp only [jent, jargL_R hv0, jargL_R hv2, jargL]; rfl)
/-! jdk/internal/util/Preconditions.checkFromToIndex(IIILjava/util/function/BiFunction;)I -/
abbrev cJ14_checkFromToIndex : ByteArray := prog_93_method_12_code
def dkwJ14_checkFromToIndex_0 : List UInt8 := [26, 155, 0, 13, 26, 27, 163, 0, 8, 27, 28, 164, 0, 11, 45, 26, 27, 28, 184, 0, 99, 191, 26, 172]
abbrev dktJ14_checkFromToIndex_0 : List UInt8 := dkwJ14_checkFromToIndex_0 ++ []
theorem dksJ14_checkFromToIndex_0 : cJ14_checkFromToIndex.data.toList.drop 0 = dktJ14_checkFromToIndex_0 := by decide +kernel
theorem dJ14_checkFromToIndex_0 : decode cJ14_checkFromToIndex 0 = .ok (.iload_n 0, 1) := dk_26 (dk_at dksJ14_checkFromToIndex_0 0 rfl rfl)
theorem dJ14_checkFromToIndex_1 : decode cJ14_checkFromToIndex 1 = .ok (.ifCond .lt 13, 3) := dk_155 0 13 (dk_at dksJ14_checkFromToIndex_0 1 rfl rfl)
theorem dJ14_checkFromToIndex_4 : decode cJ14_checkFromToIndex 4 = .ok (.iload_n 0, 1) := dk_26 (dk_at dksJ14_checkFromToIndex_0 4 rfl rfl)
theorem dJ14_checkFromToIndex_5 : decode cJ14_checkFromToIndex 5 = .ok (.iload_n 1, 1) := dk_27 (dk_at dksJ14_checkFromToIndex_0 5 rfl rfl)
theorem dJ14_checkFromToIndex_6 : decode cJ14_checkFromToIndex 6 = .ok (.if_icmp .gt 8, 3) := dk_163 0 8 (dk_at dksJ14_checkFromToIndex_0 6 rfl rfl)
theorem dJ14_checkFromToIndex_9 : decode cJ14_checkFromToIndex 9 = .ok (.iload_n 1, 1) := dk_27 (dk_at dksJ14_checkFromToIndex_0 9 rfl rfl)
theorem dJ14_checkFromToIndex_10 : decode cJ14_checkFromToIndex 10 = .ok (.iload_n 2, 1) := dk_28 (dk_at dksJ14_checkFromToIndex_0 10 rfl rfl)
theorem dJ14_checkFromToIndex_11 : decode cJ14_checkFromToIndex 11 = .ok (.if_icmp .le 11, 3) := dk_164 0 11 (dk_at dksJ14_checkFromToIndex_0 11 rfl rfl)
theorem dJ14_checkFromToIndex_14 : decode cJ14_checkFromToIndex 14 = .ok (.aload_n 3, 1) := dk_45 (dk_at dksJ14_checkFromToIndex_0 14 rfl rfl)
theorem dJ14_checkFromToIndex_15 : decode cJ14_checkFromToIndex 15 = .ok (.iload_n 0, 1) := dk_26 (dk_at dksJ14_checkFromToIndex_0 15 rfl rfl)
theorem dJ14_checkFromToIndex_16 : decode cJ14_checkFromToIndex 16 = .ok (.iload_n 1, 1) := dk_27 (dk_at dksJ14_checkFromToIndex_0 16 rfl rfl)
theorem dJ14_checkFromToIndex_17 : decode cJ14_checkFromToIndex 17 = .ok (.iload_n 2, 1) := dk_28 (dk_at dksJ14_checkFromToIndex_0 17 rfl rfl)
theorem dJ14_checkFromToIndex_18 : decode cJ14_checkFromToIndex 18 = .ok (.invokestatic 99, 3) := dk_184 0 99 (dk_at dksJ14_checkFromToIndex_0 18 rfl rfl)
theorem dJ14_checkFromToIndex_21 : decode cJ14_checkFromToIndex 21 = .ok (.athrow, 1) := dk_191 (dk_at dksJ14_checkFromToIndex_0 21 rfl rfl)
theorem dJ14_checkFromToIndex_22 : decode cJ14_checkFromToIndex 22 = .ok (.iload_n 0, 1) := dk_26 (dk_at dksJ14_checkFromToIndex_0 22 rfl rfl)
theorem dJ14_checkFromToIndex_23 : decode cJ14_checkFromToIndex 23 = .ok (.ireturn, 1) := dk_172 (dk_at dksJ14_checkFromToIndex_0 23 rfl rfl)
theorem c55001 : jtCode 55001 = cJ14_checkFromToIndex := rfl
theorem E55001_0 (d : Nat) (i0 : Int32) (i1 : Int32) (i2 : Int32) (v3 : Value) (h : AH) : G d 55001 0 [.int i0, .int i1, .int i2, v3] [] h = if i0 < 0 then (zkR v3 (G d 55001 18 [.int i0, .int i1, .int i2, v3] [.int i2, .int i1, .int i0, v3] h) ()) else (if i1 < i0 then (zkR v3 (G d 55001 18 [.int i0, .int i1, .int i2, v3] [.int i2, .int i1, .int i0, v3] h) ()) else (if i1 ≤ i2 then (some (.inl (some (.int i0)), h)) else (zkR v3 (G d 55001 18 [.int i0, .int i1, .int i2, v3] [.int i2, .int i1, .int i0, v3] h) ()))) := by
  refine (g_iload_n c55001 dJ14_checkFromToIndex_0 rfl).trans ?_
  refine (g_if_lt (tgt := 14) c55001 dJ14_checkFromToIndex_1 rfl).trans (if_cg ?_ ?_)
  · skip
    refine (g_aload_nV c55001 dJ14_checkFromToIndex_14 rfl).trans (ckR_cg ?_)
    refine (g_iload_n c55001 dJ14_checkFromToIndex_15 rfl).trans ?_
    refine (g_iload_n c55001 dJ14_checkFromToIndex_16 rfl).trans ?_
    refine (g_iload_n c55001 dJ14_checkFromToIndex_17 rfl).trans ?_
    rfl
  · skip
    refine (g_iload_n c55001 dJ14_checkFromToIndex_4 rfl).trans ?_
    refine (g_iload_n c55001 dJ14_checkFromToIndex_5 rfl).trans ?_
    refine (g_icmp_gt (tgt := 14) c55001 dJ14_checkFromToIndex_6 rfl).trans (if_cg ?_ ?_)
    · skip
      refine (g_aload_nV c55001 dJ14_checkFromToIndex_14 rfl).trans (ckR_cg ?_)
      refine (g_iload_n c55001 dJ14_checkFromToIndex_15 rfl).trans ?_
      refine (g_iload_n c55001 dJ14_checkFromToIndex_16 rfl).trans ?_
      refine (g_iload_n c55001 dJ14_checkFromToIndex_17 rfl).trans ?_
      rfl
    · skip
      refine (g_iload_n c55001 dJ14_checkFromToIndex_9 rfl).trans ?_
      refine (g_iload_n c55001 dJ14_checkFromToIndex_10 rfl).trans ?_
      refine (g_icmp_le (tgt := 22) c55001 dJ14_checkFromToIndex_11 rfl).trans (if_cg ?_ ?_)
      · skip
        refine (g_iload_n c55001 dJ14_checkFromToIndex_22 rfl).trans ?_
        exact g_ireturn c55001 dJ14_checkFromToIndex_23 rfl
      · skip
        refine (g_aload_nV c55001 dJ14_checkFromToIndex_14 rfl).trans (ckR_cg ?_)
        refine (g_iload_n c55001 dJ14_checkFromToIndex_15 rfl).trans ?_
        refine (g_iload_n c55001 dJ14_checkFromToIndex_16 rfl).trans ?_
        refine (g_iload_n c55001 dJ14_checkFromToIndex_17 rfl).trans ?_
        rfl
theorem X55001 {d : Nat} {i0 : Int32} {i1 : Int32} {i2 : Int32} {v3 : Value} (h : AH) (hv3 : isR v3 = true) : M (d + 1) 55001 [.int i0, .int i1, .int i2, v3] h = G d 55001 0 [.int i0, .int i1, .int i2, v3] [] h := M_eq rfl rfl (by simp only [jent, jargL_R hv3, jargL]; rfl)
/-! jdk/internal/util/Preconditions.checkIndex(IILjava/util/function/BiFunction;)I -/
abbrev cJ14_checkIndex : ByteArray := prog_93_method_11_code
def dkwJ14_checkIndex_0 : List UInt8 := [26, 155, 0, 8, 26, 27, 161, 0, 10, 44, 26, 27, 184, 0, 95, 191, 26, 172]
abbrev dktJ14_checkIndex_0 : List UInt8 := dkwJ14_checkIndex_0 ++ []
theorem dksJ14_checkIndex_0 : cJ14_checkIndex.data.toList.drop 0 = dktJ14_checkIndex_0 := by decide +kernel
theorem dJ14_checkIndex_0 : decode cJ14_checkIndex 0 = .ok (.iload_n 0, 1) := dk_26 (dk_at dksJ14_checkIndex_0 0 rfl rfl)
theorem dJ14_checkIndex_1 : decode cJ14_checkIndex 1 = .ok (.ifCond .lt 8, 3) := dk_155 0 8 (dk_at dksJ14_checkIndex_0 1 rfl rfl)
theorem dJ14_checkIndex_4 : decode cJ14_checkIndex 4 = .ok (.iload_n 0, 1) := dk_26 (dk_at dksJ14_checkIndex_0 4 rfl rfl)
theorem dJ14_checkIndex_5 : decode cJ14_checkIndex 5 = .ok (.iload_n 1, 1) := dk_27 (dk_at dksJ14_checkIndex_0 5 rfl rfl)
theorem dJ14_checkIndex_6 : decode cJ14_checkIndex 6 = .ok (.if_icmp .lt 10, 3) := dk_161 0 10 (dk_at dksJ14_checkIndex_0 6 rfl rfl)
theorem dJ14_checkIndex_9 : decode cJ14_checkIndex 9 = .ok (.aload_n 2, 1) := dk_44 (dk_at dksJ14_checkIndex_0 9 rfl rfl)
theorem dJ14_checkIndex_10 : decode cJ14_checkIndex 10 = .ok (.iload_n 0, 1) := dk_26 (dk_at dksJ14_checkIndex_0 10 rfl rfl)
theorem dJ14_checkIndex_11 : decode cJ14_checkIndex 11 = .ok (.iload_n 1, 1) := dk_27 (dk_at dksJ14_checkIndex_0 11 rfl rfl)
theorem dJ14_checkIndex_12 : decode cJ14_checkIndex 12 = .ok (.invokestatic 95, 3) := dk_184 0 95 (dk_at dksJ14_checkIndex_0 12 rfl rfl)
theorem dJ14_checkIndex_15 : decode cJ14_checkIndex 15 = .ok (.athrow, 1) := dk_191 (dk_at dksJ14_checkIndex_0 15 rfl rfl)
theorem dJ14_checkIndex_16 : decode cJ14_checkIndex 16 = .ok (.iload_n 0, 1) := dk_26 (dk_at dksJ14_checkIndex_0 16 rfl rfl)
theorem dJ14_checkIndex_17 : decode cJ14_checkIndex 17 = .ok (.ireturn, 1) := dk_172 (dk_at dksJ14_checkIndex_0 17 rfl rfl)
theorem c55002 : jtCode 55002 = cJ14_checkIndex := rfl
theorem E55002_0 (d : Nat) (i0 : Int32) (i1 : Int32) (v2 : Value) (h : AH) : G d 55002 0 [.int i0, .int i1, v2] [] h = if i0 < 0 then (zkR v2 (G d 55002 12 [.int i0, .int i1, v2] [.int i1, .int i0, v2] h) ()) else (if i0 < i1 then (some (.inl (some (.int i0)), h)) else (zkR v2 (G d 55002 12 [.int i0, .int i1, v2] [.int i1, .int i0, v2] h) ())) := by
  refine (g_iload_n c55002 dJ14_checkIndex_0 rfl).trans ?_
  refine (g_if_lt (tgt := 9) c55002 dJ14_checkIndex_1 rfl).trans (if_cg ?_ ?_)
  · skip
    refine (g_aload_nV c55002 dJ14_checkIndex_9 rfl).trans (ckR_cg ?_)
    refine (g_iload_n c55002 dJ14_checkIndex_10 rfl).trans ?_
    refine (g_iload_n c55002 dJ14_checkIndex_11 rfl).trans ?_
    rfl
  · skip
    refine (g_iload_n c55002 dJ14_checkIndex_4 rfl).trans ?_
    refine (g_iload_n c55002 dJ14_checkIndex_5 rfl).trans ?_
    refine (g_icmp_lt (tgt := 16) c55002 dJ14_checkIndex_6 rfl).trans (if_cg ?_ ?_)
    · skip
      refine (g_iload_n c55002 dJ14_checkIndex_16 rfl).trans ?_
      exact g_ireturn c55002 dJ14_checkIndex_17 rfl
    · skip
      refine (g_aload_nV c55002 dJ14_checkIndex_9 rfl).trans (ckR_cg ?_)
      refine (g_iload_n c55002 dJ14_checkIndex_10 rfl).trans ?_
      refine (g_iload_n c55002 dJ14_checkIndex_11 rfl).trans ?_
      rfl
theorem X55002 {d : Nat} {i0 : Int32} {i1 : Int32} {v2 : Value} (h : AH) (hv2 : isR v2 = true) : M (d + 1) 55002 [.int i0, .int i1, v2] h = G d 55002 0 [.int i0, .int i1, v2] [] h := M_eq rfl rfl (by simp only [jent, jargL_R hv2, jargL]; rfl)
/-! java/util/Objects.checkIndex(II)I -/
abbrev cJ17_checkIndex : ByteArray := prog_85_method_17_code
def dkwJ17_checkIndex_0 : List UInt8 := [26, 27, 1, 184, 0, 105, 172]
abbrev dktJ17_checkIndex_0 : List UInt8 := dkwJ17_checkIndex_0 ++ []
theorem dksJ17_checkIndex_0 : cJ17_checkIndex.data.toList.drop 0 = dktJ17_checkIndex_0 := by decide +kernel
theorem dJ17_checkIndex_0 : decode cJ17_checkIndex 0 = .ok (.iload_n 0, 1) := dk_26 (dk_at dksJ17_checkIndex_0 0 rfl rfl)
theorem dJ17_checkIndex_1 : decode cJ17_checkIndex 1 = .ok (.iload_n 1, 1) := dk_27 (dk_at dksJ17_checkIndex_0 1 rfl rfl)
theorem dJ17_checkIndex_2 : decode cJ17_checkIndex 2 = .ok (.aconst_null, 1) := dk_1 (dk_at dksJ17_checkIndex_0 2 rfl rfl)
theorem dJ17_checkIndex_3 : decode cJ17_checkIndex 3 = .ok (.invokestatic 105, 3) := dk_184 0 105 (dk_at dksJ17_checkIndex_0 3 rfl rfl)
theorem dJ17_checkIndex_6 : decode cJ17_checkIndex 6 = .ok (.ireturn, 1) := dk_172 (dk_at dksJ17_checkIndex_0 6 rfl rfl)
theorem c58000 : jtCode 58000 = cJ17_checkIndex := rfl
theorem E58000_0 (d : Nat) (i0 : Int32) (i1 : Int32) (h : AH) : G d 58000 0 [.int i0, .int i1] [] h = zcI (M d 55002 [.int i0, .int i1, .null] h) (fun x1 h2 => some (.inl (some (.int x1)), h2)) () := by
  refine (g_iload_n c58000 dJ17_checkIndex_0 rfl).trans ?_
  refine (g_iload_n c58000 dJ17_checkIndex_1 rfl).trans ?_
  refine (g_aconst_null c58000 dJ17_checkIndex_2).trans ?_
  refine (g_static (as := [.int i0, .int i1, .null]) (rest := []) c58000 dJ17_checkIndex_3 rfl rfl rfl rfl rfl).trans ((jback_I (κx := cX) (fun e h => jthrow_out rfl)).trans (cI_cg fun x1 h2 => ?_))
  exact g_ireturn c58000 dJ17_checkIndex_6 rfl
theorem X58000 {d : Nat} {i0 : Int32} {i1 : Int32} (h : AH) : M (d + 1) 58000 [.int i0, .int i1] h = G d 58000 0 [.int i0, .int i1] [] h := M_eq rfl rfl rfl
/-! java/lang/Long.bitCount(J)I -/
abbrev cJ20_bitCount : ByteArray := prog_47_method_50_code
def dkwJ20_bitCount_2 : List UInt8 := [30, 30, 16, 32, 125, 97, 63, 30, 136, 16, 127, 126, 172]
abbrev dktJ20_bitCount_2 : List UInt8 := dkwJ20_bitCount_2 ++ []
def dkwJ20_bitCount_1 : List UInt8 := [30, 30, 7, 125, 97, 20, 1, 62, 127, 63, 30, 30, 16, 8, 125, 97, 63, 30, 30, 16, 16, 125, 97, 63]
abbrev dktJ20_bitCount_1 : List UInt8 := dkwJ20_bitCount_1 ++ dktJ20_bitCount_2
def dkwJ20_bitCount_0 : List UInt8 := [30, 30, 4, 125, 20, 1, 58, 127, 101, 63, 30, 20, 1, 60, 127, 30, 5, 125, 20, 1, 60, 127, 97, 63]
abbrev dktJ20_bitCount_0 : List UInt8 := dkwJ20_bitCount_0 ++ dktJ20_bitCount_1
theorem dksJ20_bitCount_0 : cJ20_bitCount.data.toList.drop 0 = dktJ20_bitCount_0 := by decide +kernel
theorem dksJ20_bitCount_1 : cJ20_bitCount.data.toList.drop 24 = dktJ20_bitCount_1 := dk_seg dksJ20_bitCount_0 24 rfl rfl
theorem dksJ20_bitCount_2 : cJ20_bitCount.data.toList.drop 48 = dktJ20_bitCount_2 := dk_seg dksJ20_bitCount_1 24 rfl rfl
theorem dJ20_bitCount_0 : decode cJ20_bitCount 0 = .ok (.lload_n 0, 1) := dk_30 (dk_at dksJ20_bitCount_0 0 rfl rfl)
theorem dJ20_bitCount_1 : decode cJ20_bitCount 1 = .ok (.lload_n 0, 1) := dk_30 (dk_at dksJ20_bitCount_0 1 rfl rfl)
theorem dJ20_bitCount_2 : decode cJ20_bitCount 2 = .ok (.iconst 1, 1) := dk_4 (dk_at dksJ20_bitCount_0 2 rfl rfl)
theorem dJ20_bitCount_3 : decode cJ20_bitCount 3 = .ok (.lushr, 1) := dk_125 (dk_at dksJ20_bitCount_0 3 rfl rfl)
theorem dJ20_bitCount_4 : decode cJ20_bitCount 4 = .ok (.ldc2_w 314, 3) := dk_20 1 58 (dk_at dksJ20_bitCount_0 4 rfl rfl)
theorem dJ20_bitCount_7 : decode cJ20_bitCount 7 = .ok (.land, 1) := dk_127 (dk_at dksJ20_bitCount_0 7 rfl rfl)
theorem dJ20_bitCount_8 : decode cJ20_bitCount 8 = .ok (.lsub, 1) := dk_101 (dk_at dksJ20_bitCount_0 8 rfl rfl)
theorem dJ20_bitCount_9 : decode cJ20_bitCount 9 = .ok (.lstore_n 0, 1) := dk_63 (dk_at dksJ20_bitCount_0 9 rfl rfl)
theorem dJ20_bitCount_10 : decode cJ20_bitCount 10 = .ok (.lload_n 0, 1) := dk_30 (dk_at dksJ20_bitCount_0 10 rfl rfl)
theorem dJ20_bitCount_11 : decode cJ20_bitCount 11 = .ok (.ldc2_w 316, 3) := dk_20 1 60 (dk_at dksJ20_bitCount_0 11 rfl rfl)
theorem dJ20_bitCount_14 : decode cJ20_bitCount 14 = .ok (.land, 1) := dk_127 (dk_at dksJ20_bitCount_0 14 rfl rfl)
theorem dJ20_bitCount_15 : decode cJ20_bitCount 15 = .ok (.lload_n 0, 1) := dk_30 (dk_at dksJ20_bitCount_0 15 rfl rfl)
theorem dJ20_bitCount_16 : decode cJ20_bitCount 16 = .ok (.iconst 2, 1) := dk_5 (dk_at dksJ20_bitCount_0 16 rfl rfl)
theorem dJ20_bitCount_17 : decode cJ20_bitCount 17 = .ok (.lushr, 1) := dk_125 (dk_at dksJ20_bitCount_0 17 rfl rfl)
theorem dJ20_bitCount_18 : decode cJ20_bitCount 18 = .ok (.ldc2_w 316, 3) := dk_20 1 60 (dk_at dksJ20_bitCount_0 18 rfl rfl)
theorem dJ20_bitCount_21 : decode cJ20_bitCount 21 = .ok (.land, 1) := dk_127 (dk_at dksJ20_bitCount_0 21 rfl rfl)
theorem dJ20_bitCount_22 : decode cJ20_bitCount 22 = .ok (.ladd, 1) := dk_97 (dk_at dksJ20_bitCount_0 22 rfl rfl)
theorem dJ20_bitCount_23 : decode cJ20_bitCount 23 = .ok (.lstore_n 0, 1) := dk_63 (dk_at dksJ20_bitCount_0 23 rfl rfl)
theorem dJ20_bitCount_24 : decode cJ20_bitCount 24 = .ok (.lload_n 0, 1) := dk_30 (dk_at dksJ20_bitCount_1 0 rfl rfl)
theorem dJ20_bitCount_25 : decode cJ20_bitCount 25 = .ok (.lload_n 0, 1) := dk_30 (dk_at dksJ20_bitCount_1 1 rfl rfl)
theorem dJ20_bitCount_26 : decode cJ20_bitCount 26 = .ok (.iconst 4, 1) := dk_7 (dk_at dksJ20_bitCount_1 2 rfl rfl)
theorem dJ20_bitCount_27 : decode cJ20_bitCount 27 = .ok (.lushr, 1) := dk_125 (dk_at dksJ20_bitCount_1 3 rfl rfl)
theorem dJ20_bitCount_28 : decode cJ20_bitCount 28 = .ok (.ladd, 1) := dk_97 (dk_at dksJ20_bitCount_1 4 rfl rfl)
theorem dJ20_bitCount_29 : decode cJ20_bitCount 29 = .ok (.ldc2_w 318, 3) := dk_20 1 62 (dk_at dksJ20_bitCount_1 5 rfl rfl)
theorem dJ20_bitCount_32 : decode cJ20_bitCount 32 = .ok (.land, 1) := dk_127 (dk_at dksJ20_bitCount_1 8 rfl rfl)
theorem dJ20_bitCount_33 : decode cJ20_bitCount 33 = .ok (.lstore_n 0, 1) := dk_63 (dk_at dksJ20_bitCount_1 9 rfl rfl)
theorem dJ20_bitCount_34 : decode cJ20_bitCount 34 = .ok (.lload_n 0, 1) := dk_30 (dk_at dksJ20_bitCount_1 10 rfl rfl)
theorem dJ20_bitCount_35 : decode cJ20_bitCount 35 = .ok (.lload_n 0, 1) := dk_30 (dk_at dksJ20_bitCount_1 11 rfl rfl)
theorem dJ20_bitCount_36 : decode cJ20_bitCount 36 = .ok (.bipush 8, 2) := dk_16 8 (dk_at dksJ20_bitCount_1 12 rfl rfl)
theorem dJ20_bitCount_38 : decode cJ20_bitCount 38 = .ok (.lushr, 1) := dk_125 (dk_at dksJ20_bitCount_1 14 rfl rfl)
theorem dJ20_bitCount_39 : decode cJ20_bitCount 39 = .ok (.ladd, 1) := dk_97 (dk_at dksJ20_bitCount_1 15 rfl rfl)
theorem dJ20_bitCount_40 : decode cJ20_bitCount 40 = .ok (.lstore_n 0, 1) := dk_63 (dk_at dksJ20_bitCount_1 16 rfl rfl)
theorem dJ20_bitCount_41 : decode cJ20_bitCount 41 = .ok (.lload_n 0, 1) := dk_30 (dk_at dksJ20_bitCount_1 17 rfl rfl)
theorem dJ20_bitCount_42 : decode cJ20_bitCount 42 = .ok (.lload_n 0, 1) := dk_30 (dk_at dksJ20_bitCount_1 18 rfl rfl)
theorem dJ20_bitCount_43 : decode cJ20_bitCount 43 = .ok (.bipush 16, 2) := dk_16 16 (dk_at dksJ20_bitCount_1 19 rfl rfl)
theorem dJ20_bitCount_45 : decode cJ20_bitCount 45 = .ok (.lushr, 1) := dk_125 (dk_at dksJ20_bitCount_1 21 rfl rfl)
theorem dJ20_bitCount_46 : decode cJ20_bitCount 46 = .ok (.ladd, 1) := dk_97 (dk_at dksJ20_bitCount_1 22 rfl rfl)
theorem dJ20_bitCount_47 : decode cJ20_bitCount 47 = .ok (.lstore_n 0, 1) := dk_63 (dk_at dksJ20_bitCount_1 23 rfl rfl)
theorem dJ20_bitCount_48 : decode cJ20_bitCount 48 = .ok (.lload_n 0, 1) := dk_30 (dk_at dksJ20_bitCount_2 0 rfl rfl)
theorem dJ20_bitCount_49 : decode cJ20_bitCount 49 = .ok (.lload_n 0, 1) := dk_30 (dk_at dksJ20_bitCount_2 1 rfl rfl)
theorem dJ20_bitCount_50 : decode cJ20_bitCount 50 = .ok (.bipush 32, 2) := dk_16 32 (dk_at dksJ20_bitCount_2 2 rfl rfl)
theorem dJ20_bitCount_52 : decode cJ20_bitCount 52 = .ok (.lushr, 1) := dk_125 (dk_at dksJ20_bitCount_2 4 rfl rfl)
theorem dJ20_bitCount_53 : decode cJ20_bitCount 53 = .ok (.ladd, 1) := dk_97 (dk_at dksJ20_bitCount_2 5 rfl rfl)
theorem dJ20_bitCount_54 : decode cJ20_bitCount 54 = .ok (.lstore_n 0, 1) := dk_63 (dk_at dksJ20_bitCount_2 6 rfl rfl)
theorem dJ20_bitCount_55 : decode cJ20_bitCount 55 = .ok (.lload_n 0, 1) := dk_30 (dk_at dksJ20_bitCount_2 7 rfl rfl)
theorem dJ20_bitCount_56 : decode cJ20_bitCount 56 = .ok (.l2i, 1) := dk_136 (dk_at dksJ20_bitCount_2 8 rfl rfl)
theorem dJ20_bitCount_57 : decode cJ20_bitCount 57 = .ok (.bipush 127, 2) := dk_16 127 (dk_at dksJ20_bitCount_2 9 rfl rfl)
theorem dJ20_bitCount_59 : decode cJ20_bitCount 59 = .ok (.iand, 1) := dk_126 (dk_at dksJ20_bitCount_2 11 rfl rfl)
theorem dJ20_bitCount_60 : decode cJ20_bitCount 60 = .ok (.ireturn, 1) := dk_172 (dk_at dksJ20_bitCount_2 12 rfl rfl)
theorem c61000 : jtCode 61000 = cJ20_bitCount := rfl
theorem E61000_0 (d : Nat) (j0 : Int64) (h : AH) : G d 61000 0 [.long j0, jhalf] [] h = some (.inl (some (.int (((((((((((j0 - (((j0.toUInt64 >>> ((1 : Int32).toInt64.toUInt64 &&& 63)).toInt64) &&& 6148914691236517205)) &&& 3689348814741910323) + ((((j0 - (((j0.toUInt64 >>> ((1 : Int32).toInt64.toUInt64 &&& 63)).toInt64) &&& 6148914691236517205)).toUInt64 >>> ((2 : Int32).toInt64.toUInt64 &&& 63)).toInt64) &&& 3689348814741910323)) + (((((j0 - (((j0.toUInt64 >>> ((1 : Int32).toInt64.toUInt64 &&& 63)).toInt64) &&& 6148914691236517205)) &&& 3689348814741910323) + ((((j0 - (((j0.toUInt64 >>> ((1 : Int32).toInt64.toUInt64 &&& 63)).toInt64) &&& 6148914691236517205)).toUInt64 >>> ((2 : Int32).toInt64.toUInt64 &&& 63)).toInt64) &&& 3689348814741910323)).toUInt64 >>> ((4 : Int32).toInt64.toUInt64 &&& 63)).toInt64)) &&& 1085102592571150095) + (((((((j0 - (((j0.toUInt64 >>> ((1 : Int32).toInt64.toUInt64 &&& 63)).toInt64) &&& 6148914691236517205)) &&& 3689348814741910323) + ((((j0 - (((j0.toUInt64 >>> ((1 : Int32).toInt64.toUInt64 &&& 63)).toInt64) &&& 6148914691236517205)).toUInt64 >>> ((2 : Int32).toInt64.toUInt64 &&& 63)).toInt64) &&& 3689348814741910323)) + (((((j0 - (((j0.toUInt64 >>> ((1 : Int32).toInt64.toUInt64 &&& 63)).toInt64) &&& 6148914691236517205)) &&& 3689348814741910323) + ((((j0 - (((j0.toUInt64 >>> ((1 : Int32).toInt64.toUInt64 &&& 63)).toInt64) &&& 6148914691236517205)).toUInt64 >>> ((2 : Int32).toInt64.toUInt64 &&& 63)).toInt64) &&& 3689348814741910323)).toUInt64 >>> ((4 : Int32).toInt64.toUInt64 &&& 63)).toInt64)) &&& 1085102592571150095).toUInt64 >>> ((8 : Int32).toInt64.toUInt64 &&& 63)).toInt64)) + ((((((((j0 - (((j0.toUInt64 >>> ((1 : Int32).toInt64.toUInt64 &&& 63)).toInt64) &&& 6148914691236517205)) &&& 3689348814741910323) + ((((j0 - (((j0.toUInt64 >>> ((1 : Int32).toInt64.toUInt64 &&& 63)).toInt64) &&& 6148914691236517205)).toUInt64 >>> ((2 : Int32).toInt64.toUInt64 &&& 63)).toInt64) &&& 3689348814741910323)) + (((((j0 - (((j0.toUInt64 >>> ((1 : Int32).toInt64.toUInt64 &&& 63)).toInt64) &&& 6148914691236517205)) &&& 3689348814741910323) + ((((j0 - (((j0.toUInt64 >>> ((1 : Int32).toInt64.toUInt64 &&& 63)).toInt64) &&& 6148914691236517205)).toUInt64 >>> ((2 : Int32).toInt64.toUInt64 &&& 63)).toInt64) &&& 3689348814741910323)).toUInt64 >>> ((4 : Int32).toInt64.toUInt64 &&& 63)).toInt64)) &&& 1085102592571150095) + (((((((j0 - (((j0.toUInt64 >>> ((1 : Int32).toInt64.toUInt64 &&& 63)).toInt64) &&& 6148914691236517205)) &&& 3689348814741910323) + ((((j0 - (((j0.toUInt64 >>> ((1 : Int32).toInt64.toUInt64 &&& 63)).toInt64) &&& 6148914691236517205)).toUInt64 >>> ((2 : Int32).toInt64.toUInt64 &&& 63)).toInt64) &&& 3689348814741910323)) + (((((j0 - (((j0.toUInt64 >>> ((1 : Int32).toInt64.toUInt64 &&& 63)).toInt64) &&& 6148914691236517205)) &&& 3689348814741910323) + ((((j0 - (((j0.toUInt64 >>> ((1 : Int32).toInt64.toUInt64 &&& 63)).toInt64) &&& 6148914691236517205)).toUInt64 >>> ((2 : Int32).toInt64.toUInt64 &&& 63)).toInt64) &&& 3689348814741910323)).toUInt64 >>> ((4 : Int32).toInt64.toUInt64 &&& 63)).toInt64)) &&& 1085102592571150095).toUInt64 >>> ((8 : Int32).toInt64.toUInt64 &&& 63)).toInt64)).toUInt64 >>> ((16 : Int32).toInt64.toUInt64 &&& 63)).toInt64)) + (((((((((j0 - (((j0.toUInt64 >>> ((1 : Int32).toInt64.toUInt64 &&& 63)).toInt64) &&& 6148914691236517205)) &&& 3689348814741910323) + ((((j0 - (((j0.toUInt64 >>> ((1 : Int32).toInt64.toUInt64 &&& 63)).toInt64) &&& 6148914691236517205)).toUInt64 >>> ((2 : Int32).toInt64.toUInt64 &&& 63)).toInt64) &&& 3689348814741910323)) + (((((j0 - (((j0.toUInt64 >>> ((1 : Int32).toInt64.toUInt64 &&& 63)).toInt64) &&& 6148914691236517205)) &&& 3689348814741910323) + ((((j0 - (((j0.toUInt64 >>> ((1 : Int32).toInt64.toUInt64 &&& 63)).toInt64) &&& 6148914691236517205)).toUInt64 >>> ((2 : Int32).toInt64.toUInt64 &&& 63)).toInt64) &&& 3689348814741910323)).toUInt64 >>> ((4 : Int32).toInt64.toUInt64 &&& 63)).toInt64)) &&& 1085102592571150095) + (((((((j0 - (((j0.toUInt64 >>> ((1 : Int32).toInt64.toUInt64 &&& 63)).toInt64) &&& 6148914691236517205)) &&& 3689348814741910323) + ((((j0 - (((j0.toUInt64 >>> ((1 : Int32).toInt64.toUInt64 &&& 63)).toInt64) &&& 6148914691236517205)).toUInt64 >>> ((2 : Int32).toInt64.toUInt64 &&& 63)).toInt64) &&& 3689348814741910323)) + (((((j0 - (((j0.toUInt64 >>> ((1 : Int32).toInt64.toUInt64 &&& 63)).toInt64) &&& 6148914691236517205)) &&& 3689348814741910323) + ((((j0 - (((j0.toUInt64 >>> ((1 : Int32).toInt64.toUInt64 &&& 63)).toInt64) &&& 6148914691236517205)).toUInt64 >>> ((2 : Int32).toInt64.toUInt64 &&& 63)).toInt64) &&& 3689348814741910323)).toUInt64 >>> ((4 : Int32).toInt64.toUInt64 &&& 63)).toInt64)) &&& 1085102592571150095).toUInt64 >>> ((8 : Int32).toInt64.toUInt64 &&& 63)).toInt64)) + ((((((((j0 - (((j0.toUInt64 >>> ((1 : Int32).toInt64.toUInt64 &&& 63)).toInt64) &&& 6148914691236517205)) &&& 3689348814741910323) + ((((j0 - (((j0.toUInt64 >>> ((1 : Int32).toInt64.toUInt64 &&& 63)).toInt64) &&& 6148914691236517205)).toUInt64 >>> ((2 : Int32).toInt64.toUInt64 &&& 63)).toInt64) &&& 3689348814741910323)) + (((((j0 - (((j0.toUInt64 >>> ((1 : Int32).toInt64.toUInt64 &&& 63)).toInt64) &&& 6148914691236517205)) &&& 3689348814741910323) + ((((j0 - (((j0.toUInt64 >>> ((1 : Int32).toInt64.toUInt64 &&& 63)).toInt64) &&& 6148914691236517205)).toUInt64 >>> ((2 : Int32).toInt64.toUInt64 &&& 63)).toInt64) &&& 3689348814741910323)).toUInt64 >>> ((4 : Int32).toInt64.toUInt64 &&& 63)).toInt64)) &&& 1085102592571150095) + (((((((j0 - (((j0.toUInt64 >>> ((1 : Int32).toInt64.toUInt64 &&& 63)).toInt64) &&& 6148914691236517205)) &&& 3689348814741910323) + ((((j0 - (((j0.toUInt64 >>> ((1 : Int32).toInt64.toUInt64 &&& 63)).toInt64) &&& 6148914691236517205)).toUInt64 >>> ((2 : Int32).toInt64.toUInt64 &&& 63)).toInt64) &&& 3689348814741910323)) + (((((j0 - (((j0.toUInt64 >>> ((1 : Int32).toInt64.toUInt64 &&& 63)).toInt64) &&& 6148914691236517205)) &&& 3689348814741910323) + ((((j0 - (((j0.toUInt64 >>> ((1 : Int32).toInt64.toUInt64 &&& 63)).toInt64) &&& 6148914691236517205)).toUInt64 >>> ((2 : Int32).toInt64.toUInt64 &&& 63)).toInt64) &&& 3689348814741910323)).toUInt64 >>> ((4 : Int32).toInt64.toUInt64 &&& 63)).toInt64)) &&& 1085102592571150095).toUInt64 >>> ((8 : Int32).toInt64.toUInt64 &&& 63)).toInt64)).toUInt64 >>> ((16 : Int32).toInt64.toUInt64 &&& 63)).toInt64)).toUInt64 >>> ((32 : Int32).toInt64.toUInt64 &&& 63)).toInt64))).toInt32) &&& 127))), h) := by
  refine (g_lload_n c61000 dJ20_bitCount_0 rfl rfl).trans ?_
  refine (g_lload_n c61000 dJ20_bitCount_1 rfl rfl).trans ?_
  refine (g_iconst (x := 1) c61000 dJ20_bitCount_2 rfl).trans ?_
  refine (g_lushr c61000 dJ20_bitCount_3).trans ?_
  refine (g_ldc2 (x := 6148914691236517205) c61000 dJ20_bitCount_4 rfl).trans ?_
  refine (g_land c61000 dJ20_bitCount_7).trans ?_
  refine (g_lsub c61000 dJ20_bitCount_8).trans ?_
  refine (g_lstore_n (L' := [.long (j0 - (((j0.toUInt64 >>> ((1 : Int32).toInt64.toUInt64 &&& 63)).toInt64) &&& 6148914691236517205)), jhalf]) c61000 dJ20_bitCount_9 rfl rfl).trans ?_
  refine (g_lload_n c61000 dJ20_bitCount_10 rfl rfl).trans ?_
  refine (g_ldc2 (x := 3689348814741910323) c61000 dJ20_bitCount_11 rfl).trans ?_
  refine (g_land c61000 dJ20_bitCount_14).trans ?_
  refine (g_lload_n c61000 dJ20_bitCount_15 rfl rfl).trans ?_
  refine (g_iconst (x := 2) c61000 dJ20_bitCount_16 rfl).trans ?_
  refine (g_lushr c61000 dJ20_bitCount_17).trans ?_
  refine (g_ldc2 (x := 3689348814741910323) c61000 dJ20_bitCount_18 rfl).trans ?_
  refine (g_land c61000 dJ20_bitCount_21).trans ?_
  refine (g_ladd c61000 dJ20_bitCount_22).trans ?_
  refine (g_lstore_n (L' := [.long (((j0 - (((j0.toUInt64 >>> ((1 : Int32).toInt64.toUInt64 &&& 63)).toInt64) &&& 6148914691236517205)) &&& 3689348814741910323) + ((((j0 - (((j0.toUInt64 >>> ((1 : Int32).toInt64.toUInt64 &&& 63)).toInt64) &&& 6148914691236517205)).toUInt64 >>> ((2 : Int32).toInt64.toUInt64 &&& 63)).toInt64) &&& 3689348814741910323)), jhalf]) c61000 dJ20_bitCount_23 rfl rfl).trans ?_
  refine (g_lload_n c61000 dJ20_bitCount_24 rfl rfl).trans ?_
  refine (g_lload_n c61000 dJ20_bitCount_25 rfl rfl).trans ?_
  refine (g_iconst (x := 4) c61000 dJ20_bitCount_26 rfl).trans ?_
  refine (g_lushr c61000 dJ20_bitCount_27).trans ?_
  refine (g_ladd c61000 dJ20_bitCount_28).trans ?_
  refine (g_ldc2 (x := 1085102592571150095) c61000 dJ20_bitCount_29 rfl).trans ?_
  refine (g_land c61000 dJ20_bitCount_32).trans ?_
  refine (g_lstore_n (L' := [.long (((((j0 - (((j0.toUInt64 >>> ((1 : Int32).toInt64.toUInt64 &&& 63)).toInt64) &&& 6148914691236517205)) &&& 3689348814741910323) + ((((j0 - (((j0.toUInt64 >>> ((1 : Int32).toInt64.toUInt64 &&& 63)).toInt64) &&& 6148914691236517205)).toUInt64 >>> ((2 : Int32).toInt64.toUInt64 &&& 63)).toInt64) &&& 3689348814741910323)) + (((((j0 - (((j0.toUInt64 >>> ((1 : Int32).toInt64.toUInt64 &&& 63)).toInt64) &&& 6148914691236517205)) &&& 3689348814741910323) + ((((j0 - (((j0.toUInt64 >>> ((1 : Int32).toInt64.toUInt64 &&& 63)).toInt64) &&& 6148914691236517205)).toUInt64 >>> ((2 : Int32).toInt64.toUInt64 &&& 63)).toInt64) &&& 3689348814741910323)).toUInt64 >>> ((4 : Int32).toInt64.toUInt64 &&& 63)).toInt64)) &&& 1085102592571150095), jhalf]) c61000 dJ20_bitCount_33 rfl rfl).trans ?_
  refine (g_lload_n c61000 dJ20_bitCount_34 rfl rfl).trans ?_
  refine (g_lload_n c61000 dJ20_bitCount_35 rfl rfl).trans ?_
  refine (g_bipush (x := 8) c61000 dJ20_bitCount_36 rfl).trans ?_
  refine (g_lushr c61000 dJ20_bitCount_38).trans ?_
  refine (g_ladd c61000 dJ20_bitCount_39).trans ?_
  refine (g_lstore_n (L' := [.long ((((((j0 - (((j0.toUInt64 >>> ((1 : Int32).toInt64.toUInt64 &&& 63)).toInt64) &&& 6148914691236517205)) &&& 3689348814741910323) + ((((j0 - (((j0.toUInt64 >>> ((1 : Int32).toInt64.toUInt64 &&& 63)).toInt64) &&& 6148914691236517205)).toUInt64 >>> ((2 : Int32).toInt64.toUInt64 &&& 63)).toInt64) &&& 3689348814741910323)) + (((((j0 - (((j0.toUInt64 >>> ((1 : Int32).toInt64.toUInt64 &&& 63)).toInt64) &&& 6148914691236517205)) &&& 3689348814741910323) + ((((j0 - (((j0.toUInt64 >>> ((1 : Int32).toInt64.toUInt64 &&& 63)).toInt64) &&& 6148914691236517205)).toUInt64 >>> ((2 : Int32).toInt64.toUInt64 &&& 63)).toInt64) &&& 3689348814741910323)).toUInt64 >>> ((4 : Int32).toInt64.toUInt64 &&& 63)).toInt64)) &&& 1085102592571150095) + (((((((j0 - (((j0.toUInt64 >>> ((1 : Int32).toInt64.toUInt64 &&& 63)).toInt64) &&& 6148914691236517205)) &&& 3689348814741910323) + ((((j0 - (((j0.toUInt64 >>> ((1 : Int32).toInt64.toUInt64 &&& 63)).toInt64) &&& 6148914691236517205)).toUInt64 >>> ((2 : Int32).toInt64.toUInt64 &&& 63)).toInt64) &&& 3689348814741910323)) + (((((j0 - (((j0.toUInt64 >>> ((1 : Int32).toInt64.toUInt64 &&& 63)).toInt64) &&& 6148914691236517205)) &&& 3689348814741910323) + ((((j0 - (((j0.toUInt64 >>> ((1 : Int32).toInt64.toUInt64 &&& 63)).toInt64) &&& 6148914691236517205)).toUInt64 >>> ((2 : Int32).toInt64.toUInt64 &&& 63)).toInt64) &&& 3689348814741910323)).toUInt64 >>> ((4 : Int32).toInt64.toUInt64 &&& 63)).toInt64)) &&& 1085102592571150095).toUInt64 >>> ((8 : Int32).toInt64.toUInt64 &&& 63)).toInt64)), jhalf]) c61000 dJ20_bitCount_40 rfl rfl).trans ?_
  refine (g_lload_n c61000 dJ20_bitCount_41 rfl rfl).trans ?_
  refine (g_lload_n c61000 dJ20_bitCount_42 rfl rfl).trans ?_
  refine (g_bipush (x := 16) c61000 dJ20_bitCount_43 rfl).trans ?_
  refine (g_lushr c61000 dJ20_bitCount_45).trans ?_
  refine (g_ladd c61000 dJ20_bitCount_46).trans ?_
  refine (g_lstore_n (L' := [.long (((((((j0 - (((j0.toUInt64 >>> ((1 : Int32).toInt64.toUInt64 &&& 63)).toInt64) &&& 6148914691236517205)) &&& 3689348814741910323) + ((((j0 - (((j0.toUInt64 >>> ((1 : Int32).toInt64.toUInt64 &&& 63)).toInt64) &&& 6148914691236517205)).toUInt64 >>> ((2 : Int32).toInt64.toUInt64 &&& 63)).toInt64) &&& 3689348814741910323)) + (((((j0 - (((j0.toUInt64 >>> ((1 : Int32).toInt64.toUInt64 &&& 63)).toInt64) &&& 6148914691236517205)) &&& 3689348814741910323) + ((((j0 - (((j0.toUInt64 >>> ((1 : Int32).toInt64.toUInt64 &&& 63)).toInt64) &&& 6148914691236517205)).toUInt64 >>> ((2 : Int32).toInt64.toUInt64 &&& 63)).toInt64) &&& 3689348814741910323)).toUInt64 >>> ((4 : Int32).toInt64.toUInt64 &&& 63)).toInt64)) &&& 1085102592571150095) + (((((((j0 - (((j0.toUInt64 >>> ((1 : Int32).toInt64.toUInt64 &&& 63)).toInt64) &&& 6148914691236517205)) &&& 3689348814741910323) + ((((j0 - (((j0.toUInt64 >>> ((1 : Int32).toInt64.toUInt64 &&& 63)).toInt64) &&& 6148914691236517205)).toUInt64 >>> ((2 : Int32).toInt64.toUInt64 &&& 63)).toInt64) &&& 3689348814741910323)) + (((((j0 - (((j0.toUInt64 >>> ((1 : Int32).toInt64.toUInt64 &&& 63)).toInt64) &&& 6148914691236517205)) &&& 3689348814741910323) + ((((j0 - (((j0.toUInt64 >>> ((1 : Int32).toInt64.toUInt64 &&& 63)).toInt64) &&& 6148914691236517205)).toUInt64 >>> ((2 : Int32).toInt64.toUInt64 &&& 63)).toInt64) &&& 3689348814741910323)).toUInt64 >>> ((4 : Int32).toInt64.toUInt64 &&& 63)).toInt64)) &&& 1085102592571150095).toUInt64 >>> ((8 : Int32).toInt64.toUInt64 &&& 63)).toInt64)) + ((((((((j0 - (((j0.toUInt64 >>> ((1 : Int32).toInt64.toUInt64 &&& 63)).toInt64) &&& 6148914691236517205)) &&& 3689348814741910323) + ((((j0 - (((j0.toUInt64 >>> ((1 : Int32).toInt64.toUInt64 &&& 63)).toInt64) &&& 6148914691236517205)).toUInt64 >>> ((2 : Int32).toInt64.toUInt64 &&& 63)).toInt64) &&& 3689348814741910323)) + (((((j0 - (((j0.toUInt64 >>> ((1 : Int32).toInt64.toUInt64 &&& 63)).toInt64) &&& 6148914691236517205)) &&& 3689348814741910323) + ((((j0 - (((j0.toUInt64 >>> ((1 : Int32).toInt64.toUInt64 &&& 63)).toInt64) &&& 6148914691236517205)).toUInt64 >>> ((2 : Int32).toInt64.toUInt64 &&& 63)).toInt64) &&& 3689348814741910323)).toUInt64 >>> ((4 : Int32).toInt64.toUInt64 &&& 63)).toInt64)) &&& 1085102592571150095) + (((((((j0 - (((j0.toUInt64 >>> ((1 : Int32).toInt64.toUInt64 &&& 63)).toInt64) &&& 6148914691236517205)) &&& 3689348814741910323) + ((((j0 - (((j0.toUInt64 >>> ((1 : Int32).toInt64.toUInt64 &&& 63)).toInt64) &&& 6148914691236517205)).toUInt64 >>> ((2 : Int32).toInt64.toUInt64 &&& 63)).toInt64) &&& 3689348814741910323)) + (((((j0 - (((j0.toUInt64 >>> ((1 : Int32).toInt64.toUInt64 &&& 63)).toInt64) &&& 6148914691236517205)) &&& 3689348814741910323) + ((((j0 - (((j0.toUInt64 >>> ((1 : Int32).toInt64.toUInt64 &&& 63)).toInt64) &&& 6148914691236517205)).toUInt64 >>> ((2 : Int32).toInt64.toUInt64 &&& 63)).toInt64) &&& 3689348814741910323)).toUInt64 >>> ((4 : Int32).toInt64.toUInt64 &&& 63)).toInt64)) &&& 1085102592571150095).toUInt64 >>> ((8 : Int32).toInt64.toUInt64 &&& 63)).toInt64)).toUInt64 >>> ((16 : Int32).toInt64.toUInt64 &&& 63)).toInt64)), jhalf]) c61000 dJ20_bitCount_47 rfl rfl).trans ?_
  refine (g_lload_n c61000 dJ20_bitCount_48 rfl rfl).trans ?_
  refine (g_lload_n c61000 dJ20_bitCount_49 rfl rfl).trans ?_
  refine (g_bipush (x := 32) c61000 dJ20_bitCount_50 rfl).trans ?_
  refine (g_lushr c61000 dJ20_bitCount_52).trans ?_
  refine (g_ladd c61000 dJ20_bitCount_53).trans ?_
  refine (g_lstore_n (L' := [.long ((((((((j0 - (((j0.toUInt64 >>> ((1 : Int32).toInt64.toUInt64 &&& 63)).toInt64) &&& 6148914691236517205)) &&& 3689348814741910323) + ((((j0 - (((j0.toUInt64 >>> ((1 : Int32).toInt64.toUInt64 &&& 63)).toInt64) &&& 6148914691236517205)).toUInt64 >>> ((2 : Int32).toInt64.toUInt64 &&& 63)).toInt64) &&& 3689348814741910323)) + (((((j0 - (((j0.toUInt64 >>> ((1 : Int32).toInt64.toUInt64 &&& 63)).toInt64) &&& 6148914691236517205)) &&& 3689348814741910323) + ((((j0 - (((j0.toUInt64 >>> ((1 : Int32).toInt64.toUInt64 &&& 63)).toInt64) &&& 6148914691236517205)).toUInt64 >>> ((2 : Int32).toInt64.toUInt64 &&& 63)).toInt64) &&& 3689348814741910323)).toUInt64 >>> ((4 : Int32).toInt64.toUInt64 &&& 63)).toInt64)) &&& 1085102592571150095) + (((((((j0 - (((j0.toUInt64 >>> ((1 : Int32).toInt64.toUInt64 &&& 63)).toInt64) &&& 6148914691236517205)) &&& 3689348814741910323) + ((((j0 - (((j0.toUInt64 >>> ((1 : Int32).toInt64.toUInt64 &&& 63)).toInt64) &&& 6148914691236517205)).toUInt64 >>> ((2 : Int32).toInt64.toUInt64 &&& 63)).toInt64) &&& 3689348814741910323)) + (((((j0 - (((j0.toUInt64 >>> ((1 : Int32).toInt64.toUInt64 &&& 63)).toInt64) &&& 6148914691236517205)) &&& 3689348814741910323) + ((((j0 - (((j0.toUInt64 >>> ((1 : Int32).toInt64.toUInt64 &&& 63)).toInt64) &&& 6148914691236517205)).toUInt64 >>> ((2 : Int32).toInt64.toUInt64 &&& 63)).toInt64) &&& 3689348814741910323)).toUInt64 >>> ((4 : Int32).toInt64.toUInt64 &&& 63)).toInt64)) &&& 1085102592571150095).toUInt64 >>> ((8 : Int32).toInt64.toUInt64 &&& 63)).toInt64)) + ((((((((j0 - (((j0.toUInt64 >>> ((1 : Int32).toInt64.toUInt64 &&& 63)).toInt64) &&& 6148914691236517205)) &&& 3689348814741910323) + ((((j0 - (((j0.toUInt64 >>> ((1 : Int32).toInt64.toUInt64 &&& 63)).toInt64) &&& 6148914691236517205)).toUInt64 >>> ((2 : Int32).toInt64.toUInt64 &&& 63)).toInt64) &&& 3689348814741910323)) + (((((j0 - (((j0.toUInt64 >>> ((1 : Int32).toInt64.toUInt64 &&& 63)).toInt64) &&& 6148914691236517205)) &&& 3689348814741910323) + ((((j0 - (((j0.toUInt64 >>> ((1 : Int32).toInt64.toUInt64 &&& 63)).toInt64) &&& 6148914691236517205)).toUInt64 >>> ((2 : Int32).toInt64.toUInt64 &&& 63)).toInt64) &&& 3689348814741910323)).toUInt64 >>> ((4 : Int32).toInt64.toUInt64 &&& 63)).toInt64)) &&& 1085102592571150095) + (((((((j0 - (((j0.toUInt64 >>> ((1 : Int32).toInt64.toUInt64 &&& 63)).toInt64) &&& 6148914691236517205)) &&& 3689348814741910323) + ((((j0 - (((j0.toUInt64 >>> ((1 : Int32).toInt64.toUInt64 &&& 63)).toInt64) &&& 6148914691236517205)).toUInt64 >>> ((2 : Int32).toInt64.toUInt64 &&& 63)).toInt64) &&& 3689348814741910323)) + (((((j0 - (((j0.toUInt64 >>> ((1 : Int32).toInt64.toUInt64 &&& 63)).toInt64) &&& 6148914691236517205)) &&& 3689348814741910323) + ((((j0 - (((j0.toUInt64 >>> ((1 : Int32).toInt64.toUInt64 &&& 63)).toInt64) &&& 6148914691236517205)).toUInt64 >>> ((2 : Int32).toInt64.toUInt64 &&& 63)).toInt64) &&& 3689348814741910323)).toUInt64 >>> ((4 : Int32).toInt64.toUInt64 &&& 63)).toInt64)) &&& 1085102592571150095).toUInt64 >>> ((8 : Int32).toInt64.toUInt64 &&& 63)).toInt64)).toUInt64 >>> ((16 : Int32).toInt64.toUInt64 &&& 63)).toInt64)) + (((((((((j0 - (((j0.toUInt64 >>> ((1 : Int32).toInt64.toUInt64 &&& 63)).toInt64) &&& 6148914691236517205)) &&& 3689348814741910323) + ((((j0 - (((j0.toUInt64 >>> ((1 : Int32).toInt64.toUInt64 &&& 63)).toInt64) &&& 6148914691236517205)).toUInt64 >>> ((2 : Int32).toInt64.toUInt64 &&& 63)).toInt64) &&& 3689348814741910323)) + (((((j0 - (((j0.toUInt64 >>> ((1 : Int32).toInt64.toUInt64 &&& 63)).toInt64) &&& 6148914691236517205)) &&& 3689348814741910323) + ((((j0 - (((j0.toUInt64 >>> ((1 : Int32).toInt64.toUInt64 &&& 63)).toInt64) &&& 6148914691236517205)).toUInt64 >>> ((2 : Int32).toInt64.toUInt64 &&& 63)).toInt64) &&& 3689348814741910323)).toUInt64 >>> ((4 : Int32).toInt64.toUInt64 &&& 63)).toInt64)) &&& 1085102592571150095) + (((((((j0 - (((j0.toUInt64 >>> ((1 : Int32).toInt64.toUInt64 &&& 63)).toInt64) &&& 6148914691236517205)) &&& 3689348814741910323) + ((((j0 - (((j0.toUInt64 >>> ((1 : Int32).toInt64.toUInt64 &&& 63)).toInt64) &&& 6148914691236517205)).toUInt64 >>> ((2 : Int32).toInt64.toUInt64 &&& 63)).toInt64) &&& 3689348814741910323)) + (((((j0 - (((j0.toUInt64 >>> ((1 : Int32).toInt64.toUInt64 &&& 63)).toInt64) &&& 6148914691236517205)) &&& 3689348814741910323) + ((((j0 - (((j0.toUInt64 >>> ((1 : Int32).toInt64.toUInt64 &&& 63)).toInt64) &&& 6148914691236517205)).toUInt64 >>> ((2 : Int32).toInt64.toUInt64 &&& 63)).toInt64) &&& 3689348814741910323)).toUInt64 >>> ((4 : Int32).toInt64.toUInt64 &&& 63)).toInt64)) &&& 1085102592571150095).toUInt64 >>> ((8 : Int32).toInt64.toUInt64 &&& 63)).toInt64)) + ((((((((j0 - (((j0.toUInt64 >>> ((1 : Int32).toInt64.toUInt64 &&& 63)).toInt64) &&& 6148914691236517205)) &&& 3689348814741910323) + ((((j0 - (((j0.toUInt64 >>> ((1 : Int32).toInt64.toUInt64 &&& 63)).toInt64) &&& 6148914691236517205)).toUInt64 >>> ((2 : Int32).toInt64.toUInt64 &&& 63)).toInt64) &&& 3689348814741910323)) + (((((j0 - (((j0.toUInt64 >>> ((1 : Int32).toInt64.toUInt64 &&& 63)).toInt64) &&& 6148914691236517205)) &&& 3689348814741910323) + ((((j0 - (((j0.toUInt64 >>> ((1 : Int32).toInt64.toUInt64 &&& 63)).toInt64) &&& 6148914691236517205)).toUInt64 >>> ((2 : Int32).toInt64.toUInt64 &&& 63)).toInt64) &&& 3689348814741910323)).toUInt64 >>> ((4 : Int32).toInt64.toUInt64 &&& 63)).toInt64)) &&& 1085102592571150095) + (((((((j0 - (((j0.toUInt64 >>> ((1 : Int32).toInt64.toUInt64 &&& 63)).toInt64) &&& 6148914691236517205)) &&& 3689348814741910323) + ((((j0 - (((j0.toUInt64 >>> ((1 : Int32).toInt64.toUInt64 &&& 63)).toInt64) &&& 6148914691236517205)).toUInt64 >>> ((2 : Int32).toInt64.toUInt64 &&& 63)).toInt64) &&& 3689348814741910323)) + (((((j0 - (((j0.toUInt64 >>> ((1 : Int32).toInt64.toUInt64 &&& 63)).toInt64) &&& 6148914691236517205)) &&& 3689348814741910323) + ((((j0 - (((j0.toUInt64 >>> ((1 : Int32).toInt64.toUInt64 &&& 63)).toInt64) &&& 6148914691236517205)).toUInt64 >>> ((2 : Int32).toInt64.toUInt64 &&& 63)).toInt64) &&& 3689348814741910323)).toUInt64 >>> ((4 : Int32).toInt64.toUInt64 &&& 63)).toInt64)) &&& 1085102592571150095).toUInt64 >>> ((8 : Int32).toInt64.toUInt64 &&& 63)).toInt64)).toUInt64 >>> ((16 : Int32).toInt64.toUInt64 &&& 63)).toInt64)).toUInt64 >>> ((32 : Int32).toInt64.toUInt64 &&& 63)).toInt64)), jhalf]) c61000 dJ20_bitCount_54 rfl rfl).trans ?_
  refine (g_lload_n c61000 dJ20_bitCount_55 rfl rfl).trans ?_
  refine (g_l2i c61000 dJ20_bitCount_56).trans ?_
  refine (g_bipush (x := 127) c61000 dJ20_bitCount_57 rfl).trans ?_
  refine (g_iand c61000 dJ20_bitCount_59).trans ?_
  exact g_ireturn c61000 dJ20_bitCount_60 rfl
theorem X61000 {d : Nat} {j0 : Int64} (h : AH) : M (d + 1) 61000 [.long j0] h = G d 61000 0 [.long j0, jhalf] [] h := M_eq rfl rfl rfl
/-! java/lang/Long.numberOfTrailingZeros(J)I -/
abbrev cJ20_numberOfTrailingZeros : ByteArray := prog_47_method_49_code
def dkwJ20_numberOfTrailingZeros_1 : List UInt8 := [184, 1, 55, 172]
abbrev dktJ20_numberOfTrailingZeros_1 : List UInt8 := dkwJ20_numberOfTrailingZeros_1 ++ []
def dkwJ20_numberOfTrailingZeros_0 : List UInt8 := [30, 136, 61, 28, 154, 0, 17, 16, 32, 30, 16, 32, 125, 136, 184, 1, 55, 96, 167, 0, 7, 28]
abbrev dktJ20_numberOfTrailingZeros_0 : List UInt8 := dkwJ20_numberOfTrailingZeros_0 ++ dktJ20_numberOfTrailingZeros_1
theorem dksJ20_numberOfTrailingZeros_0 : cJ20_numberOfTrailingZeros.data.toList.drop 0 = dktJ20_numberOfTrailingZeros_0 := by decide +kernel
theorem dksJ20_numberOfTrailingZeros_1 : cJ20_numberOfTrailingZeros.data.toList.drop 22 = dktJ20_numberOfTrailingZeros_1 := dk_seg dksJ20_numberOfTrailingZeros_0 22 rfl rfl
theorem dJ20_numberOfTrailingZeros_0 : decode cJ20_numberOfTrailingZeros 0 = .ok (.lload_n 0, 1) := dk_30 (dk_at dksJ20_numberOfTrailingZeros_0 0 rfl rfl)
theorem dJ20_numberOfTrailingZeros_1 : decode cJ20_numberOfTrailingZeros 1 = .ok (.l2i, 1) := dk_136 (dk_at dksJ20_numberOfTrailingZeros_0 1 rfl rfl)
theorem dJ20_numberOfTrailingZeros_2 : decode cJ20_numberOfTrailingZeros 2 = .ok (.istore_n 2, 1) := dk_61 (dk_at dksJ20_numberOfTrailingZeros_0 2 rfl rfl)
theorem dJ20_numberOfTrailingZeros_3 : decode cJ20_numberOfTrailingZeros 3 = .ok (.iload_n 2, 1) := dk_28 (dk_at dksJ20_numberOfTrailingZeros_0 3 rfl rfl)
theorem dJ20_numberOfTrailingZeros_4 : decode cJ20_numberOfTrailingZeros 4 = .ok (.ifCond .ne 17, 3) := dk_154 0 17 (dk_at dksJ20_numberOfTrailingZeros_0 4 rfl rfl)
theorem dJ20_numberOfTrailingZeros_7 : decode cJ20_numberOfTrailingZeros 7 = .ok (.bipush 32, 2) := dk_16 32 (dk_at dksJ20_numberOfTrailingZeros_0 7 rfl rfl)
theorem dJ20_numberOfTrailingZeros_9 : decode cJ20_numberOfTrailingZeros 9 = .ok (.lload_n 0, 1) := dk_30 (dk_at dksJ20_numberOfTrailingZeros_0 9 rfl rfl)
theorem dJ20_numberOfTrailingZeros_10 : decode cJ20_numberOfTrailingZeros 10 = .ok (.bipush 32, 2) := dk_16 32 (dk_at dksJ20_numberOfTrailingZeros_0 10 rfl rfl)
theorem dJ20_numberOfTrailingZeros_12 : decode cJ20_numberOfTrailingZeros 12 = .ok (.lushr, 1) := dk_125 (dk_at dksJ20_numberOfTrailingZeros_0 12 rfl rfl)
theorem dJ20_numberOfTrailingZeros_13 : decode cJ20_numberOfTrailingZeros 13 = .ok (.l2i, 1) := dk_136 (dk_at dksJ20_numberOfTrailingZeros_0 13 rfl rfl)
theorem dJ20_numberOfTrailingZeros_14 : decode cJ20_numberOfTrailingZeros 14 = .ok (.invokestatic 311, 3) := dk_184 1 55 (dk_at dksJ20_numberOfTrailingZeros_0 14 rfl rfl)
theorem dJ20_numberOfTrailingZeros_17 : decode cJ20_numberOfTrailingZeros 17 = .ok (.iadd, 1) := dk_96 (dk_at dksJ20_numberOfTrailingZeros_0 17 rfl rfl)
theorem dJ20_numberOfTrailingZeros_18 : decode cJ20_numberOfTrailingZeros 18 = .ok (.goto 7, 3) := dk_167 0 7 (dk_at dksJ20_numberOfTrailingZeros_0 18 rfl rfl)
theorem dJ20_numberOfTrailingZeros_21 : decode cJ20_numberOfTrailingZeros 21 = .ok (.iload_n 2, 1) := dk_28 (dk_at dksJ20_numberOfTrailingZeros_0 21 rfl rfl)
theorem dJ20_numberOfTrailingZeros_22 : decode cJ20_numberOfTrailingZeros 22 = .ok (.invokestatic 311, 3) := dk_184 1 55 (dk_at dksJ20_numberOfTrailingZeros_1 0 rfl rfl)
theorem dJ20_numberOfTrailingZeros_25 : decode cJ20_numberOfTrailingZeros 25 = .ok (.ireturn, 1) := dk_172 (dk_at dksJ20_numberOfTrailingZeros_1 3 rfl rfl)
theorem c61002 : jtCode 61002 = cJ20_numberOfTrailingZeros := rfl
theorem E61002_0 (d : Nat) (j0 : Int64) (h : AH) : G d 61002 0 [.long j0, jhalf, jno] [] h = if ((j0).toInt32) = 0 then (zcI (M d 62007 [.int ((((j0.toUInt64 >>> ((32 : Int32).toInt64.toUInt64 &&& 63)).toInt64)).toInt32)] h) (fun x1 h2 => some (.inl (some (.int (32 + x1))), h2)) ()) else (zcI (M d 62007 [.int ((j0).toInt32)] h) (fun x3 h4 => some (.inl (some (.int x3)), h4)) ()) := by
  refine (g_lload_n c61002 dJ20_numberOfTrailingZeros_0 rfl rfl).trans ?_
  refine (g_l2i c61002 dJ20_numberOfTrailingZeros_1).trans ?_
  refine (g_istore_n (L' := [.long j0, jhalf, .int ((j0).toInt32)]) c61002 dJ20_numberOfTrailingZeros_2 rfl rfl).trans ?_
  refine (g_iload_n c61002 dJ20_numberOfTrailingZeros_3 rfl).trans ?_
  refine (g_if_ne (tgt := 21) c61002 dJ20_numberOfTrailingZeros_4 rfl).trans (if_cg ?_ ?_)
  · skip
    refine (g_bipush (x := 32) c61002 dJ20_numberOfTrailingZeros_7 rfl).trans ?_
    refine (g_lload_n c61002 dJ20_numberOfTrailingZeros_9 rfl rfl).trans ?_
    refine (g_bipush (x := 32) c61002 dJ20_numberOfTrailingZeros_10 rfl).trans ?_
    refine (g_lushr c61002 dJ20_numberOfTrailingZeros_12).trans ?_
    refine (g_l2i c61002 dJ20_numberOfTrailingZeros_13).trans ?_
    refine (g_static (as := [.int ((((j0.toUInt64 >>> ((32 : Int32).toInt64.toUInt64 &&& 63)).toInt64)).toInt32)]) (rest := [.int 32]) c61002 dJ20_numberOfTrailingZeros_14 rfl rfl rfl rfl rfl).trans ((jback_I (κx := cX) (fun e h => jthrow_out rfl)).trans (cI_cg fun x1 h2 => ?_))
    refine (g_iadd c61002 dJ20_numberOfTrailingZeros_17).trans ?_
    refine (g_goto (tgt := 25) c61002 dJ20_numberOfTrailingZeros_18 rfl).trans ?_
    exact g_ireturn c61002 dJ20_numberOfTrailingZeros_25 rfl
  · skip
    refine (g_iload_n c61002 dJ20_numberOfTrailingZeros_21 rfl).trans ?_
    refine (g_static (as := [.int ((j0).toInt32)]) (rest := []) c61002 dJ20_numberOfTrailingZeros_22 rfl rfl rfl rfl rfl).trans ((jback_I (κx := cX) (fun e h => jthrow_out rfl)).trans (cI_cg fun x3 h4 => ?_))
    exact g_ireturn c61002 dJ20_numberOfTrailingZeros_25 rfl
theorem X61002 {d : Nat} {j0 : Int64} (h : AH) : M (d + 1) 61002 [.long j0] h = G d 61002 0 [.long j0, jhalf, jno] [] h := M_eq rfl rfl rfl
/-! java/lang/Integer.getChars(II[B)I -/
abbrev cJ21_getChars : ByteArray := prog_44_method_12_code
def dkwJ21_getChars_5 : List UInt8 := [16, 45, 84, 21, 5, 172]
abbrev dktJ21_getChars_5 : List UInt8 := dkwJ21_getChars_5 ++ []
def dkwJ21_getChars_4 : List UInt8 := [132, 5, 255, 21, 5, 178, 0, 87, 26, 116, 51, 84, 21, 6, 153, 0, 12, 44, 132, 5, 255, 21, 5]
abbrev dktJ21_getChars_4 : List UInt8 := dkwJ21_getChars_4 ++ dktJ21_getChars_5
def dkwJ21_getChars_3 : List UInt8 := [167, 255, 209, 44, 132, 5, 255, 21, 5, 178, 0, 83, 26, 116, 51, 84, 26, 16, 247, 162, 0, 16, 44]
abbrev dktJ21_getChars_3 : List UInt8 := dkwJ21_getChars_3 ++ dktJ21_getChars_4
def dkwJ21_getChars_2 : List UInt8 := [21, 5, 178, 0, 83, 21, 4, 51, 84, 44, 132, 5, 255, 21, 5, 178, 0, 87, 21, 4, 51, 84]
abbrev dktJ21_getChars_2 : List UInt8 := dkwJ21_getChars_2 ++ dktJ21_getChars_3
def dkwJ21_getChars_1 : List UInt8 := [16, 156, 163, 0, 47, 26, 16, 100, 108, 62, 29, 16, 100, 104, 26, 100, 54, 4, 29, 59, 44, 132, 5, 255]
abbrev dktJ21_getChars_1 : List UInt8 := dkwJ21_getChars_1 ++ dktJ21_getChars_2
def dkwJ21_getChars_0 : List UInt8 := [27, 54, 5, 26, 156, 0, 7, 4, 167, 0, 4, 3, 54, 6, 21, 6, 154, 0, 6, 26, 116, 59, 26]
abbrev dktJ21_getChars_0 : List UInt8 := dkwJ21_getChars_0 ++ dktJ21_getChars_1
theorem dksJ21_getChars_0 : cJ21_getChars.data.toList.drop 0 = dktJ21_getChars_0 := by decide +kernel
theorem dksJ21_getChars_1 : cJ21_getChars.data.toList.drop 23 = dktJ21_getChars_1 := dk_seg dksJ21_getChars_0 23 rfl rfl
theorem dksJ21_getChars_2 : cJ21_getChars.data.toList.drop 47 = dktJ21_getChars_2 := dk_seg dksJ21_getChars_1 24 rfl rfl
theorem dksJ21_getChars_3 : cJ21_getChars.data.toList.drop 69 = dktJ21_getChars_3 := dk_seg dksJ21_getChars_2 22 rfl rfl
theorem dksJ21_getChars_4 : cJ21_getChars.data.toList.drop 92 = dktJ21_getChars_4 := dk_seg dksJ21_getChars_3 23 rfl rfl
theorem dksJ21_getChars_5 : cJ21_getChars.data.toList.drop 115 = dktJ21_getChars_5 := dk_seg dksJ21_getChars_4 23 rfl rfl
theorem dJ21_getChars_0 : decode cJ21_getChars 0 = .ok (.iload_n 1, 1) := dk_27 (dk_at dksJ21_getChars_0 0 rfl rfl)
theorem dJ21_getChars_1 : decode cJ21_getChars 1 = .ok (.istore 5, 2) := dk_54 5 (dk_at dksJ21_getChars_0 1 rfl rfl)
theorem dJ21_getChars_3 : decode cJ21_getChars 3 = .ok (.iload_n 0, 1) := dk_26 (dk_at dksJ21_getChars_0 3 rfl rfl)
theorem dJ21_getChars_4 : decode cJ21_getChars 4 = .ok (.ifCond .ge 7, 3) := dk_156 0 7 (dk_at dksJ21_getChars_0 4 rfl rfl)
theorem dJ21_getChars_7 : decode cJ21_getChars 7 = .ok (.iconst 1, 1) := dk_4 (dk_at dksJ21_getChars_0 7 rfl rfl)
theorem dJ21_getChars_8 : decode cJ21_getChars 8 = .ok (.goto 4, 3) := dk_167 0 4 (dk_at dksJ21_getChars_0 8 rfl rfl)
theorem dJ21_getChars_11 : decode cJ21_getChars 11 = .ok (.iconst 0, 1) := dk_3 (dk_at dksJ21_getChars_0 11 rfl rfl)
theorem dJ21_getChars_12 : decode cJ21_getChars 12 = .ok (.istore 6, 2) := dk_54 6 (dk_at dksJ21_getChars_0 12 rfl rfl)
theorem dJ21_getChars_14 : decode cJ21_getChars 14 = .ok (.iload 6, 2) := dk_21 6 (dk_at dksJ21_getChars_0 14 rfl rfl)
theorem dJ21_getChars_16 : decode cJ21_getChars 16 = .ok (.ifCond .ne 6, 3) := dk_154 0 6 (dk_at dksJ21_getChars_0 16 rfl rfl)
theorem dJ21_getChars_19 : decode cJ21_getChars 19 = .ok (.iload_n 0, 1) := dk_26 (dk_at dksJ21_getChars_0 19 rfl rfl)
theorem dJ21_getChars_20 : decode cJ21_getChars 20 = .ok (.ineg, 1) := dk_116 (dk_at dksJ21_getChars_0 20 rfl rfl)
theorem dJ21_getChars_21 : decode cJ21_getChars 21 = .ok (.istore_n 0, 1) := dk_59 (dk_at dksJ21_getChars_0 21 rfl rfl)
theorem dJ21_getChars_22 : decode cJ21_getChars 22 = .ok (.iload_n 0, 1) := dk_26 (dk_at dksJ21_getChars_0 22 rfl rfl)
theorem dJ21_getChars_23 : decode cJ21_getChars 23 = .ok (.bipush (-100), 2) := dk_16 156 (dk_at dksJ21_getChars_1 0 rfl rfl)
theorem dJ21_getChars_25 : decode cJ21_getChars 25 = .ok (.if_icmp .gt 47, 3) := dk_163 0 47 (dk_at dksJ21_getChars_1 2 rfl rfl)
theorem dJ21_getChars_28 : decode cJ21_getChars 28 = .ok (.iload_n 0, 1) := dk_26 (dk_at dksJ21_getChars_1 5 rfl rfl)
theorem dJ21_getChars_29 : decode cJ21_getChars 29 = .ok (.bipush 100, 2) := dk_16 100 (dk_at dksJ21_getChars_1 6 rfl rfl)
theorem dJ21_getChars_31 : decode cJ21_getChars 31 = .ok (.idiv, 1) := dk_108 (dk_at dksJ21_getChars_1 8 rfl rfl)
theorem dJ21_getChars_32 : decode cJ21_getChars 32 = .ok (.istore_n 3, 1) := dk_62 (dk_at dksJ21_getChars_1 9 rfl rfl)
theorem dJ21_getChars_33 : decode cJ21_getChars 33 = .ok (.iload_n 3, 1) := dk_29 (dk_at dksJ21_getChars_1 10 rfl rfl)
theorem dJ21_getChars_34 : decode cJ21_getChars 34 = .ok (.bipush 100, 2) := dk_16 100 (dk_at dksJ21_getChars_1 11 rfl rfl)
theorem dJ21_getChars_36 : decode cJ21_getChars 36 = .ok (.imul, 1) := dk_104 (dk_at dksJ21_getChars_1 13 rfl rfl)
theorem dJ21_getChars_37 : decode cJ21_getChars 37 = .ok (.iload_n 0, 1) := dk_26 (dk_at dksJ21_getChars_1 14 rfl rfl)
theorem dJ21_getChars_38 : decode cJ21_getChars 38 = .ok (.isub, 1) := dk_100 (dk_at dksJ21_getChars_1 15 rfl rfl)
theorem dJ21_getChars_39 : decode cJ21_getChars 39 = .ok (.istore 4, 2) := dk_54 4 (dk_at dksJ21_getChars_1 16 rfl rfl)
theorem dJ21_getChars_41 : decode cJ21_getChars 41 = .ok (.iload_n 3, 1) := dk_29 (dk_at dksJ21_getChars_1 18 rfl rfl)
theorem dJ21_getChars_42 : decode cJ21_getChars 42 = .ok (.istore_n 0, 1) := dk_59 (dk_at dksJ21_getChars_1 19 rfl rfl)
theorem dJ21_getChars_43 : decode cJ21_getChars 43 = .ok (.aload_n 2, 1) := dk_44 (dk_at dksJ21_getChars_1 20 rfl rfl)
theorem dJ21_getChars_44 : decode cJ21_getChars 44 = .ok (.iinc 5 (-1), 3) := dk_132 5 255 (dk_at dksJ21_getChars_1 21 rfl rfl)
theorem dJ21_getChars_47 : decode cJ21_getChars 47 = .ok (.iload 5, 2) := dk_21 5 (dk_at dksJ21_getChars_2 0 rfl rfl)
theorem dJ21_getChars_49 : decode cJ21_getChars 49 = .ok (.getstatic 83, 3) := dk_178 0 83 (dk_at dksJ21_getChars_2 2 rfl rfl)
theorem dJ21_getChars_52 : decode cJ21_getChars 52 = .ok (.iload 4, 2) := dk_21 4 (dk_at dksJ21_getChars_2 5 rfl rfl)
theorem dJ21_getChars_54 : decode cJ21_getChars 54 = .ok (.baload, 1) := dk_51 (dk_at dksJ21_getChars_2 7 rfl rfl)
theorem dJ21_getChars_55 : decode cJ21_getChars 55 = .ok (.bastore, 1) := dk_84 (dk_at dksJ21_getChars_2 8 rfl rfl)
theorem dJ21_getChars_56 : decode cJ21_getChars 56 = .ok (.aload_n 2, 1) := dk_44 (dk_at dksJ21_getChars_2 9 rfl rfl)
theorem dJ21_getChars_57 : decode cJ21_getChars 57 = .ok (.iinc 5 (-1), 3) := dk_132 5 255 (dk_at dksJ21_getChars_2 10 rfl rfl)
theorem dJ21_getChars_60 : decode cJ21_getChars 60 = .ok (.iload 5, 2) := dk_21 5 (dk_at dksJ21_getChars_2 13 rfl rfl)
theorem dJ21_getChars_62 : decode cJ21_getChars 62 = .ok (.getstatic 87, 3) := dk_178 0 87 (dk_at dksJ21_getChars_2 15 rfl rfl)
theorem dJ21_getChars_65 : decode cJ21_getChars 65 = .ok (.iload 4, 2) := dk_21 4 (dk_at dksJ21_getChars_2 18 rfl rfl)
theorem dJ21_getChars_67 : decode cJ21_getChars 67 = .ok (.baload, 1) := dk_51 (dk_at dksJ21_getChars_2 20 rfl rfl)
theorem dJ21_getChars_68 : decode cJ21_getChars 68 = .ok (.bastore, 1) := dk_84 (dk_at dksJ21_getChars_2 21 rfl rfl)
theorem dJ21_getChars_69 : decode cJ21_getChars 69 = .ok (.goto (-47), 3) := dk_167 255 209 (dk_at dksJ21_getChars_3 0 rfl rfl)
theorem dJ21_getChars_72 : decode cJ21_getChars 72 = .ok (.aload_n 2, 1) := dk_44 (dk_at dksJ21_getChars_3 3 rfl rfl)
theorem dJ21_getChars_73 : decode cJ21_getChars 73 = .ok (.iinc 5 (-1), 3) := dk_132 5 255 (dk_at dksJ21_getChars_3 4 rfl rfl)
theorem dJ21_getChars_76 : decode cJ21_getChars 76 = .ok (.iload 5, 2) := dk_21 5 (dk_at dksJ21_getChars_3 7 rfl rfl)
theorem dJ21_getChars_78 : decode cJ21_getChars 78 = .ok (.getstatic 83, 3) := dk_178 0 83 (dk_at dksJ21_getChars_3 9 rfl rfl)
theorem dJ21_getChars_81 : decode cJ21_getChars 81 = .ok (.iload_n 0, 1) := dk_26 (dk_at dksJ21_getChars_3 12 rfl rfl)
theorem dJ21_getChars_82 : decode cJ21_getChars 82 = .ok (.ineg, 1) := dk_116 (dk_at dksJ21_getChars_3 13 rfl rfl)
theorem dJ21_getChars_83 : decode cJ21_getChars 83 = .ok (.baload, 1) := dk_51 (dk_at dksJ21_getChars_3 14 rfl rfl)
theorem dJ21_getChars_84 : decode cJ21_getChars 84 = .ok (.bastore, 1) := dk_84 (dk_at dksJ21_getChars_3 15 rfl rfl)
theorem dJ21_getChars_85 : decode cJ21_getChars 85 = .ok (.iload_n 0, 1) := dk_26 (dk_at dksJ21_getChars_3 16 rfl rfl)
theorem dJ21_getChars_86 : decode cJ21_getChars 86 = .ok (.bipush (-9), 2) := dk_16 247 (dk_at dksJ21_getChars_3 17 rfl rfl)
theorem dJ21_getChars_88 : decode cJ21_getChars 88 = .ok (.if_icmp .ge 16, 3) := dk_162 0 16 (dk_at dksJ21_getChars_3 19 rfl rfl)
theorem dJ21_getChars_91 : decode cJ21_getChars 91 = .ok (.aload_n 2, 1) := dk_44 (dk_at dksJ21_getChars_3 22 rfl rfl)
theorem dJ21_getChars_92 : decode cJ21_getChars 92 = .ok (.iinc 5 (-1), 3) := dk_132 5 255 (dk_at dksJ21_getChars_4 0 rfl rfl)
theorem dJ21_getChars_95 : decode cJ21_getChars 95 = .ok (.iload 5, 2) := dk_21 5 (dk_at dksJ21_getChars_4 3 rfl rfl)
theorem dJ21_getChars_97 : decode cJ21_getChars 97 = .ok (.getstatic 87, 3) := dk_178 0 87 (dk_at dksJ21_getChars_4 5 rfl rfl)
theorem dJ21_getChars_100 : decode cJ21_getChars 100 = .ok (.iload_n 0, 1) := dk_26 (dk_at dksJ21_getChars_4 8 rfl rfl)
theorem dJ21_getChars_101 : decode cJ21_getChars 101 = .ok (.ineg, 1) := dk_116 (dk_at dksJ21_getChars_4 9 rfl rfl)
theorem dJ21_getChars_102 : decode cJ21_getChars 102 = .ok (.baload, 1) := dk_51 (dk_at dksJ21_getChars_4 10 rfl rfl)
theorem dJ21_getChars_103 : decode cJ21_getChars 103 = .ok (.bastore, 1) := dk_84 (dk_at dksJ21_getChars_4 11 rfl rfl)
theorem dJ21_getChars_104 : decode cJ21_getChars 104 = .ok (.iload 6, 2) := dk_21 6 (dk_at dksJ21_getChars_4 12 rfl rfl)
theorem dJ21_getChars_106 : decode cJ21_getChars 106 = .ok (.ifCond .eq 12, 3) := dk_153 0 12 (dk_at dksJ21_getChars_4 14 rfl rfl)
theorem dJ21_getChars_109 : decode cJ21_getChars 109 = .ok (.aload_n 2, 1) := dk_44 (dk_at dksJ21_getChars_4 17 rfl rfl)
theorem dJ21_getChars_110 : decode cJ21_getChars 110 = .ok (.iinc 5 (-1), 3) := dk_132 5 255 (dk_at dksJ21_getChars_4 18 rfl rfl)
theorem dJ21_getChars_113 : decode cJ21_getChars 113 = .ok (.iload 5, 2) := dk_21 5 (dk_at dksJ21_getChars_4 21 rfl rfl)
theorem dJ21_getChars_115 : decode cJ21_getChars 115 = .ok (.bipush 45, 2) := dk_16 45 (dk_at dksJ21_getChars_5 0 rfl rfl)
theorem dJ21_getChars_117 : decode cJ21_getChars 117 = .ok (.bastore, 1) := dk_84 (dk_at dksJ21_getChars_5 2 rfl rfl)
theorem dJ21_getChars_118 : decode cJ21_getChars 118 = .ok (.iload 5, 2) := dk_21 5 (dk_at dksJ21_getChars_5 3 rfl rfl)
theorem dJ21_getChars_120 : decode cJ21_getChars 120 = .ok (.ireturn, 1) := dk_172 (dk_at dksJ21_getChars_5 5 rfl rfl)
theorem c62004 : jtCode 62004 = cJ21_getChars := rfl
theorem E62004_0 (d : Nat) (i0 : Int32) (i1 : Int32) (v2 : Value) (h : AH) : G d 62004 0 [.int i0, .int i1, v2, jno, jno, jno, jno] [] h = if 0 ≤ i0 then (if (0 : Int32) = 0 then (G d 62004 22 [.int (-i0), .int i1, v2, jno, jno, .int i1, .int 0] [] h) else (G d 62004 22 [.int i0, .int i1, v2, jno, jno, .int i1, .int 0] [] h)) else (if (1 : Int32) = 0 then (G d 62004 22 [.int (-i0), .int i1, v2, jno, jno, .int i1, .int 1] [] h) else (G d 62004 22 [.int i0, .int i1, v2, jno, jno, .int i1, .int 1] [] h)) := by
  refine (g_iload_n c62004 dJ21_getChars_0 rfl).trans ?_
  refine (g_istore (L' := [.int i0, .int i1, v2, jno, jno, .int i1, jno]) c62004 dJ21_getChars_1 rfl rfl).trans ?_
  refine (g_iload_n c62004 dJ21_getChars_3 rfl).trans ?_
  refine (g_if_ge (tgt := 11) c62004 dJ21_getChars_4 rfl).trans (if_cg ?_ ?_)
  · skip
    refine (g_iconst (x := 0) c62004 dJ21_getChars_11 rfl).trans ?_
    refine (g_istore (L' := [.int i0, .int i1, v2, jno, jno, .int i1, .int 0]) c62004 dJ21_getChars_12 rfl rfl).trans ?_
    refine (g_iload c62004 dJ21_getChars_14 rfl).trans ?_
    refine (g_if_ne (tgt := 22) c62004 dJ21_getChars_16 rfl).trans (if_cg ?_ ?_)
    · skip
      refine (g_iload_n c62004 dJ21_getChars_19 rfl).trans ?_
      refine (g_ineg c62004 dJ21_getChars_20).trans ?_
      refine (g_istore_n (L' := [.int (-i0), .int i1, v2, jno, jno, .int i1, .int 0]) c62004 dJ21_getChars_21 rfl rfl).trans ?_
      rfl
    · skip
      rfl
  · skip
    refine (g_iconst (x := 1) c62004 dJ21_getChars_7 rfl).trans ?_
    refine (g_goto (tgt := 12) c62004 dJ21_getChars_8 rfl).trans ?_
    refine (g_istore (L' := [.int i0, .int i1, v2, jno, jno, .int i1, .int 1]) c62004 dJ21_getChars_12 rfl rfl).trans ?_
    refine (g_iload c62004 dJ21_getChars_14 rfl).trans ?_
    refine (g_if_ne (tgt := 22) c62004 dJ21_getChars_16 rfl).trans (if_cg ?_ ?_)
    · skip
      refine (g_iload_n c62004 dJ21_getChars_19 rfl).trans ?_
      refine (g_ineg c62004 dJ21_getChars_20).trans ?_
      refine (g_istore_n (L' := [.int (-i0), .int i1, v2, jno, jno, .int i1, .int 1]) c62004 dJ21_getChars_21 rfl rfl).trans ?_
      rfl
    · skip
      rfl
theorem E62004_22 (d : Nat) (i0 : Int32) (i1 : Int32) (v2 : Value) (v3 : Value) (v4 : Value) (i5 : Int32) (i6 : Int32) (h : AH) : G d 62004 22 [.int i0, .int i1, v2, v3, v4, .int i5, .int i6] [] h = if (-100) < i0 then (zkR v2 (zpR (je h 7) (fun r1 => zqG h r1 [1010, 1011, 1020] (-i0) (fun w2 => zpI w2 (fun x3 => zqB h v2 (i5 + (-1)) x3 (fun h4 => if (-9) ≤ i0 then (if i6 = 0 then (some (.inl (some (.int (i5 + (-1)))), h4)) else (zkR v2 (zqB h4 v2 ((i5 + (-1)) + (-1)) 45 (fun h5 => some (.inl (some (.int ((i5 + (-1)) + (-1)))), h5)) ()) ())) else (zkR v2 (zpR (je h4 8) (fun r6 => zqG h4 r6 [1010, 1011, 1020] (-i0) (fun w7 => zpI w7 (fun x8 => zqB h4 v2 ((i5 + (-1)) + (-1)) x8 (fun h9 => if i6 = 0 then (some (.inl (some (.int ((i5 + (-1)) + (-1)))), h9)) else (zkR v2 (zqB h9 v2 (((i5 + (-1)) + (-1)) + (-1)) 45 (fun h10 => some (.inl (some (.int (((i5 + (-1)) + (-1)) + (-1)))), h10)) ()) ())) ()) ()) ()) ()) ())) ()) ()) ()) ()) ()) else (zqD 100 (zkR v2 (zpR (je h 7) (fun r11 => zqG h r11 [1010, 1011, 1020] (((i0 / 100) * 100) - i0) (fun w12 => zpI w12 (fun x13 => zqB h v2 (i5 + (-1)) x13 (fun h14 => zkR v2 (zpR (je h14 8) (fun r15 => zqG h14 r15 [1010, 1011, 1020] (((i0 / 100) * 100) - i0) (fun w16 => zpI w16 (fun x17 => zqB h14 v2 ((i5 + (-1)) + (-1)) x17 (fun h18 => G d 62004 22 [.int (i0 / 100), .int i1, v2, .int (i0 / 100), .int (((i0 / 100) * 100) - i0), .int ((i5 + (-1)) + (-1)), .int i6] [] h18) ()) ()) ()) ()) ()) ()) ()) ()) ()) ()) ()) := by
  refine (g_iload_n c62004 dJ21_getChars_22 rfl).trans ?_
  refine (g_bipush (x := (-100)) c62004 dJ21_getChars_23 rfl).trans ?_
  refine (g_icmp_gt (tgt := 72) c62004 dJ21_getChars_25 rfl).trans (if_cg ?_ ?_)
  · skip
    refine (g_aload_nV c62004 dJ21_getChars_72 rfl).trans (ckR_cg ?_)
    refine (g_iinc (c := (-1)) (L' := [.int i0, .int i1, v2, v3, v4, .int (i5 + (-1)), .int i6]) c62004 dJ21_getChars_73 rfl rfl rfl rfl).trans ?_
    refine (g_iload c62004 dJ21_getChars_76 rfl).trans ?_
    refine (g_getsR (k := 7) c62004 dJ21_getChars_78 rfl rfl).trans (rR_cg fun r1 => ?_)
    refine (g_iload_n c62004 dJ21_getChars_81 rfl).trans ?_
    refine (g_ineg c62004 dJ21_getChars_82).trans ?_
    refine (g_baload c62004 dJ21_getChars_83).trans (aG_cg fun w2 => rI_cg fun x3 => ?_)
    refine (g_bastore c62004 dJ21_getChars_84).trans (aSb_cg fun h4 => ?_)
    refine (g_iload_n c62004 dJ21_getChars_85 rfl).trans ?_
    refine (g_bipush (x := (-9)) c62004 dJ21_getChars_86 rfl).trans ?_
    refine (g_icmp_ge (tgt := 104) c62004 dJ21_getChars_88 rfl).trans (if_cg ?_ ?_)
    · skip
      refine (g_iload c62004 dJ21_getChars_104 rfl).trans ?_
      refine (g_if_eq (tgt := 118) c62004 dJ21_getChars_106 rfl).trans (if_cg ?_ ?_)
      · skip
        refine (g_iload c62004 dJ21_getChars_118 rfl).trans ?_
        exact g_ireturn c62004 dJ21_getChars_120 rfl
      · skip
        refine (g_aload_nV c62004 dJ21_getChars_109 rfl).trans (ckR_cg ?_)
        refine (g_iinc (c := (-1)) (L' := [.int i0, .int i1, v2, v3, v4, .int ((i5 + (-1)) + (-1)), .int i6]) c62004 dJ21_getChars_110 rfl rfl rfl rfl).trans ?_
        refine (g_iload c62004 dJ21_getChars_113 rfl).trans ?_
        refine (g_bipush (x := 45) c62004 dJ21_getChars_115 rfl).trans ?_
        refine (g_bastore c62004 dJ21_getChars_117).trans (aSb_cg fun h5 => ?_)
        refine (g_iload c62004 dJ21_getChars_118 rfl).trans ?_
        exact g_ireturn c62004 dJ21_getChars_120 rfl
    · skip
      refine (g_aload_nV c62004 dJ21_getChars_91 rfl).trans (ckR_cg ?_)
      refine (g_iinc (c := (-1)) (L' := [.int i0, .int i1, v2, v3, v4, .int ((i5 + (-1)) + (-1)), .int i6]) c62004 dJ21_getChars_92 rfl rfl rfl rfl).trans ?_
      refine (g_iload c62004 dJ21_getChars_95 rfl).trans ?_
      refine (g_getsR (k := 8) c62004 dJ21_getChars_97 rfl rfl).trans (rR_cg fun r6 => ?_)
      refine (g_iload_n c62004 dJ21_getChars_100 rfl).trans ?_
      refine (g_ineg c62004 dJ21_getChars_101).trans ?_
      refine (g_baload c62004 dJ21_getChars_102).trans (aG_cg fun w7 => rI_cg fun x8 => ?_)
      refine (g_bastore c62004 dJ21_getChars_103).trans (aSb_cg fun h9 => ?_)
      refine (g_iload c62004 dJ21_getChars_104 rfl).trans ?_
      refine (g_if_eq (tgt := 118) c62004 dJ21_getChars_106 rfl).trans (if_cg ?_ ?_)
      · skip
        refine (g_iload c62004 dJ21_getChars_118 rfl).trans ?_
        exact g_ireturn c62004 dJ21_getChars_120 rfl
      · skip
        refine (g_aload_nV c62004 dJ21_getChars_109 rfl).trans (ckR_cg ?_)
        refine (g_iinc (c := (-1)) (L' := [.int i0, .int i1, v2, v3, v4, .int (((i5 + (-1)) + (-1)) + (-1)), .int i6]) c62004 dJ21_getChars_110 rfl rfl rfl rfl).trans ?_
        refine (g_iload c62004 dJ21_getChars_113 rfl).trans ?_
        refine (g_bipush (x := 45) c62004 dJ21_getChars_115 rfl).trans ?_
        refine (g_bastore c62004 dJ21_getChars_117).trans (aSb_cg fun h10 => ?_)
        refine (g_iload c62004 dJ21_getChars_118 rfl).trans ?_
        exact g_ireturn c62004 dJ21_getChars_120 rfl
  · skip
    refine (g_iload_n c62004 dJ21_getChars_28 rfl).trans ?_
    refine (g_bipush (x := 100) c62004 dJ21_getChars_29 rfl).trans ?_
    refine (g_idiv c62004 dJ21_getChars_31).trans (dZ_cg ?_)
    refine (g_istore_n (L' := [.int i0, .int i1, v2, .int (i0 / 100), v4, .int i5, .int i6]) c62004 dJ21_getChars_32 rfl rfl).trans ?_
    refine (g_iload_n c62004 dJ21_getChars_33 rfl).trans ?_
    refine (g_bipush (x := 100) c62004 dJ21_getChars_34 rfl).trans ?_
    refine (g_imul c62004 dJ21_getChars_36).trans ?_
    refine (g_iload_n c62004 dJ21_getChars_37 rfl).trans ?_
    refine (g_isub c62004 dJ21_getChars_38).trans ?_
    refine (g_istore (L' := [.int i0, .int i1, v2, .int (i0 / 100), .int (((i0 / 100) * 100) - i0), .int i5, .int i6]) c62004 dJ21_getChars_39 rfl rfl).trans ?_
    refine (g_iload_n c62004 dJ21_getChars_41 rfl).trans ?_
    refine (g_istore_n (L' := [.int (i0 / 100), .int i1, v2, .int (i0 / 100), .int (((i0 / 100) * 100) - i0), .int i5, .int i6]) c62004 dJ21_getChars_42 rfl rfl).trans ?_
    refine (g_aload_nV c62004 dJ21_getChars_43 rfl).trans (ckR_cg ?_)
    refine (g_iinc (c := (-1)) (L' := [.int (i0 / 100), .int i1, v2, .int (i0 / 100), .int (((i0 / 100) * 100) - i0), .int (i5 + (-1)), .int i6]) c62004 dJ21_getChars_44 rfl rfl rfl rfl).trans ?_
    refine (g_iload c62004 dJ21_getChars_47 rfl).trans ?_
    refine (g_getsR (k := 7) c62004 dJ21_getChars_49 rfl rfl).trans (rR_cg fun r11 => ?_)
    refine (g_iload c62004 dJ21_getChars_52 rfl).trans ?_
    refine (g_baload c62004 dJ21_getChars_54).trans (aG_cg fun w12 => rI_cg fun x13 => ?_)
    refine (g_bastore c62004 dJ21_getChars_55).trans (aSb_cg fun h14 => ?_)
    refine (g_aload_nV c62004 dJ21_getChars_56 rfl).trans (ckR_cg ?_)
    refine (g_iinc (c := (-1)) (L' := [.int (i0 / 100), .int i1, v2, .int (i0 / 100), .int (((i0 / 100) * 100) - i0), .int ((i5 + (-1)) + (-1)), .int i6]) c62004 dJ21_getChars_57 rfl rfl rfl rfl).trans ?_
    refine (g_iload c62004 dJ21_getChars_60 rfl).trans ?_
    refine (g_getsR (k := 8) c62004 dJ21_getChars_62 rfl rfl).trans (rR_cg fun r15 => ?_)
    refine (g_iload c62004 dJ21_getChars_65 rfl).trans ?_
    refine (g_baload c62004 dJ21_getChars_67).trans (aG_cg fun w16 => rI_cg fun x17 => ?_)
    refine (g_bastore c62004 dJ21_getChars_68).trans (aSb_cg fun h18 => ?_)
    refine (g_goto (tgt := 22) c62004 dJ21_getChars_69 rfl).trans ?_
    rfl
theorem X62004 {d : Nat} {i0 : Int32} {i1 : Int32} {v2 : Value} (h : AH) (hv2 : isR v2 = true) : M (d + 1) 62004 [.int i0, .int i1, v2] h = G d 62004 0 [.int i0, .int i1, v2, jno, jno, jno, jno] [] h := M_eq rfl rfl (by simp only [jent, jargL_R hv2, jargL]; rfl)
/-! java/lang/Integer.numberOfTrailingZeros(I)I -/
abbrev cJ21_numberOfTrailingZeros : ByteArray := prog_44_method_48_code
def dkwJ21_numberOfTrailingZeros_3 : List UInt8 := [5, 124, 59, 27, 26, 4, 124, 96, 172]
abbrev dktJ21_numberOfTrailingZeros_3 : List UInt8 := dkwJ21_numberOfTrailingZeros_3 ++ []
def dkwJ21_numberOfTrailingZeros_2 : List UInt8 := [124, 59, 26, 16, 16, 164, 0, 10, 132, 1, 4, 26, 7, 124, 59, 26, 7, 164, 0, 10, 132, 1, 2, 26]
abbrev dktJ21_numberOfTrailingZeros_2 : List UInt8 := dkwJ21_numberOfTrailingZeros_2 ++ dktJ21_numberOfTrailingZeros_3
def dkwJ21_numberOfTrailingZeros_1 : List UInt8 := [164, 0, 11, 132, 1, 16, 26, 16, 16, 124, 59, 26, 17, 1, 0, 164, 0, 11, 132, 1, 8, 26, 16, 8]
abbrev dktJ21_numberOfTrailingZeros_1 : List UInt8 := dkwJ21_numberOfTrailingZeros_1 ++ dktJ21_numberOfTrailingZeros_2
def dkwJ21_numberOfTrailingZeros_0 : List UInt8 := [26, 2, 130, 26, 4, 100, 126, 59, 26, 157, 0, 8, 26, 16, 32, 126, 172, 4, 60, 26, 19, 1, 8]
abbrev dktJ21_numberOfTrailingZeros_0 : List UInt8 := dkwJ21_numberOfTrailingZeros_0 ++ dktJ21_numberOfTrailingZeros_1
theorem dksJ21_numberOfTrailingZeros_0 : cJ21_numberOfTrailingZeros.data.toList.drop 0 = dktJ21_numberOfTrailingZeros_0 := by decide +kernel
theorem dksJ21_numberOfTrailingZeros_1 : cJ21_numberOfTrailingZeros.data.toList.drop 23 = dktJ21_numberOfTrailingZeros_1 := dk_seg dksJ21_numberOfTrailingZeros_0 23 rfl rfl
theorem dksJ21_numberOfTrailingZeros_2 : cJ21_numberOfTrailingZeros.data.toList.drop 47 = dktJ21_numberOfTrailingZeros_2 := dk_seg dksJ21_numberOfTrailingZeros_1 24 rfl rfl
theorem dksJ21_numberOfTrailingZeros_3 : cJ21_numberOfTrailingZeros.data.toList.drop 71 = dktJ21_numberOfTrailingZeros_3 := dk_seg dksJ21_numberOfTrailingZeros_2 24 rfl rfl
theorem dJ21_numberOfTrailingZeros_0 : decode cJ21_numberOfTrailingZeros 0 = .ok (.iload_n 0, 1) := dk_26 (dk_at dksJ21_numberOfTrailingZeros_0 0 rfl rfl)
theorem dJ21_numberOfTrailingZeros_1 : decode cJ21_numberOfTrailingZeros 1 = .ok (.iconst (-1), 1) := dk_2 (dk_at dksJ21_numberOfTrailingZeros_0 1 rfl rfl)
theorem dJ21_numberOfTrailingZeros_2 : decode cJ21_numberOfTrailingZeros 2 = .ok (.ixor, 1) := dk_130 (dk_at dksJ21_numberOfTrailingZeros_0 2 rfl rfl)
theorem dJ21_numberOfTrailingZeros_3 : decode cJ21_numberOfTrailingZeros 3 = .ok (.iload_n 0, 1) := dk_26 (dk_at dksJ21_numberOfTrailingZeros_0 3 rfl rfl)
theorem dJ21_numberOfTrailingZeros_4 : decode cJ21_numberOfTrailingZeros 4 = .ok (.iconst 1, 1) := dk_4 (dk_at dksJ21_numberOfTrailingZeros_0 4 rfl rfl)
theorem dJ21_numberOfTrailingZeros_5 : decode cJ21_numberOfTrailingZeros 5 = .ok (.isub, 1) := dk_100 (dk_at dksJ21_numberOfTrailingZeros_0 5 rfl rfl)
theorem dJ21_numberOfTrailingZeros_6 : decode cJ21_numberOfTrailingZeros 6 = .ok (.iand, 1) := dk_126 (dk_at dksJ21_numberOfTrailingZeros_0 6 rfl rfl)
theorem dJ21_numberOfTrailingZeros_7 : decode cJ21_numberOfTrailingZeros 7 = .ok (.istore_n 0, 1) := dk_59 (dk_at dksJ21_numberOfTrailingZeros_0 7 rfl rfl)
theorem dJ21_numberOfTrailingZeros_8 : decode cJ21_numberOfTrailingZeros 8 = .ok (.iload_n 0, 1) := dk_26 (dk_at dksJ21_numberOfTrailingZeros_0 8 rfl rfl)
theorem dJ21_numberOfTrailingZeros_9 : decode cJ21_numberOfTrailingZeros 9 = .ok (.ifCond .gt 8, 3) := dk_157 0 8 (dk_at dksJ21_numberOfTrailingZeros_0 9 rfl rfl)
theorem dJ21_numberOfTrailingZeros_12 : decode cJ21_numberOfTrailingZeros 12 = .ok (.iload_n 0, 1) := dk_26 (dk_at dksJ21_numberOfTrailingZeros_0 12 rfl rfl)
theorem dJ21_numberOfTrailingZeros_13 : decode cJ21_numberOfTrailingZeros 13 = .ok (.bipush 32, 2) := dk_16 32 (dk_at dksJ21_numberOfTrailingZeros_0 13 rfl rfl)
theorem dJ21_numberOfTrailingZeros_15 : decode cJ21_numberOfTrailingZeros 15 = .ok (.iand, 1) := dk_126 (dk_at dksJ21_numberOfTrailingZeros_0 15 rfl rfl)
theorem dJ21_numberOfTrailingZeros_16 : decode cJ21_numberOfTrailingZeros 16 = .ok (.ireturn, 1) := dk_172 (dk_at dksJ21_numberOfTrailingZeros_0 16 rfl rfl)
theorem dJ21_numberOfTrailingZeros_17 : decode cJ21_numberOfTrailingZeros 17 = .ok (.iconst 1, 1) := dk_4 (dk_at dksJ21_numberOfTrailingZeros_0 17 rfl rfl)
theorem dJ21_numberOfTrailingZeros_18 : decode cJ21_numberOfTrailingZeros 18 = .ok (.istore_n 1, 1) := dk_60 (dk_at dksJ21_numberOfTrailingZeros_0 18 rfl rfl)
theorem dJ21_numberOfTrailingZeros_19 : decode cJ21_numberOfTrailingZeros 19 = .ok (.iload_n 0, 1) := dk_26 (dk_at dksJ21_numberOfTrailingZeros_0 19 rfl rfl)
theorem dJ21_numberOfTrailingZeros_20 : decode cJ21_numberOfTrailingZeros 20 = .ok (.ldc_w 264, 3) := dk_19 1 8 (dk_at dksJ21_numberOfTrailingZeros_0 20 rfl rfl)
theorem dJ21_numberOfTrailingZeros_23 : decode cJ21_numberOfTrailingZeros 23 = .ok (.if_icmp .le 11, 3) := dk_164 0 11 (dk_at dksJ21_numberOfTrailingZeros_1 0 rfl rfl)
theorem dJ21_numberOfTrailingZeros_26 : decode cJ21_numberOfTrailingZeros 26 = .ok (.iinc 1 16, 3) := dk_132 1 16 (dk_at dksJ21_numberOfTrailingZeros_1 3 rfl rfl)
theorem dJ21_numberOfTrailingZeros_29 : decode cJ21_numberOfTrailingZeros 29 = .ok (.iload_n 0, 1) := dk_26 (dk_at dksJ21_numberOfTrailingZeros_1 6 rfl rfl)
theorem dJ21_numberOfTrailingZeros_30 : decode cJ21_numberOfTrailingZeros 30 = .ok (.bipush 16, 2) := dk_16 16 (dk_at dksJ21_numberOfTrailingZeros_1 7 rfl rfl)
theorem dJ21_numberOfTrailingZeros_32 : decode cJ21_numberOfTrailingZeros 32 = .ok (.iushr, 1) := dk_124 (dk_at dksJ21_numberOfTrailingZeros_1 9 rfl rfl)
theorem dJ21_numberOfTrailingZeros_33 : decode cJ21_numberOfTrailingZeros 33 = .ok (.istore_n 0, 1) := dk_59 (dk_at dksJ21_numberOfTrailingZeros_1 10 rfl rfl)
theorem dJ21_numberOfTrailingZeros_34 : decode cJ21_numberOfTrailingZeros 34 = .ok (.iload_n 0, 1) := dk_26 (dk_at dksJ21_numberOfTrailingZeros_1 11 rfl rfl)
theorem dJ21_numberOfTrailingZeros_35 : decode cJ21_numberOfTrailingZeros 35 = .ok (.sipush 256, 3) := dk_17 1 0 (dk_at dksJ21_numberOfTrailingZeros_1 12 rfl rfl)
theorem dJ21_numberOfTrailingZeros_38 : decode cJ21_numberOfTrailingZeros 38 = .ok (.if_icmp .le 11, 3) := dk_164 0 11 (dk_at dksJ21_numberOfTrailingZeros_1 15 rfl rfl)
theorem dJ21_numberOfTrailingZeros_41 : decode cJ21_numberOfTrailingZeros 41 = .ok (.iinc 1 8, 3) := dk_132 1 8 (dk_at dksJ21_numberOfTrailingZeros_1 18 rfl rfl)
theorem dJ21_numberOfTrailingZeros_44 : decode cJ21_numberOfTrailingZeros 44 = .ok (.iload_n 0, 1) := dk_26 (dk_at dksJ21_numberOfTrailingZeros_1 21 rfl rfl)
theorem dJ21_numberOfTrailingZeros_45 : decode cJ21_numberOfTrailingZeros 45 = .ok (.bipush 8, 2) := dk_16 8 (dk_at dksJ21_numberOfTrailingZeros_1 22 rfl rfl)
theorem dJ21_numberOfTrailingZeros_47 : decode cJ21_numberOfTrailingZeros 47 = .ok (.iushr, 1) := dk_124 (dk_at dksJ21_numberOfTrailingZeros_2 0 rfl rfl)
theorem dJ21_numberOfTrailingZeros_48 : decode cJ21_numberOfTrailingZeros 48 = .ok (.istore_n 0, 1) := dk_59 (dk_at dksJ21_numberOfTrailingZeros_2 1 rfl rfl)
theorem dJ21_numberOfTrailingZeros_49 : decode cJ21_numberOfTrailingZeros 49 = .ok (.iload_n 0, 1) := dk_26 (dk_at dksJ21_numberOfTrailingZeros_2 2 rfl rfl)
theorem dJ21_numberOfTrailingZeros_50 : decode cJ21_numberOfTrailingZeros 50 = .ok (.bipush 16, 2) := dk_16 16 (dk_at dksJ21_numberOfTrailingZeros_2 3 rfl rfl)
theorem dJ21_numberOfTrailingZeros_52 : decode cJ21_numberOfTrailingZeros 52 = .ok (.if_icmp .le 10, 3) := dk_164 0 10 (dk_at dksJ21_numberOfTrailingZeros_2 5 rfl rfl)
theorem dJ21_numberOfTrailingZeros_55 : decode cJ21_numberOfTrailingZeros 55 = .ok (.iinc 1 4, 3) := dk_132 1 4 (dk_at dksJ21_numberOfTrailingZeros_2 8 rfl rfl)
theorem dJ21_numberOfTrailingZeros_58 : decode cJ21_numberOfTrailingZeros 58 = .ok (.iload_n 0, 1) := dk_26 (dk_at dksJ21_numberOfTrailingZeros_2 11 rfl rfl)
theorem dJ21_numberOfTrailingZeros_59 : decode cJ21_numberOfTrailingZeros 59 = .ok (.iconst 4, 1) := dk_7 (dk_at dksJ21_numberOfTrailingZeros_2 12 rfl rfl)
theorem dJ21_numberOfTrailingZeros_60 : decode cJ21_numberOfTrailingZeros 60 = .ok (.iushr, 1) := dk_124 (dk_at dksJ21_numberOfTrailingZeros_2 13 rfl rfl)
theorem dJ21_numberOfTrailingZeros_61 : decode cJ21_numberOfTrailingZeros 61 = .ok (.istore_n 0, 1) := dk_59 (dk_at dksJ21_numberOfTrailingZeros_2 14 rfl rfl)
theorem dJ21_numberOfTrailingZeros_62 : decode cJ21_numberOfTrailingZeros 62 = .ok (.iload_n 0, 1) := dk_26 (dk_at dksJ21_numberOfTrailingZeros_2 15 rfl rfl)
theorem dJ21_numberOfTrailingZeros_63 : decode cJ21_numberOfTrailingZeros 63 = .ok (.iconst 4, 1) := dk_7 (dk_at dksJ21_numberOfTrailingZeros_2 16 rfl rfl)
theorem dJ21_numberOfTrailingZeros_64 : decode cJ21_numberOfTrailingZeros 64 = .ok (.if_icmp .le 10, 3) := dk_164 0 10 (dk_at dksJ21_numberOfTrailingZeros_2 17 rfl rfl)
theorem dJ21_numberOfTrailingZeros_67 : decode cJ21_numberOfTrailingZeros 67 = .ok (.iinc 1 2, 3) := dk_132 1 2 (dk_at dksJ21_numberOfTrailingZeros_2 20 rfl rfl)
theorem dJ21_numberOfTrailingZeros_70 : decode cJ21_numberOfTrailingZeros 70 = .ok (.iload_n 0, 1) := dk_26 (dk_at dksJ21_numberOfTrailingZeros_2 23 rfl rfl)
theorem dJ21_numberOfTrailingZeros_71 : decode cJ21_numberOfTrailingZeros 71 = .ok (.iconst 2, 1) := dk_5 (dk_at dksJ21_numberOfTrailingZeros_3 0 rfl rfl)
theorem dJ21_numberOfTrailingZeros_72 : decode cJ21_numberOfTrailingZeros 72 = .ok (.iushr, 1) := dk_124 (dk_at dksJ21_numberOfTrailingZeros_3 1 rfl rfl)
theorem dJ21_numberOfTrailingZeros_73 : decode cJ21_numberOfTrailingZeros 73 = .ok (.istore_n 0, 1) := dk_59 (dk_at dksJ21_numberOfTrailingZeros_3 2 rfl rfl)
theorem dJ21_numberOfTrailingZeros_74 : decode cJ21_numberOfTrailingZeros 74 = .ok (.iload_n 1, 1) := dk_27 (dk_at dksJ21_numberOfTrailingZeros_3 3 rfl rfl)
theorem dJ21_numberOfTrailingZeros_75 : decode cJ21_numberOfTrailingZeros 75 = .ok (.iload_n 0, 1) := dk_26 (dk_at dksJ21_numberOfTrailingZeros_3 4 rfl rfl)
theorem dJ21_numberOfTrailingZeros_76 : decode cJ21_numberOfTrailingZeros 76 = .ok (.iconst 1, 1) := dk_4 (dk_at dksJ21_numberOfTrailingZeros_3 5 rfl rfl)
theorem dJ21_numberOfTrailingZeros_77 : decode cJ21_numberOfTrailingZeros 77 = .ok (.iushr, 1) := dk_124 (dk_at dksJ21_numberOfTrailingZeros_3 6 rfl rfl)
theorem dJ21_numberOfTrailingZeros_78 : decode cJ21_numberOfTrailingZeros 78 = .ok (.iadd, 1) := dk_96 (dk_at dksJ21_numberOfTrailingZeros_3 7 rfl rfl)
theorem dJ21_numberOfTrailingZeros_79 : decode cJ21_numberOfTrailingZeros 79 = .ok (.ireturn, 1) := dk_172 (dk_at dksJ21_numberOfTrailingZeros_3 8 rfl rfl)
theorem c62007 : jtCode 62007 = cJ21_numberOfTrailingZeros := rfl
theorem E62007_0 (d : Nat) (i0 : Int32) (h : AH) : G d 62007 0 [.int i0, jno] [] h = if 0 < ((i0 ^^^ (-1)) &&& (i0 - 1)) then (if ((i0 ^^^ (-1)) &&& (i0 - 1)) ≤ 65536 then (G d 62007 34 [.int ((i0 ^^^ (-1)) &&& (i0 - 1)), .int 1] [] h) else (G d 62007 34 [.int ((((i0 ^^^ (-1)) &&& (i0 - 1)).toUInt32 >>> ((16 : Int32).toUInt32 &&& Int32.toUInt32 31)).toInt32), .int (1 + 16)] [] h)) else (some (.inl (some (.int (((i0 ^^^ (-1)) &&& (i0 - 1)) &&& 32))), h)) := by
  refine (g_iload_n c62007 dJ21_numberOfTrailingZeros_0 rfl).trans ?_
  refine (g_iconst (x := (-1)) c62007 dJ21_numberOfTrailingZeros_1 rfl).trans ?_
  refine (g_ixor c62007 dJ21_numberOfTrailingZeros_2).trans ?_
  refine (g_iload_n c62007 dJ21_numberOfTrailingZeros_3 rfl).trans ?_
  refine (g_iconst (x := 1) c62007 dJ21_numberOfTrailingZeros_4 rfl).trans ?_
  refine (g_isub c62007 dJ21_numberOfTrailingZeros_5).trans ?_
  refine (g_iand c62007 dJ21_numberOfTrailingZeros_6).trans ?_
  refine (g_istore_n (L' := [.int ((i0 ^^^ (-1)) &&& (i0 - 1)), jno]) c62007 dJ21_numberOfTrailingZeros_7 rfl rfl).trans ?_
  refine (g_iload_n c62007 dJ21_numberOfTrailingZeros_8 rfl).trans ?_
  refine (g_if_gt (tgt := 17) c62007 dJ21_numberOfTrailingZeros_9 rfl).trans (if_cg ?_ ?_)
  · skip
    refine (g_iconst (x := 1) c62007 dJ21_numberOfTrailingZeros_17 rfl).trans ?_
    refine (g_istore_n (L' := [.int ((i0 ^^^ (-1)) &&& (i0 - 1)), .int 1]) c62007 dJ21_numberOfTrailingZeros_18 rfl rfl).trans ?_
    refine (g_iload_n c62007 dJ21_numberOfTrailingZeros_19 rfl).trans ?_
    refine (g_ldcwI (x := 65536) c62007 dJ21_numberOfTrailingZeros_20 rfl rfl).trans ?_
    refine (g_icmp_le (tgt := 34) c62007 dJ21_numberOfTrailingZeros_23 rfl).trans (if_cg ?_ ?_)
    · skip
      rfl
    · skip
      refine (g_iinc (c := 16) (L' := [.int ((i0 ^^^ (-1)) &&& (i0 - 1)), .int (1 + 16)]) c62007 dJ21_numberOfTrailingZeros_26 rfl rfl rfl rfl).trans ?_
      refine (g_iload_n c62007 dJ21_numberOfTrailingZeros_29 rfl).trans ?_
      refine (g_bipush (x := 16) c62007 dJ21_numberOfTrailingZeros_30 rfl).trans ?_
      refine (g_iushr c62007 dJ21_numberOfTrailingZeros_32).trans ?_
      refine (g_istore_n (L' := [.int ((((i0 ^^^ (-1)) &&& (i0 - 1)).toUInt32 >>> ((16 : Int32).toUInt32 &&& Int32.toUInt32 31)).toInt32), .int (1 + 16)]) c62007 dJ21_numberOfTrailingZeros_33 rfl rfl).trans ?_
      rfl
  · skip
    refine (g_iload_n c62007 dJ21_numberOfTrailingZeros_12 rfl).trans ?_
    refine (g_bipush (x := 32) c62007 dJ21_numberOfTrailingZeros_13 rfl).trans ?_
    refine (g_iand c62007 dJ21_numberOfTrailingZeros_15).trans ?_
    exact g_ireturn c62007 dJ21_numberOfTrailingZeros_16 rfl
theorem E62007_34 (d : Nat) (i0 : Int32) (i1 : Int32) (h : AH) : G d 62007 34 [.int i0, .int i1] [] h = if i0 ≤ 256 then (if i0 ≤ 16 then (G d 62007 62 [.int i0, .int i1] [] h) else (G d 62007 62 [.int ((i0.toUInt32 >>> ((4 : Int32).toUInt32 &&& Int32.toUInt32 31)).toInt32), .int (i1 + 4)] [] h)) else (if ((i0.toUInt32 >>> ((8 : Int32).toUInt32 &&& Int32.toUInt32 31)).toInt32) ≤ 16 then (G d 62007 62 [.int ((i0.toUInt32 >>> ((8 : Int32).toUInt32 &&& Int32.toUInt32 31)).toInt32), .int (i1 + 8)] [] h) else (G d 62007 62 [.int ((((i0.toUInt32 >>> ((8 : Int32).toUInt32 &&& Int32.toUInt32 31)).toInt32).toUInt32 >>> ((4 : Int32).toUInt32 &&& Int32.toUInt32 31)).toInt32), .int ((i1 + 8) + 4)] [] h)) := by
  refine (g_iload_n c62007 dJ21_numberOfTrailingZeros_34 rfl).trans ?_
  refine (g_sipush (x := 256) c62007 dJ21_numberOfTrailingZeros_35 rfl).trans ?_
  refine (g_icmp_le (tgt := 49) c62007 dJ21_numberOfTrailingZeros_38 rfl).trans (if_cg ?_ ?_)
  · skip
    refine (g_iload_n c62007 dJ21_numberOfTrailingZeros_49 rfl).trans ?_
    refine (g_bipush (x := 16) c62007 dJ21_numberOfTrailingZeros_50 rfl).trans ?_
    refine (g_icmp_le (tgt := 62) c62007 dJ21_numberOfTrailingZeros_52 rfl).trans (if_cg ?_ ?_)
    · skip
      rfl
    · skip
      refine (g_iinc (c := 4) (L' := [.int i0, .int (i1 + 4)]) c62007 dJ21_numberOfTrailingZeros_55 rfl rfl rfl rfl).trans ?_
      refine (g_iload_n c62007 dJ21_numberOfTrailingZeros_58 rfl).trans ?_
      refine (g_iconst (x := 4) c62007 dJ21_numberOfTrailingZeros_59 rfl).trans ?_
      refine (g_iushr c62007 dJ21_numberOfTrailingZeros_60).trans ?_
      refine (g_istore_n (L' := [.int ((i0.toUInt32 >>> ((4 : Int32).toUInt32 &&& Int32.toUInt32 31)).toInt32), .int (i1 + 4)]) c62007 dJ21_numberOfTrailingZeros_61 rfl rfl).trans ?_
      rfl
  · skip
    refine (g_iinc (c := 8) (L' := [.int i0, .int (i1 + 8)]) c62007 dJ21_numberOfTrailingZeros_41 rfl rfl rfl rfl).trans ?_
    refine (g_iload_n c62007 dJ21_numberOfTrailingZeros_44 rfl).trans ?_
    refine (g_bipush (x := 8) c62007 dJ21_numberOfTrailingZeros_45 rfl).trans ?_
    refine (g_iushr c62007 dJ21_numberOfTrailingZeros_47).trans ?_
    refine (g_istore_n (L' := [.int ((i0.toUInt32 >>> ((8 : Int32).toUInt32 &&& Int32.toUInt32 31)).toInt32), .int (i1 + 8)]) c62007 dJ21_numberOfTrailingZeros_48 rfl rfl).trans ?_
    refine (g_iload_n c62007 dJ21_numberOfTrailingZeros_49 rfl).trans ?_
    refine (g_bipush (x := 16) c62007 dJ21_numberOfTrailingZeros_50 rfl).trans ?_
    refine (g_icmp_le (tgt := 62) c62007 dJ21_numberOfTrailingZeros_52 rfl).trans (if_cg ?_ ?_)
    · skip
      rfl
    · skip
      refine (g_iinc (c := 4) (L' := [.int ((i0.toUInt32 >>> ((8 : Int32).toUInt32 &&& Int32.toUInt32 31)).toInt32), .int ((i1 + 8) + 4)]) c62007 dJ21_numberOfTrailingZeros_55 rfl rfl rfl rfl).trans ?_
      refine (g_iload_n c62007 dJ21_numberOfTrailingZeros_58 rfl).trans ?_
      refine (g_iconst (x := 4) c62007 dJ21_numberOfTrailingZeros_59 rfl).trans ?_
      refine (g_iushr c62007 dJ21_numberOfTrailingZeros_60).trans ?_
      refine (g_istore_n (L' := [.int ((((i0.toUInt32 >>> ((8 : Int32).toUInt32 &&& Int32.toUInt32 31)).toInt32).toUInt32 >>> ((4 : Int32).toUInt32 &&& Int32.toUInt32 31)).toInt32), .int ((i1 + 8) + 4)]) c62007 dJ21_numberOfTrailingZeros_61 rfl rfl).trans ?_
      rfl
theorem E62007_62 (d : Nat) (i0 : Int32) (i1 : Int32) (h : AH) : G d 62007 62 [.int i0, .int i1] [] h = if i0 ≤ 4 then (some (.inl (some (.int (i1 + ((i0.toUInt32 >>> ((1 : Int32).toUInt32 &&& Int32.toUInt32 31)).toInt32)))), h)) else (some (.inl (some (.int ((i1 + 2) + ((((i0.toUInt32 >>> ((2 : Int32).toUInt32 &&& Int32.toUInt32 31)).toInt32).toUInt32 >>> ((1 : Int32).toUInt32 &&& Int32.toUInt32 31)).toInt32)))), h)) := by
  refine (g_iload_n c62007 dJ21_numberOfTrailingZeros_62 rfl).trans ?_
  refine (g_iconst (x := 4) c62007 dJ21_numberOfTrailingZeros_63 rfl).trans ?_
  refine (g_icmp_le (tgt := 74) c62007 dJ21_numberOfTrailingZeros_64 rfl).trans (if_cg ?_ ?_)
  · skip
    refine (g_iload_n c62007 dJ21_numberOfTrailingZeros_74 rfl).trans ?_
    refine (g_iload_n c62007 dJ21_numberOfTrailingZeros_75 rfl).trans ?_
    refine (g_iconst (x := 1) c62007 dJ21_numberOfTrailingZeros_76 rfl).trans ?_
    refine (g_iushr c62007 dJ21_numberOfTrailingZeros_77).trans ?_
    refine (g_iadd c62007 dJ21_numberOfTrailingZeros_78).trans ?_
    exact g_ireturn c62007 dJ21_numberOfTrailingZeros_79 rfl
  · skip
    refine (g_iinc (c := 2) (L' := [.int i0, .int (i1 + 2)]) c62007 dJ21_numberOfTrailingZeros_67 rfl rfl rfl rfl).trans ?_
    refine (g_iload_n c62007 dJ21_numberOfTrailingZeros_70 rfl).trans ?_
    refine (g_iconst (x := 2) c62007 dJ21_numberOfTrailingZeros_71 rfl).trans ?_
    refine (g_iushr c62007 dJ21_numberOfTrailingZeros_72).trans ?_
    refine (g_istore_n (L' := [.int ((i0.toUInt32 >>> ((2 : Int32).toUInt32 &&& Int32.toUInt32 31)).toInt32), .int (i1 + 2)]) c62007 dJ21_numberOfTrailingZeros_73 rfl rfl).trans ?_
    refine (g_iload_n c62007 dJ21_numberOfTrailingZeros_74 rfl).trans ?_
    refine (g_iload_n c62007 dJ21_numberOfTrailingZeros_75 rfl).trans ?_
    refine (g_iconst (x := 1) c62007 dJ21_numberOfTrailingZeros_76 rfl).trans ?_
    refine (g_iushr c62007 dJ21_numberOfTrailingZeros_77).trans ?_
    refine (g_iadd c62007 dJ21_numberOfTrailingZeros_78).trans ?_
    exact g_ireturn c62007 dJ21_numberOfTrailingZeros_79 rfl
theorem X62007 {d : Nat} {i0 : Int32} (h : AH) : M (d + 1) 62007 [.int i0] h = G d 62007 0 [.int i0, jno] [] h := M_eq rfl rfl rfl
/-! java/lang/Integer.stringSize(I)I -/
abbrev cJ21_stringSize : ByteArray := prog_44_method_13_code
def dkwJ21_stringSize_1 : List UInt8 := [164, 0, 7, 29, 27, 96, 172, 16, 10, 28, 104, 61, 132, 3, 1, 167, 255, 233, 16, 10, 27, 96, 172]
abbrev dktJ21_stringSize_1 : List UInt8 := dkwJ21_stringSize_1 ++ []
def dkwJ21_stringSize_0 : List UInt8 := [4, 60, 26, 155, 0, 8, 3, 60, 26, 116, 59, 16, 246, 61, 4, 62, 29, 16, 10, 162, 0, 23, 26, 28]
abbrev dktJ21_stringSize_0 : List UInt8 := dkwJ21_stringSize_0 ++ dktJ21_stringSize_1
theorem dksJ21_stringSize_0 : cJ21_stringSize.data.toList.drop 0 = dktJ21_stringSize_0 := by decide +kernel
theorem dksJ21_stringSize_1 : cJ21_stringSize.data.toList.drop 24 = dktJ21_stringSize_1 := dk_seg dksJ21_stringSize_0 24 rfl rfl
theorem dJ21_stringSize_0 : decode cJ21_stringSize 0 = .ok (.iconst 1, 1) := dk_4 (dk_at dksJ21_stringSize_0 0 rfl rfl)
theorem dJ21_stringSize_1 : decode cJ21_stringSize 1 = .ok (.istore_n 1, 1) := dk_60 (dk_at dksJ21_stringSize_0 1 rfl rfl)
theorem dJ21_stringSize_2 : decode cJ21_stringSize 2 = .ok (.iload_n 0, 1) := dk_26 (dk_at dksJ21_stringSize_0 2 rfl rfl)
theorem dJ21_stringSize_3 : decode cJ21_stringSize 3 = .ok (.ifCond .lt 8, 3) := dk_155 0 8 (dk_at dksJ21_stringSize_0 3 rfl rfl)
theorem dJ21_stringSize_6 : decode cJ21_stringSize 6 = .ok (.iconst 0, 1) := dk_3 (dk_at dksJ21_stringSize_0 6 rfl rfl)
theorem dJ21_stringSize_7 : decode cJ21_stringSize 7 = .ok (.istore_n 1, 1) := dk_60 (dk_at dksJ21_stringSize_0 7 rfl rfl)
theorem dJ21_stringSize_8 : decode cJ21_stringSize 8 = .ok (.iload_n 0, 1) := dk_26 (dk_at dksJ21_stringSize_0 8 rfl rfl)
theorem dJ21_stringSize_9 : decode cJ21_stringSize 9 = .ok (.ineg, 1) := dk_116 (dk_at dksJ21_stringSize_0 9 rfl rfl)
theorem dJ21_stringSize_10 : decode cJ21_stringSize 10 = .ok (.istore_n 0, 1) := dk_59 (dk_at dksJ21_stringSize_0 10 rfl rfl)
theorem dJ21_stringSize_11 : decode cJ21_stringSize 11 = .ok (.bipush (-10), 2) := dk_16 246 (dk_at dksJ21_stringSize_0 11 rfl rfl)
theorem dJ21_stringSize_13 : decode cJ21_stringSize 13 = .ok (.istore_n 2, 1) := dk_61 (dk_at dksJ21_stringSize_0 13 rfl rfl)
theorem dJ21_stringSize_14 : decode cJ21_stringSize 14 = .ok (.iconst 1, 1) := dk_4 (dk_at dksJ21_stringSize_0 14 rfl rfl)
theorem dJ21_stringSize_15 : decode cJ21_stringSize 15 = .ok (.istore_n 3, 1) := dk_62 (dk_at dksJ21_stringSize_0 15 rfl rfl)
theorem dJ21_stringSize_16 : decode cJ21_stringSize 16 = .ok (.iload_n 3, 1) := dk_29 (dk_at dksJ21_stringSize_0 16 rfl rfl)
theorem dJ21_stringSize_17 : decode cJ21_stringSize 17 = .ok (.bipush 10, 2) := dk_16 10 (dk_at dksJ21_stringSize_0 17 rfl rfl)
theorem dJ21_stringSize_19 : decode cJ21_stringSize 19 = .ok (.if_icmp .ge 23, 3) := dk_162 0 23 (dk_at dksJ21_stringSize_0 19 rfl rfl)
theorem dJ21_stringSize_22 : decode cJ21_stringSize 22 = .ok (.iload_n 0, 1) := dk_26 (dk_at dksJ21_stringSize_0 22 rfl rfl)
theorem dJ21_stringSize_23 : decode cJ21_stringSize 23 = .ok (.iload_n 2, 1) := dk_28 (dk_at dksJ21_stringSize_0 23 rfl rfl)
theorem dJ21_stringSize_24 : decode cJ21_stringSize 24 = .ok (.if_icmp .le 7, 3) := dk_164 0 7 (dk_at dksJ21_stringSize_1 0 rfl rfl)
theorem dJ21_stringSize_27 : decode cJ21_stringSize 27 = .ok (.iload_n 3, 1) := dk_29 (dk_at dksJ21_stringSize_1 3 rfl rfl)
theorem dJ21_stringSize_28 : decode cJ21_stringSize 28 = .ok (.iload_n 1, 1) := dk_27 (dk_at dksJ21_stringSize_1 4 rfl rfl)
theorem dJ21_stringSize_29 : decode cJ21_stringSize 29 = .ok (.iadd, 1) := dk_96 (dk_at dksJ21_stringSize_1 5 rfl rfl)
theorem dJ21_stringSize_30 : decode cJ21_stringSize 30 = .ok (.ireturn, 1) := dk_172 (dk_at dksJ21_stringSize_1 6 rfl rfl)
theorem dJ21_stringSize_31 : decode cJ21_stringSize 31 = .ok (.bipush 10, 2) := dk_16 10 (dk_at dksJ21_stringSize_1 7 rfl rfl)
theorem dJ21_stringSize_33 : decode cJ21_stringSize 33 = .ok (.iload_n 2, 1) := dk_28 (dk_at dksJ21_stringSize_1 9 rfl rfl)
theorem dJ21_stringSize_34 : decode cJ21_stringSize 34 = .ok (.imul, 1) := dk_104 (dk_at dksJ21_stringSize_1 10 rfl rfl)
theorem dJ21_stringSize_35 : decode cJ21_stringSize 35 = .ok (.istore_n 2, 1) := dk_61 (dk_at dksJ21_stringSize_1 11 rfl rfl)
theorem dJ21_stringSize_36 : decode cJ21_stringSize 36 = .ok (.iinc 3 1, 3) := dk_132 3 1 (dk_at dksJ21_stringSize_1 12 rfl rfl)
theorem dJ21_stringSize_39 : decode cJ21_stringSize 39 = .ok (.goto (-23), 3) := dk_167 255 233 (dk_at dksJ21_stringSize_1 15 rfl rfl)
theorem dJ21_stringSize_42 : decode cJ21_stringSize 42 = .ok (.bipush 10, 2) := dk_16 10 (dk_at dksJ21_stringSize_1 18 rfl rfl)
theorem dJ21_stringSize_44 : decode cJ21_stringSize 44 = .ok (.iload_n 1, 1) := dk_27 (dk_at dksJ21_stringSize_1 20 rfl rfl)
theorem dJ21_stringSize_45 : decode cJ21_stringSize 45 = .ok (.iadd, 1) := dk_96 (dk_at dksJ21_stringSize_1 21 rfl rfl)
theorem dJ21_stringSize_46 : decode cJ21_stringSize 46 = .ok (.ireturn, 1) := dk_172 (dk_at dksJ21_stringSize_1 22 rfl rfl)
theorem c62008 : jtCode 62008 = cJ21_stringSize := rfl
theorem E62008_0 (d : Nat) (i0 : Int32) (h : AH) : G d 62008 0 [.int i0, jno, jno, jno] [] h = if i0 < 0 then (G d 62008 16 [.int i0, .int 1, .int (-10), .int 1] [] h) else (G d 62008 16 [.int (-i0), .int 0, .int (-10), .int 1] [] h) := by
  refine (g_iconst (x := 1) c62008 dJ21_stringSize_0 rfl).trans ?_
  refine (g_istore_n (L' := [.int i0, .int 1, jno, jno]) c62008 dJ21_stringSize_1 rfl rfl).trans ?_
  refine (g_iload_n c62008 dJ21_stringSize_2 rfl).trans ?_
  refine (g_if_lt (tgt := 11) c62008 dJ21_stringSize_3 rfl).trans (if_cg ?_ ?_)
  · skip
    refine (g_bipush (x := (-10)) c62008 dJ21_stringSize_11 rfl).trans ?_
    refine (g_istore_n (L' := [.int i0, .int 1, .int (-10), jno]) c62008 dJ21_stringSize_13 rfl rfl).trans ?_
    refine (g_iconst (x := 1) c62008 dJ21_stringSize_14 rfl).trans ?_
    refine (g_istore_n (L' := [.int i0, .int 1, .int (-10), .int 1]) c62008 dJ21_stringSize_15 rfl rfl).trans ?_
    rfl
  · skip
    refine (g_iconst (x := 0) c62008 dJ21_stringSize_6 rfl).trans ?_
    refine (g_istore_n (L' := [.int i0, .int 0, jno, jno]) c62008 dJ21_stringSize_7 rfl rfl).trans ?_
    refine (g_iload_n c62008 dJ21_stringSize_8 rfl).trans ?_
    refine (g_ineg c62008 dJ21_stringSize_9).trans ?_
    refine (g_istore_n (L' := [.int (-i0), .int 0, jno, jno]) c62008 dJ21_stringSize_10 rfl rfl).trans ?_
    refine (g_bipush (x := (-10)) c62008 dJ21_stringSize_11 rfl).trans ?_
    refine (g_istore_n (L' := [.int (-i0), .int 0, .int (-10), jno]) c62008 dJ21_stringSize_13 rfl rfl).trans ?_
    refine (g_iconst (x := 1) c62008 dJ21_stringSize_14 rfl).trans ?_
    refine (g_istore_n (L' := [.int (-i0), .int 0, .int (-10), .int 1]) c62008 dJ21_stringSize_15 rfl rfl).trans ?_
    rfl
theorem E62008_16 (d : Nat) (i0 : Int32) (i1 : Int32) (i2 : Int32) (i3 : Int32) (h : AH) : G d 62008 16 [.int i0, .int i1, .int i2, .int i3] [] h = if 10 ≤ i3 then (some (.inl (some (.int (10 + i1))), h)) else (if i0 ≤ i2 then (G d 62008 16 [.int i0, .int i1, .int (10 * i2), .int (i3 + 1)] [] h) else (some (.inl (some (.int (i3 + i1))), h))) := by
  refine (g_iload_n c62008 dJ21_stringSize_16 rfl).trans ?_
  refine (g_bipush (x := 10) c62008 dJ21_stringSize_17 rfl).trans ?_
  refine (g_icmp_ge (tgt := 42) c62008 dJ21_stringSize_19 rfl).trans (if_cg ?_ ?_)
  · skip
    refine (g_bipush (x := 10) c62008 dJ21_stringSize_42 rfl).trans ?_
    refine (g_iload_n c62008 dJ21_stringSize_44 rfl).trans ?_
    refine (g_iadd c62008 dJ21_stringSize_45).trans ?_
    exact g_ireturn c62008 dJ21_stringSize_46 rfl
  · skip
    refine (g_iload_n c62008 dJ21_stringSize_22 rfl).trans ?_
    refine (g_iload_n c62008 dJ21_stringSize_23 rfl).trans ?_
    refine (g_icmp_le (tgt := 31) c62008 dJ21_stringSize_24 rfl).trans (if_cg ?_ ?_)
    · skip
      refine (g_bipush (x := 10) c62008 dJ21_stringSize_31 rfl).trans ?_
      refine (g_iload_n c62008 dJ21_stringSize_33 rfl).trans ?_
      refine (g_imul c62008 dJ21_stringSize_34).trans ?_
      refine (g_istore_n (L' := [.int i0, .int i1, .int (10 * i2), .int i3]) c62008 dJ21_stringSize_35 rfl rfl).trans ?_
      refine (g_iinc (c := 1) (L' := [.int i0, .int i1, .int (10 * i2), .int (i3 + 1)]) c62008 dJ21_stringSize_36 rfl rfl rfl rfl).trans ?_
      refine (g_goto (tgt := 16) c62008 dJ21_stringSize_39 rfl).trans ?_
      rfl
    · skip
      refine (g_iload_n c62008 dJ21_stringSize_27 rfl).trans ?_
      refine (g_iload_n c62008 dJ21_stringSize_28 rfl).trans ?_
      refine (g_iadd c62008 dJ21_stringSize_29).trans ?_
      exact g_ireturn c62008 dJ21_stringSize_30 rfl
theorem X62008 {d : Nat} {i0 : Int32} (h : AH) : M (d + 1) 62008 [.int i0] h = G d 62008 0 [.int i0, jno, jno, jno] [] h := M_eq rfl rfl rfl
/-! java/util/ArrayDeque.addLast(Ljava/lang/Object;)V -/
abbrev cJ22_addLast : ByteArray := prog_64_method_13_code
def dkwJ22_addLast_2 : List UInt8 := [182, 0, 71, 177]
abbrev dktJ22_addLast_2 : List UInt8 := dkwJ22_addLast_2 ++ []
def dkwJ22_addLast_1 : List UInt8 := [42, 180, 0, 24, 42, 42, 180, 0, 20, 44, 190, 184, 0, 74, 90, 181, 0, 20, 160, 0, 8, 42, 4]
abbrev dktJ22_addLast_1 : List UInt8 := dkwJ22_addLast_1 ++ dktJ22_addLast_2
def dkwJ22_addLast_0 : List UInt8 := [43, 199, 0, 11, 187, 0, 65, 89, 183, 0, 67, 191, 42, 180, 0, 3, 77, 44, 42, 180, 0, 20, 43, 83]
abbrev dktJ22_addLast_0 : List UInt8 := dkwJ22_addLast_0 ++ dktJ22_addLast_1
theorem dksJ22_addLast_0 : cJ22_addLast.data.toList.drop 0 = dktJ22_addLast_0 := by decide +kernel
theorem dksJ22_addLast_1 : cJ22_addLast.data.toList.drop 24 = dktJ22_addLast_1 := dk_seg dksJ22_addLast_0 24 rfl rfl
theorem dksJ22_addLast_2 : cJ22_addLast.data.toList.drop 47 = dktJ22_addLast_2 := dk_seg dksJ22_addLast_1 23 rfl rfl
theorem dJ22_addLast_0 : decode cJ22_addLast 0 = .ok (.aload_n 1, 1) := dk_43 (dk_at dksJ22_addLast_0 0 rfl rfl)
theorem dJ22_addLast_1 : decode cJ22_addLast 1 = .ok (.ifnonnull 11, 3) := dk_199 0 11 (dk_at dksJ22_addLast_0 1 rfl rfl)
theorem dJ22_addLast_4 : decode cJ22_addLast 4 = .ok (.new 65, 3) := dk_187 0 65 (dk_at dksJ22_addLast_0 4 rfl rfl)
theorem dJ22_addLast_7 : decode cJ22_addLast 7 = .ok (.dup, 1) := dk_89 (dk_at dksJ22_addLast_0 7 rfl rfl)
theorem dJ22_addLast_8 : decode cJ22_addLast 8 = .ok (.invokespecial 67, 3) := dk_183 0 67 (dk_at dksJ22_addLast_0 8 rfl rfl)
theorem dJ22_addLast_11 : decode cJ22_addLast 11 = .ok (.athrow, 1) := dk_191 (dk_at dksJ22_addLast_0 11 rfl rfl)
theorem dJ22_addLast_12 : decode cJ22_addLast 12 = .ok (.aload_n 0, 1) := dk_42 (dk_at dksJ22_addLast_0 12 rfl rfl)
theorem dJ22_addLast_13 : decode cJ22_addLast 13 = .ok (.getfield 3, 3) := dk_180 0 3 (dk_at dksJ22_addLast_0 13 rfl rfl)
theorem dJ22_addLast_16 : decode cJ22_addLast 16 = .ok (.astore_n 2, 1) := dk_77 (dk_at dksJ22_addLast_0 16 rfl rfl)
theorem dJ22_addLast_17 : decode cJ22_addLast 17 = .ok (.aload_n 2, 1) := dk_44 (dk_at dksJ22_addLast_0 17 rfl rfl)
theorem dJ22_addLast_18 : decode cJ22_addLast 18 = .ok (.aload_n 0, 1) := dk_42 (dk_at dksJ22_addLast_0 18 rfl rfl)
theorem dJ22_addLast_19 : decode cJ22_addLast 19 = .ok (.getfield 20, 3) := dk_180 0 20 (dk_at dksJ22_addLast_0 19 rfl rfl)
theorem dJ22_addLast_22 : decode cJ22_addLast 22 = .ok (.aload_n 1, 1) := dk_43 (dk_at dksJ22_addLast_0 22 rfl rfl)
theorem dJ22_addLast_23 : decode cJ22_addLast 23 = .ok (.aastore, 1) := dk_83 (dk_at dksJ22_addLast_0 23 rfl rfl)
theorem dJ22_addLast_24 : decode cJ22_addLast 24 = .ok (.aload_n 0, 1) := dk_42 (dk_at dksJ22_addLast_1 0 rfl rfl)
theorem dJ22_addLast_25 : decode cJ22_addLast 25 = .ok (.getfield 24, 3) := dk_180 0 24 (dk_at dksJ22_addLast_1 1 rfl rfl)
theorem dJ22_addLast_28 : decode cJ22_addLast 28 = .ok (.aload_n 0, 1) := dk_42 (dk_at dksJ22_addLast_1 4 rfl rfl)
theorem dJ22_addLast_29 : decode cJ22_addLast 29 = .ok (.aload_n 0, 1) := dk_42 (dk_at dksJ22_addLast_1 5 rfl rfl)
theorem dJ22_addLast_30 : decode cJ22_addLast 30 = .ok (.getfield 20, 3) := dk_180 0 20 (dk_at dksJ22_addLast_1 6 rfl rfl)
theorem dJ22_addLast_33 : decode cJ22_addLast 33 = .ok (.aload_n 2, 1) := dk_44 (dk_at dksJ22_addLast_1 9 rfl rfl)
theorem dJ22_addLast_34 : decode cJ22_addLast 34 = .ok (.arraylength, 1) := dk_190 (dk_at dksJ22_addLast_1 10 rfl rfl)
theorem dJ22_addLast_35 : decode cJ22_addLast 35 = .ok (.invokestatic 74, 3) := dk_184 0 74 (dk_at dksJ22_addLast_1 11 rfl rfl)
theorem dJ22_addLast_38 : decode cJ22_addLast 38 = .ok (.dup_x1, 1) := dk_90 (dk_at dksJ22_addLast_1 14 rfl rfl)
theorem dJ22_addLast_39 : decode cJ22_addLast 39 = .ok (.putfield 20, 3) := dk_181 0 20 (dk_at dksJ22_addLast_1 15 rfl rfl)
theorem dJ22_addLast_42 : decode cJ22_addLast 42 = .ok (.if_icmp .ne 8, 3) := dk_160 0 8 (dk_at dksJ22_addLast_1 18 rfl rfl)
theorem dJ22_addLast_45 : decode cJ22_addLast 45 = .ok (.aload_n 0, 1) := dk_42 (dk_at dksJ22_addLast_1 21 rfl rfl)
theorem dJ22_addLast_46 : decode cJ22_addLast 46 = .ok (.iconst 1, 1) := dk_4 (dk_at dksJ22_addLast_1 22 rfl rfl)
theorem dJ22_addLast_47 : decode cJ22_addLast 47 = .ok (.invokevirtual 71, 3) := dk_182 0 71 (dk_at dksJ22_addLast_2 0 rfl rfl)
theorem dJ22_addLast_50 : decode cJ22_addLast 50 = .ok (.return_, 1) := dk_177 (dk_at dksJ22_addLast_2 3 rfl rfl)
theorem c63000 : jtCode 63000 = cJ22_addLast := rfl
theorem E63000_0 (d : Nat) (a0 : Nat) (v1 : Value) (h : AH) : G d 63000 0 [.ref a0, v1, jno] [] h = zkR v1 (zkR v1 (if (v1 : Value) = .null then (G d 63000 4 [.ref a0, v1, jno] [] h) else (zpR (jf (jc h (.ref a0)) [63] 0) (fun r1 => zkR r1 (zkR r1 (zpI (jf (jc h (.ref a0)) [63] 2) (fun x2 => zkR v1 (zqA h r1 v1 x2 (fun h3 => zpI (jf (jc h3 (.ref a0)) [63] 1) (fun x4 => zpI (jf (jc h3 (.ref a0)) [63] 2) (fun x5 => zkR r1 (zqL h3 r1 (fun x6 => zcI (M d 63005 [.int x5, .int x6] h3) (fun x7 h8 => zqF h8 (.ref a0) [63] 2 0 (.int x7) (fun h9 => if x4 = x7 then (zcV (M d 63004 [.ref a0, .int 1] h9) (fun h11 => some (.inl none, h11)) ()) else (some (.inl none, h9))) ()) ()) ()) ()) ()) ()) ()) ()) ()) ()) ()) ())) ()) () := by
  refine (g_aload_nV c63000 dJ22_addLast_0 rfl).trans (ckR_cg ?_)
  refine (g_ifnonnull (tgt := 12) c63000 dJ22_addLast_1 rfl).trans (ckR_cg (if_cg ?_ ?_))
  · skip
    rfl
  · skip
    refine (g_aload_n c63000 dJ22_addLast_12 rfl).trans ?_
    refine (g_getR c63000 dJ22_addLast_13 rfl).trans (rR_cg fun r1 => ?_)
    refine (g_astore_nV (L' := [.ref a0, v1, r1]) c63000 dJ22_addLast_16 rfl rfl).trans (ckR_cg ?_)
    refine (g_aload_nV c63000 dJ22_addLast_17 rfl).trans (ckR_cg ?_)
    refine (g_aload_n c63000 dJ22_addLast_18 rfl).trans ?_
    refine (g_getI c63000 dJ22_addLast_19 rfl rfl).trans (rI_cg fun x2 => ?_)
    refine (g_aload_nV c63000 dJ22_addLast_22 rfl).trans (ckR_cg ?_)
    refine (g_aastore c63000 dJ22_addLast_23).trans (aSr_cg fun h3 => ?_)
    refine (g_aload_n c63000 dJ22_addLast_24 rfl).trans ?_
    refine (g_getI c63000 dJ22_addLast_25 rfl rfl).trans (rI_cg fun x4 => ?_)
    refine (g_aload_n c63000 dJ22_addLast_28 rfl).trans ?_
    refine (g_aload_n c63000 dJ22_addLast_29 rfl).trans ?_
    refine (g_getI c63000 dJ22_addLast_30 rfl rfl).trans (rI_cg fun x5 => ?_)
    refine (g_aload_nV c63000 dJ22_addLast_33 rfl).trans (ckR_cg ?_)
    refine (g_alen c63000 dJ22_addLast_34).trans (aL_cg fun x6 => ?_)
    refine (g_static (as := [.int x5, .int x6]) (rest := [.ref a0, .int x4]) c63000 dJ22_addLast_35 rfl rfl rfl rfl rfl).trans ((jback_I (κx := cX) (fun e h => jthrow_out rfl)).trans (cI_cg fun x7 h8 => ?_))
    refine (g_dup_x1_ir c63000 dJ22_addLast_38).trans ?_
    refine (g_put c63000 dJ22_addLast_39 rfl).trans (pF_cg fun h9 => ?_)
    refine (g_icmp_ne (tgt := 50) c63000 dJ22_addLast_42 rfl).trans (if_cg ?_ ?_)
    · skip
      refine (g_aload_n c63000 dJ22_addLast_45 rfl).trans ?_
      refine (g_iconst (x := 1) c63000 dJ22_addLast_46 rfl).trans ?_
      refine (g_virtual (as := [.ref a0, .int 1]) (rest := []) c63000 dJ22_addLast_47 rfl rfl rfl rfl rfl).trans ((jback_V (κx := cX) (fun e h => jthrow_out rfl)).trans (cV_cg fun h11 => ?_))
      exact g_return c63000 dJ22_addLast_50 rfl
    · skip
      exact g_return c63000 dJ22_addLast_50 rfl
theorem X63000 {d : Nat} {a0 : Nat} {v1 : Value} (h : AH) (hv1 : isR v1 = true) (hr : jrecv 63000 [.ref a0, v1] h = true) : M (d + 1) 63000 [.ref a0, v1] h = G d 63000 0 [.ref a0, v1, jno] [] h := M_eq rfl hr (by simp only [jent, jargL_R hv1, jargL]; rfl)
/-! java/util/ArrayDeque.elementAt([Ljava/lang/Object;I)Ljava/lang/Object; -/
abbrev cJ22_elementAt : ByteArray := prog_64_method_10_code
def dkwJ22_elementAt_0 : List UInt8 := [42, 27, 50, 176]
abbrev dktJ22_elementAt_0 : List UInt8 := dkwJ22_elementAt_0 ++ []
theorem dksJ22_elementAt_0 : cJ22_elementAt.data.toList.drop 0 = dktJ22_elementAt_0 := by decide +kernel
theorem dJ22_elementAt_0 : decode cJ22_elementAt 0 = .ok (.aload_n 0, 1) := dk_42 (dk_at dksJ22_elementAt_0 0 rfl rfl)
theorem dJ22_elementAt_1 : decode cJ22_elementAt 1 = .ok (.iload_n 1, 1) := dk_27 (dk_at dksJ22_elementAt_0 1 rfl rfl)
theorem dJ22_elementAt_2 : decode cJ22_elementAt 2 = .ok (.aaload, 1) := dk_50 (dk_at dksJ22_elementAt_0 2 rfl rfl)
theorem dJ22_elementAt_3 : decode cJ22_elementAt 3 = .ok (.areturn, 1) := dk_176 (dk_at dksJ22_elementAt_0 3 rfl rfl)
theorem c63003 : jtCode 63003 = cJ22_elementAt := rfl
theorem E63003_0 (d : Nat) (v0 : Value) (i1 : Int32) (h : AH) : G d 63003 0 [v0, .int i1] [] h = zkR v0 (zqG h v0 [1040, 1041, 1050, 1060, 1071] i1 (fun w1 => zpR w1 (fun r2 => ckR r2 (some (.inl (some r2), h))) ()) ()) () := by
  refine (g_aload_nV c63003 dJ22_elementAt_0 rfl).trans (ckR_cg ?_)
  refine (g_iload_n c63003 dJ22_elementAt_1 rfl).trans ?_
  refine (g_aaload c63003 dJ22_elementAt_2).trans (aG_cg fun w1 => rR_cg fun r2 => ?_)
  exact g_areturn c63003 dJ22_elementAt_3 rfl
theorem X63003 {d : Nat} {v0 : Value} {i1 : Int32} (h : AH) (hv0 : isR v0 = true) : M (d + 1) 63003 [v0, .int i1] h = G d 63003 0 [v0, .int i1] [] h := M_eq rfl rfl (by simp only [jent, jargL_R hv0, jargL]; rfl)
/-! java/util/ArrayDeque.grow(I)V -/
abbrev cJ22_grow : ByteArray := prog_64_method_1_code
def dkwJ22_grow_7 : List UInt8 := [177]
abbrev dktJ22_grow_7 : List UInt8 := dkwJ22_grow_7 ++ []
def dkwJ22_grow_6 : List UInt8 := [181, 0, 24, 54, 8, 21, 7, 21, 8, 162, 0, 15, 25, 5, 21, 7, 1, 83, 132, 7, 1, 167, 255, 240]
abbrev dktJ22_grow_6 : List UInt8 := dkwJ22_grow_6 ++ dktJ22_grow_7
def dkwJ22_grow_5 : List UInt8 := [42, 180, 0, 24, 100, 184, 0, 27, 42, 180, 0, 24, 54, 7, 42, 89, 180, 0, 24, 21, 6, 96, 90]
abbrev dktJ22_grow_5 : List UInt8 := dkwJ22_grow_5 ++ dktJ22_grow_6
def dkwJ22_grow_4 : List UInt8 := [198, 0, 71, 29, 28, 100, 54, 6, 25, 5, 42, 180, 0, 24, 25, 5, 42, 180, 0, 24, 21, 6, 96, 28]
abbrev dktJ22_grow_4 : List UInt8 := dkwJ22_grow_4 ++ dktJ22_grow_5
def dkwJ22_grow_3 : List UInt8 := [180, 0, 24, 161, 0, 24, 42, 180, 0, 20, 42, 180, 0, 24, 160, 0, 81, 25, 5, 42, 180, 0, 24, 50]
abbrev dktJ22_grow_3 : List UInt8 := dkwJ22_grow_3 ++ dktJ22_grow_4
def dkwJ22_grow_2 : List UInt8 := [182, 0, 10, 62, 42, 42, 180, 0, 3, 29, 184, 0, 14, 90, 181, 0, 3, 58, 5, 42, 180, 0, 20, 42]
abbrev dktJ22_grow_2 : List UInt8 := dkwJ22_grow_2 ++ dktJ22_grow_3
def dkwJ22_grow_1 : List UInt8 := [21, 4, 27, 161, 0, 15, 28, 21, 4, 96, 89, 62, 18, 9, 100, 158, 0, 11, 42, 27, 21, 4]
abbrev dktJ22_grow_1 : List UInt8 := dkwJ22_grow_1 ++ dktJ22_grow_2
def dkwJ22_grow_0 : List UInt8 := [42, 180, 0, 3, 190, 61, 28, 16, 64, 162, 0, 9, 28, 5, 96, 167, 0, 6, 28, 4, 122, 54, 4]
abbrev dktJ22_grow_0 : List UInt8 := dkwJ22_grow_0 ++ dktJ22_grow_1
theorem dksJ22_grow_0 : cJ22_grow.data.toList.drop 0 = dktJ22_grow_0 := by decide +kernel
theorem dksJ22_grow_1 : cJ22_grow.data.toList.drop 23 = dktJ22_grow_1 := dk_seg dksJ22_grow_0 23 rfl rfl
theorem dksJ22_grow_2 : cJ22_grow.data.toList.drop 45 = dktJ22_grow_2 := dk_seg dksJ22_grow_1 22 rfl rfl
theorem dksJ22_grow_3 : cJ22_grow.data.toList.drop 69 = dktJ22_grow_3 := dk_seg dksJ22_grow_2 24 rfl rfl
theorem dksJ22_grow_4 : cJ22_grow.data.toList.drop 93 = dktJ22_grow_4 := dk_seg dksJ22_grow_3 24 rfl rfl
theorem dksJ22_grow_5 : cJ22_grow.data.toList.drop 117 = dktJ22_grow_5 := dk_seg dksJ22_grow_4 24 rfl rfl
theorem dksJ22_grow_6 : cJ22_grow.data.toList.drop 140 = dktJ22_grow_6 := dk_seg dksJ22_grow_5 23 rfl rfl
theorem dksJ22_grow_7 : cJ22_grow.data.toList.drop 164 = dktJ22_grow_7 := dk_seg dksJ22_grow_6 24 rfl rfl
theorem dJ22_grow_0 : decode cJ22_grow 0 = .ok (.aload_n 0, 1) := dk_42 (dk_at dksJ22_grow_0 0 rfl rfl)
theorem dJ22_grow_1 : decode cJ22_grow 1 = .ok (.getfield 3, 3) := dk_180 0 3 (dk_at dksJ22_grow_0 1 rfl rfl)
theorem dJ22_grow_4 : decode cJ22_grow 4 = .ok (.arraylength, 1) := dk_190 (dk_at dksJ22_grow_0 4 rfl rfl)
theorem dJ22_grow_5 : decode cJ22_grow 5 = .ok (.istore_n 2, 1) := dk_61 (dk_at dksJ22_grow_0 5 rfl rfl)
theorem dJ22_grow_6 : decode cJ22_grow 6 = .ok (.iload_n 2, 1) := dk_28 (dk_at dksJ22_grow_0 6 rfl rfl)
theorem dJ22_grow_7 : decode cJ22_grow 7 = .ok (.bipush 64, 2) := dk_16 64 (dk_at dksJ22_grow_0 7 rfl rfl)
theorem dJ22_grow_9 : decode cJ22_grow 9 = .ok (.if_icmp .ge 9, 3) := dk_162 0 9 (dk_at dksJ22_grow_0 9 rfl rfl)
theorem dJ22_grow_12 : decode cJ22_grow 12 = .ok (.iload_n 2, 1) := dk_28 (dk_at dksJ22_grow_0 12 rfl rfl)
theorem dJ22_grow_13 : decode cJ22_grow 13 = .ok (.iconst 2, 1) := dk_5 (dk_at dksJ22_grow_0 13 rfl rfl)
theorem dJ22_grow_14 : decode cJ22_grow 14 = .ok (.iadd, 1) := dk_96 (dk_at dksJ22_grow_0 14 rfl rfl)
theorem dJ22_grow_15 : decode cJ22_grow 15 = .ok (.goto 6, 3) := dk_167 0 6 (dk_at dksJ22_grow_0 15 rfl rfl)
theorem dJ22_grow_18 : decode cJ22_grow 18 = .ok (.iload_n 2, 1) := dk_28 (dk_at dksJ22_grow_0 18 rfl rfl)
theorem dJ22_grow_19 : decode cJ22_grow 19 = .ok (.iconst 1, 1) := dk_4 (dk_at dksJ22_grow_0 19 rfl rfl)
theorem dJ22_grow_20 : decode cJ22_grow 20 = .ok (.ishr, 1) := dk_122 (dk_at dksJ22_grow_0 20 rfl rfl)
theorem dJ22_grow_21 : decode cJ22_grow 21 = .ok (.istore 4, 2) := dk_54 4 (dk_at dksJ22_grow_0 21 rfl rfl)
theorem dJ22_grow_23 : decode cJ22_grow 23 = .ok (.iload 4, 2) := dk_21 4 (dk_at dksJ22_grow_1 0 rfl rfl)
theorem dJ22_grow_25 : decode cJ22_grow 25 = .ok (.iload_n 1, 1) := dk_27 (dk_at dksJ22_grow_1 2 rfl rfl)
theorem dJ22_grow_26 : decode cJ22_grow 26 = .ok (.if_icmp .lt 15, 3) := dk_161 0 15 (dk_at dksJ22_grow_1 3 rfl rfl)
theorem dJ22_grow_29 : decode cJ22_grow 29 = .ok (.iload_n 2, 1) := dk_28 (dk_at dksJ22_grow_1 6 rfl rfl)
theorem dJ22_grow_30 : decode cJ22_grow 30 = .ok (.iload 4, 2) := dk_21 4 (dk_at dksJ22_grow_1 7 rfl rfl)
theorem dJ22_grow_32 : decode cJ22_grow 32 = .ok (.iadd, 1) := dk_96 (dk_at dksJ22_grow_1 9 rfl rfl)
theorem dJ22_grow_33 : decode cJ22_grow 33 = .ok (.dup, 1) := dk_89 (dk_at dksJ22_grow_1 10 rfl rfl)
theorem dJ22_grow_34 : decode cJ22_grow 34 = .ok (.istore_n 3, 1) := dk_62 (dk_at dksJ22_grow_1 11 rfl rfl)
theorem dJ22_grow_35 : decode cJ22_grow 35 = .ok (.ldc 9, 2) := dk_18 9 (dk_at dksJ22_grow_1 12 rfl rfl)
theorem dJ22_grow_37 : decode cJ22_grow 37 = .ok (.isub, 1) := dk_100 (dk_at dksJ22_grow_1 14 rfl rfl)
theorem dJ22_grow_38 : decode cJ22_grow 38 = .ok (.ifCond .le 11, 3) := dk_158 0 11 (dk_at dksJ22_grow_1 15 rfl rfl)
theorem dJ22_grow_41 : decode cJ22_grow 41 = .ok (.aload_n 0, 1) := dk_42 (dk_at dksJ22_grow_1 18 rfl rfl)
theorem dJ22_grow_42 : decode cJ22_grow 42 = .ok (.iload_n 1, 1) := dk_27 (dk_at dksJ22_grow_1 19 rfl rfl)
theorem dJ22_grow_43 : decode cJ22_grow 43 = .ok (.iload 4, 2) := dk_21 4 (dk_at dksJ22_grow_1 20 rfl rfl)
theorem dJ22_grow_45 : decode cJ22_grow 45 = .ok (.invokevirtual 10, 3) := dk_182 0 10 (dk_at dksJ22_grow_2 0 rfl rfl)
theorem dJ22_grow_48 : decode cJ22_grow 48 = .ok (.istore_n 3, 1) := dk_62 (dk_at dksJ22_grow_2 3 rfl rfl)
theorem dJ22_grow_49 : decode cJ22_grow 49 = .ok (.aload_n 0, 1) := dk_42 (dk_at dksJ22_grow_2 4 rfl rfl)
theorem dJ22_grow_50 : decode cJ22_grow 50 = .ok (.aload_n 0, 1) := dk_42 (dk_at dksJ22_grow_2 5 rfl rfl)
theorem dJ22_grow_51 : decode cJ22_grow 51 = .ok (.getfield 3, 3) := dk_180 0 3 (dk_at dksJ22_grow_2 6 rfl rfl)
theorem dJ22_grow_54 : decode cJ22_grow 54 = .ok (.iload_n 3, 1) := dk_29 (dk_at dksJ22_grow_2 9 rfl rfl)
theorem dJ22_grow_55 : decode cJ22_grow 55 = .ok (.invokestatic 14, 3) := dk_184 0 14 (dk_at dksJ22_grow_2 10 rfl rfl)
theorem dJ22_grow_58 : decode cJ22_grow 58 = .ok (.dup_x1, 1) := dk_90 (dk_at dksJ22_grow_2 13 rfl rfl)
theorem dJ22_grow_59 : decode cJ22_grow 59 = .ok (.putfield 3, 3) := dk_181 0 3 (dk_at dksJ22_grow_2 14 rfl rfl)
theorem dJ22_grow_62 : decode cJ22_grow 62 = .ok (.astore 5, 2) := dk_58 5 (dk_at dksJ22_grow_2 17 rfl rfl)
theorem dJ22_grow_64 : decode cJ22_grow 64 = .ok (.aload_n 0, 1) := dk_42 (dk_at dksJ22_grow_2 19 rfl rfl)
theorem dJ22_grow_65 : decode cJ22_grow 65 = .ok (.getfield 20, 3) := dk_180 0 20 (dk_at dksJ22_grow_2 20 rfl rfl)
theorem dJ22_grow_68 : decode cJ22_grow 68 = .ok (.aload_n 0, 1) := dk_42 (dk_at dksJ22_grow_2 23 rfl rfl)
theorem dJ22_grow_69 : decode cJ22_grow 69 = .ok (.getfield 24, 3) := dk_180 0 24 (dk_at dksJ22_grow_3 0 rfl rfl)
theorem dJ22_grow_72 : decode cJ22_grow 72 = .ok (.if_icmp .lt 24, 3) := dk_161 0 24 (dk_at dksJ22_grow_3 3 rfl rfl)
theorem dJ22_grow_75 : decode cJ22_grow 75 = .ok (.aload_n 0, 1) := dk_42 (dk_at dksJ22_grow_3 6 rfl rfl)
theorem dJ22_grow_76 : decode cJ22_grow 76 = .ok (.getfield 20, 3) := dk_180 0 20 (dk_at dksJ22_grow_3 7 rfl rfl)
theorem dJ22_grow_79 : decode cJ22_grow 79 = .ok (.aload_n 0, 1) := dk_42 (dk_at dksJ22_grow_3 10 rfl rfl)
theorem dJ22_grow_80 : decode cJ22_grow 80 = .ok (.getfield 24, 3) := dk_180 0 24 (dk_at dksJ22_grow_3 11 rfl rfl)
theorem dJ22_grow_83 : decode cJ22_grow 83 = .ok (.if_icmp .ne 81, 3) := dk_160 0 81 (dk_at dksJ22_grow_3 14 rfl rfl)
theorem dJ22_grow_86 : decode cJ22_grow 86 = .ok (.aload 5, 2) := dk_25 5 (dk_at dksJ22_grow_3 17 rfl rfl)
theorem dJ22_grow_88 : decode cJ22_grow 88 = .ok (.aload_n 0, 1) := dk_42 (dk_at dksJ22_grow_3 19 rfl rfl)
theorem dJ22_grow_89 : decode cJ22_grow 89 = .ok (.getfield 24, 3) := dk_180 0 24 (dk_at dksJ22_grow_3 20 rfl rfl)
theorem dJ22_grow_92 : decode cJ22_grow 92 = .ok (.aaload, 1) := dk_50 (dk_at dksJ22_grow_3 23 rfl rfl)
theorem dJ22_grow_93 : decode cJ22_grow 93 = .ok (.ifnull 71, 3) := dk_198 0 71 (dk_at dksJ22_grow_4 0 rfl rfl)
theorem dJ22_grow_96 : decode cJ22_grow 96 = .ok (.iload_n 3, 1) := dk_29 (dk_at dksJ22_grow_4 3 rfl rfl)
theorem dJ22_grow_97 : decode cJ22_grow 97 = .ok (.iload_n 2, 1) := dk_28 (dk_at dksJ22_grow_4 4 rfl rfl)
theorem dJ22_grow_98 : decode cJ22_grow 98 = .ok (.isub, 1) := dk_100 (dk_at dksJ22_grow_4 5 rfl rfl)
theorem dJ22_grow_99 : decode cJ22_grow 99 = .ok (.istore 6, 2) := dk_54 6 (dk_at dksJ22_grow_4 6 rfl rfl)
theorem dJ22_grow_101 : decode cJ22_grow 101 = .ok (.aload 5, 2) := dk_25 5 (dk_at dksJ22_grow_4 8 rfl rfl)
theorem dJ22_grow_103 : decode cJ22_grow 103 = .ok (.aload_n 0, 1) := dk_42 (dk_at dksJ22_grow_4 10 rfl rfl)
theorem dJ22_grow_104 : decode cJ22_grow 104 = .ok (.getfield 24, 3) := dk_180 0 24 (dk_at dksJ22_grow_4 11 rfl rfl)
theorem dJ22_grow_107 : decode cJ22_grow 107 = .ok (.aload 5, 2) := dk_25 5 (dk_at dksJ22_grow_4 14 rfl rfl)
theorem dJ22_grow_109 : decode cJ22_grow 109 = .ok (.aload_n 0, 1) := dk_42 (dk_at dksJ22_grow_4 16 rfl rfl)
theorem dJ22_grow_110 : decode cJ22_grow 110 = .ok (.getfield 24, 3) := dk_180 0 24 (dk_at dksJ22_grow_4 17 rfl rfl)
theorem dJ22_grow_113 : decode cJ22_grow 113 = .ok (.iload 6, 2) := dk_21 6 (dk_at dksJ22_grow_4 20 rfl rfl)
theorem dJ22_grow_115 : decode cJ22_grow 115 = .ok (.iadd, 1) := dk_96 (dk_at dksJ22_grow_4 22 rfl rfl)
theorem dJ22_grow_116 : decode cJ22_grow 116 = .ok (.iload_n 2, 1) := dk_28 (dk_at dksJ22_grow_4 23 rfl rfl)
theorem dJ22_grow_117 : decode cJ22_grow 117 = .ok (.aload_n 0, 1) := dk_42 (dk_at dksJ22_grow_5 0 rfl rfl)
theorem dJ22_grow_118 : decode cJ22_grow 118 = .ok (.getfield 24, 3) := dk_180 0 24 (dk_at dksJ22_grow_5 1 rfl rfl)
theorem dJ22_grow_121 : decode cJ22_grow 121 = .ok (.isub, 1) := dk_100 (dk_at dksJ22_grow_5 4 rfl rfl)
theorem dJ22_grow_122 : decode cJ22_grow 122 = .ok (.invokestatic 27, 3) := dk_184 0 27 (dk_at dksJ22_grow_5 5 rfl rfl)
theorem dJ22_grow_125 : decode cJ22_grow 125 = .ok (.aload_n 0, 1) := dk_42 (dk_at dksJ22_grow_5 8 rfl rfl)
theorem dJ22_grow_126 : decode cJ22_grow 126 = .ok (.getfield 24, 3) := dk_180 0 24 (dk_at dksJ22_grow_5 9 rfl rfl)
theorem dJ22_grow_129 : decode cJ22_grow 129 = .ok (.istore 7, 2) := dk_54 7 (dk_at dksJ22_grow_5 12 rfl rfl)
theorem dJ22_grow_131 : decode cJ22_grow 131 = .ok (.aload_n 0, 1) := dk_42 (dk_at dksJ22_grow_5 14 rfl rfl)
theorem dJ22_grow_132 : decode cJ22_grow 132 = .ok (.dup, 1) := dk_89 (dk_at dksJ22_grow_5 15 rfl rfl)
theorem dJ22_grow_133 : decode cJ22_grow 133 = .ok (.getfield 24, 3) := dk_180 0 24 (dk_at dksJ22_grow_5 16 rfl rfl)
theorem dJ22_grow_136 : decode cJ22_grow 136 = .ok (.iload 6, 2) := dk_21 6 (dk_at dksJ22_grow_5 19 rfl rfl)
theorem dJ22_grow_138 : decode cJ22_grow 138 = .ok (.iadd, 1) := dk_96 (dk_at dksJ22_grow_5 21 rfl rfl)
theorem dJ22_grow_139 : decode cJ22_grow 139 = .ok (.dup_x1, 1) := dk_90 (dk_at dksJ22_grow_5 22 rfl rfl)
theorem dJ22_grow_140 : decode cJ22_grow 140 = .ok (.putfield 24, 3) := dk_181 0 24 (dk_at dksJ22_grow_6 0 rfl rfl)
theorem dJ22_grow_143 : decode cJ22_grow 143 = .ok (.istore 8, 2) := dk_54 8 (dk_at dksJ22_grow_6 3 rfl rfl)
theorem dJ22_grow_145 : decode cJ22_grow 145 = .ok (.iload 7, 2) := dk_21 7 (dk_at dksJ22_grow_6 5 rfl rfl)
theorem dJ22_grow_147 : decode cJ22_grow 147 = .ok (.iload 8, 2) := dk_21 8 (dk_at dksJ22_grow_6 7 rfl rfl)
theorem dJ22_grow_149 : decode cJ22_grow 149 = .ok (.if_icmp .ge 15, 3) := dk_162 0 15 (dk_at dksJ22_grow_6 9 rfl rfl)
theorem dJ22_grow_152 : decode cJ22_grow 152 = .ok (.aload 5, 2) := dk_25 5 (dk_at dksJ22_grow_6 12 rfl rfl)
theorem dJ22_grow_154 : decode cJ22_grow 154 = .ok (.iload 7, 2) := dk_21 7 (dk_at dksJ22_grow_6 14 rfl rfl)
theorem dJ22_grow_156 : decode cJ22_grow 156 = .ok (.aconst_null, 1) := dk_1 (dk_at dksJ22_grow_6 16 rfl rfl)
theorem dJ22_grow_157 : decode cJ22_grow 157 = .ok (.aastore, 1) := dk_83 (dk_at dksJ22_grow_6 17 rfl rfl)
theorem dJ22_grow_158 : decode cJ22_grow 158 = .ok (.iinc 7 1, 3) := dk_132 7 1 (dk_at dksJ22_grow_6 18 rfl rfl)
theorem dJ22_grow_161 : decode cJ22_grow 161 = .ok (.goto (-16), 3) := dk_167 255 240 (dk_at dksJ22_grow_6 21 rfl rfl)
theorem dJ22_grow_164 : decode cJ22_grow 164 = .ok (.return_, 1) := dk_177 (dk_at dksJ22_grow_7 0 rfl rfl)
theorem c63004 : jtCode 63004 = cJ22_grow := rfl
theorem E63004_0 (d : Nat) (a0 : Nat) (i1 : Int32) (h : AH) : G d 63004 0 [.ref a0, .int i1, jno, jno, jno, jno, jno, jno, jno] [] h = zpR (jf (jc h (.ref a0)) [63] 0) (fun r1 => zqL h r1 (fun x2 => if 64 ≤ x2 then (G d 63004 21 [.ref a0, .int i1, .int x2, jno, jno, jno, jno, jno, jno] [.int (x2 >>> ((1 : Int32) &&& 31))] h) else (G d 63004 21 [.ref a0, .int i1, .int x2, jno, jno, jno, jno, jno, jno] [.int (x2 + 2)] h)) ()) () := by
  refine (g_aload_n c63004 dJ22_grow_0 rfl).trans ?_
  refine (g_getR c63004 dJ22_grow_1 rfl).trans (rR_cg fun r1 => ?_)
  refine (g_alen c63004 dJ22_grow_4).trans (aL_cg fun x2 => ?_)
  refine (g_istore_n (L' := [.ref a0, .int i1, .int x2, jno, jno, jno, jno, jno, jno]) c63004 dJ22_grow_5 rfl rfl).trans ?_
  refine (g_iload_n c63004 dJ22_grow_6 rfl).trans ?_
  refine (g_bipush (x := 64) c63004 dJ22_grow_7 rfl).trans ?_
  refine (g_icmp_ge (tgt := 18) c63004 dJ22_grow_9 rfl).trans (if_cg ?_ ?_)
  · skip
    refine (g_iload_n c63004 dJ22_grow_18 rfl).trans ?_
    refine (g_iconst (x := 1) c63004 dJ22_grow_19 rfl).trans ?_
    refine (g_ishr c63004 dJ22_grow_20).trans ?_
    rfl
  · skip
    refine (g_iload_n c63004 dJ22_grow_12 rfl).trans ?_
    refine (g_iconst (x := 2) c63004 dJ22_grow_13 rfl).trans ?_
    refine (g_iadd c63004 dJ22_grow_14).trans ?_
    refine (g_goto (tgt := 21) c63004 dJ22_grow_15 rfl).trans ?_
    rfl
theorem E63004_21 (d : Nat) (a0 : Nat) (i1 : Int32) (i2 : Int32) (is0 : Int32) (h : AH) : G d 63004 21 [.ref a0, .int i1, .int i2, jno, jno, jno, jno, jno, jno] [.int is0] h = if is0 < i1 then (zcI (M d 63008 [.ref a0, .int i1, .int is0] h) (fun x1 h2 => G d 63004 49 [.ref a0, .int i1, .int i2, .int x1, .int is0, jno, jno, jno, jno] [] h2) ()) else (if ((i2 + is0) - 2147483639) ≤ 0 then (G d 63004 49 [.ref a0, .int i1, .int i2, .int (i2 + is0), .int is0, jno, jno, jno, jno] [] h) else (zcI (M d 63008 [.ref a0, .int i1, .int is0] h) (fun x3 h4 => G d 63004 49 [.ref a0, .int i1, .int i2, .int x3, .int is0, jno, jno, jno, jno] [] h4) ())) := by
  refine (g_istore (L' := [.ref a0, .int i1, .int i2, jno, .int is0, jno, jno, jno, jno]) c63004 dJ22_grow_21 rfl rfl).trans ?_
  refine (g_iload c63004 dJ22_grow_23 rfl).trans ?_
  refine (g_iload_n c63004 dJ22_grow_25 rfl).trans ?_
  refine (g_icmp_lt (tgt := 41) c63004 dJ22_grow_26 rfl).trans (if_cg ?_ ?_)
  · skip
    refine (g_aload_n c63004 dJ22_grow_41 rfl).trans ?_
    refine (g_iload_n c63004 dJ22_grow_42 rfl).trans ?_
    refine (g_iload c63004 dJ22_grow_43 rfl).trans ?_
    refine (g_virtual (as := [.ref a0, .int i1, .int is0]) (rest := []) c63004 dJ22_grow_45 rfl rfl rfl rfl rfl).trans ((jback_I (κx := cX) (fun e h => jthrow_out rfl)).trans (cI_cg fun x1 h2 => ?_))
    refine (g_istore_n (L' := [.ref a0, .int i1, .int i2, .int x1, .int is0, jno, jno, jno, jno]) c63004 dJ22_grow_48 rfl rfl).trans ?_
    rfl
  · skip
    refine (g_iload_n c63004 dJ22_grow_29 rfl).trans ?_
    refine (g_iload c63004 dJ22_grow_30 rfl).trans ?_
    refine (g_iadd c63004 dJ22_grow_32).trans ?_
    refine (g_dup_i c63004 dJ22_grow_33).trans ?_
    refine (g_istore_n (L' := [.ref a0, .int i1, .int i2, .int (i2 + is0), .int is0, jno, jno, jno, jno]) c63004 dJ22_grow_34 rfl rfl).trans ?_
    refine (g_ldcI (x := 2147483639) c63004 dJ22_grow_35 rfl rfl).trans ?_
    refine (g_isub c63004 dJ22_grow_37).trans ?_
    refine (g_if_le (tgt := 49) c63004 dJ22_grow_38 rfl).trans (if_cg ?_ ?_)
    · skip
      rfl
    · skip
      refine (g_aload_n c63004 dJ22_grow_41 rfl).trans ?_
      refine (g_iload_n c63004 dJ22_grow_42 rfl).trans ?_
      refine (g_iload c63004 dJ22_grow_43 rfl).trans ?_
      refine (g_virtual (as := [.ref a0, .int i1, .int is0]) (rest := []) c63004 dJ22_grow_45 rfl rfl rfl rfl rfl).trans ((jback_I (κx := cX) (fun e h => jthrow_out rfl)).trans (cI_cg fun x3 h4 => ?_))
      refine (g_istore_n (L' := [.ref a0, .int i1, .int i2, .int x3, .int is0, jno, jno, jno, jno]) c63004 dJ22_grow_48 rfl rfl).trans ?_
      rfl
theorem E63004_49 (d : Nat) (a0 : Nat) (i1 : Int32) (i2 : Int32) (i3 : Int32) (i4 : Int32) (h : AH) : G d 63004 49 [.ref a0, .int i1, .int i2, .int i3, .int i4, jno, jno, jno, jno] [] h = zpR (jf (jc h (.ref a0)) [63] 0) (fun r1 => zcR (M d 45004 [r1, .int i3] h) (fun r2 h3 => zkW r2 (zkW (.ref a0) (zqF h3 (.ref a0) [63] 0 2 r2 (fun h4 => zkR r2 (zpI (jf (jc h4 (.ref a0)) [63] 2) (fun x5 => zpI (jf (jc h4 (.ref a0)) [63] 1) (fun x6 => if x5 < x6 then (G d 63004 96 [.ref a0, .int i1, .int i2, .int i3, .int i4, r2, jno, jno, jno] [] h4) else (zpI (jf (jc h4 (.ref a0)) [63] 2) (fun x7 => zpI (jf (jc h4 (.ref a0)) [63] 1) (fun x8 => if x7 = x8 then (zkR r2 (zpI (jf (jc h4 (.ref a0)) [63] 1) (fun x9 => zqG h4 r2 [1040, 1041, 1050, 1060, 1071] x9 (fun w10 => zpR w10 (fun r11 => zkR r11 (if (r11 : Value) = .null then (some (.inl none, h4)) else (G d 63004 96 [.ref a0, .int i1, .int i2, .int i3, .int i4, r2, jno, jno, jno] [] h4)) ()) ()) ()) ()) ()) else (some (.inl none, h4))) ()) ())) ()) ()) ()) ()) ()) ()) ()) () := by
  refine (g_aload_n c63004 dJ22_grow_49 rfl).trans ?_
  refine (g_aload_n c63004 dJ22_grow_50 rfl).trans ?_
  refine (g_getR c63004 dJ22_grow_51 rfl).trans (rR_cg fun r1 => ?_)
  refine (g_iload_n c63004 dJ22_grow_54 rfl).trans ?_
  refine (g_static (as := [r1, .int i3]) (rest := [.ref a0]) c63004 dJ22_grow_55 rfl rfl rfl rfl rfl).trans ((jback_R (κx := cX) (fun e h => jthrow_out rfl)).trans (cR_cg fun r2 h3 => ?_))
  refine (g_dup_x1 c63004 dJ22_grow_58).trans (ckW_cg (ckW_cg ?_))
  refine (g_put c63004 dJ22_grow_59 rfl).trans (pF_cg fun h4 => ?_)
  refine (g_astoreV (L' := [.ref a0, .int i1, .int i2, .int i3, .int i4, r2, jno, jno, jno]) c63004 dJ22_grow_62 rfl rfl).trans (ckR_cg ?_)
  refine (g_aload_n c63004 dJ22_grow_64 rfl).trans ?_
  refine (g_getI c63004 dJ22_grow_65 rfl rfl).trans (rI_cg fun x5 => ?_)
  refine (g_aload_n c63004 dJ22_grow_68 rfl).trans ?_
  refine (g_getI c63004 dJ22_grow_69 rfl rfl).trans (rI_cg fun x6 => ?_)
  refine (g_icmp_lt (tgt := 96) c63004 dJ22_grow_72 rfl).trans (if_cg ?_ ?_)
  · skip
    rfl
  · skip
    refine (g_aload_n c63004 dJ22_grow_75 rfl).trans ?_
    refine (g_getI c63004 dJ22_grow_76 rfl rfl).trans (rI_cg fun x7 => ?_)
    refine (g_aload_n c63004 dJ22_grow_79 rfl).trans ?_
    refine (g_getI c63004 dJ22_grow_80 rfl rfl).trans (rI_cg fun x8 => ?_)
    refine (g_icmp_ne (tgt := 164) c63004 dJ22_grow_83 rfl).trans (if_cg ?_ ?_)
    · skip
      refine (g_aloadV c63004 dJ22_grow_86 rfl).trans (ckR_cg ?_)
      refine (g_aload_n c63004 dJ22_grow_88 rfl).trans ?_
      refine (g_getI c63004 dJ22_grow_89 rfl rfl).trans (rI_cg fun x9 => ?_)
      refine (g_aaload c63004 dJ22_grow_92).trans (aG_cg fun w10 => rR_cg fun r11 => ?_)
      refine (g_ifnull (tgt := 164) c63004 dJ22_grow_93 rfl).trans (ckR_cg (if_cg ?_ ?_))
      · skip
        exact g_return c63004 dJ22_grow_164 rfl
      · skip
        rfl
    · skip
      exact g_return c63004 dJ22_grow_164 rfl
theorem E63004_96 (d : Nat) (a0 : Nat) (i1 : Int32) (i2 : Int32) (i3 : Int32) (i4 : Int32) (v5 : Value) (h : AH) : G d 63004 96 [.ref a0, .int i1, .int i2, .int i3, .int i4, v5, jno, jno, jno] [] h = zkR v5 (zpI (jf (jc h (.ref a0)) [63] 1) (fun x1 => zkR v5 (zpI (jf (jc h (.ref a0)) [63] 1) (fun x2 => zpI (jf (jc h (.ref a0)) [63] 1) (fun x3 => zcV (M d 90001 [v5, .int x1, v5, .int (x2 + (i3 - i2)), .int (i2 - x3)] h) (fun h5 => zpI (jf (jc h5 (.ref a0)) [63] 1) (fun x6 => zpI (jf (jc h5 (.ref a0)) [63] 1) (fun x7 => zqF h5 (.ref a0) [63] 1 0 (.int (x7 + (i3 - i2))) (fun h8 => G d 63004 145 [.ref a0, .int i1, .int i2, .int i3, .int i4, v5, .int (i3 - i2), .int x6, .int (x7 + (i3 - i2))] [] h8) ()) ()) ()) ()) ()) ()) ()) ()) () := by
  refine (g_iload_n c63004 dJ22_grow_96 rfl).trans ?_
  refine (g_iload_n c63004 dJ22_grow_97 rfl).trans ?_
  refine (g_isub c63004 dJ22_grow_98).trans ?_
  refine (g_istore (L' := [.ref a0, .int i1, .int i2, .int i3, .int i4, v5, .int (i3 - i2), jno, jno]) c63004 dJ22_grow_99 rfl rfl).trans ?_
  refine (g_aloadV c63004 dJ22_grow_101 rfl).trans (ckR_cg ?_)
  refine (g_aload_n c63004 dJ22_grow_103 rfl).trans ?_
  refine (g_getI c63004 dJ22_grow_104 rfl rfl).trans (rI_cg fun x1 => ?_)
  refine (g_aloadV c63004 dJ22_grow_107 rfl).trans (ckR_cg ?_)
  refine (g_aload_n c63004 dJ22_grow_109 rfl).trans ?_
  refine (g_getI c63004 dJ22_grow_110 rfl rfl).trans (rI_cg fun x2 => ?_)
  refine (g_iload c63004 dJ22_grow_113 rfl).trans ?_
  refine (g_iadd c63004 dJ22_grow_115).trans ?_
  refine (g_iload_n c63004 dJ22_grow_116 rfl).trans ?_
  refine (g_aload_n c63004 dJ22_grow_117 rfl).trans ?_
  refine (g_getI c63004 dJ22_grow_118 rfl rfl).trans (rI_cg fun x3 => ?_)
  refine (g_isub c63004 dJ22_grow_121).trans ?_
  refine (g_static (as := [v5, .int x1, v5, .int (x2 + (i3 - i2)), .int (i2 - x3)]) (rest := []) c63004 dJ22_grow_122 rfl rfl rfl rfl rfl).trans ((jback_V (κx := cX) (fun e h => jthrow_out rfl)).trans (cV_cg fun h5 => ?_))
  refine (g_aload_n c63004 dJ22_grow_125 rfl).trans ?_
  refine (g_getI c63004 dJ22_grow_126 rfl rfl).trans (rI_cg fun x6 => ?_)
  refine (g_istore (L' := [.ref a0, .int i1, .int i2, .int i3, .int i4, v5, .int (i3 - i2), .int x6, jno]) c63004 dJ22_grow_129 rfl rfl).trans ?_
  refine (g_aload_n c63004 dJ22_grow_131 rfl).trans ?_
  refine (g_dup_r c63004 dJ22_grow_132).trans ?_
  refine (g_getI c63004 dJ22_grow_133 rfl rfl).trans (rI_cg fun x7 => ?_)
  refine (g_iload c63004 dJ22_grow_136 rfl).trans ?_
  refine (g_iadd c63004 dJ22_grow_138).trans ?_
  refine (g_dup_x1_ir c63004 dJ22_grow_139).trans ?_
  refine (g_put c63004 dJ22_grow_140 rfl).trans (pF_cg fun h8 => ?_)
  refine (g_istore (L' := [.ref a0, .int i1, .int i2, .int i3, .int i4, v5, .int (i3 - i2), .int x6, .int (x7 + (i3 - i2))]) c63004 dJ22_grow_143 rfl rfl).trans ?_
  rfl
theorem E63004_145 (d : Nat) (a0 : Nat) (i1 : Int32) (i2 : Int32) (i3 : Int32) (i4 : Int32) (v5 : Value) (i6 : Int32) (i7 : Int32) (i8 : Int32) (h : AH) : G d 63004 145 [.ref a0, .int i1, .int i2, .int i3, .int i4, v5, .int i6, .int i7, .int i8] [] h = if i8 ≤ i7 then (some (.inl none, h)) else (zkR v5 (zqA h v5 .null i7 (fun h1 => G d 63004 145 [.ref a0, .int i1, .int i2, .int i3, .int i4, v5, .int i6, .int (i7 + 1), .int i8] [] h1) ()) ()) := by
  refine (g_iload c63004 dJ22_grow_145 rfl).trans ?_
  refine (g_iload c63004 dJ22_grow_147 rfl).trans ?_
  refine (g_icmp_ge (tgt := 164) c63004 dJ22_grow_149 rfl).trans (if_cg ?_ ?_)
  · skip
    exact g_return c63004 dJ22_grow_164 rfl
  · skip
    refine (g_aloadV c63004 dJ22_grow_152 rfl).trans (ckR_cg ?_)
    refine (g_iload c63004 dJ22_grow_154 rfl).trans ?_
    refine (g_aconst_null c63004 dJ22_grow_156).trans ?_
    refine (g_aastore c63004 dJ22_grow_157).trans (aSr_cg fun h1 => ?_)
    refine (g_iinc (c := 1) (L' := [.ref a0, .int i1, .int i2, .int i3, .int i4, v5, .int i6, .int (i7 + 1), .int i8]) c63004 dJ22_grow_158 rfl rfl rfl rfl).trans ?_
    refine (g_goto (tgt := 145) c63004 dJ22_grow_161 rfl).trans ?_
    rfl
theorem X63004 {d : Nat} {a0 : Nat} {i1 : Int32} (h : AH) (hr : jrecv 63004 [.ref a0, .int i1] h = true) : M (d + 1) 63004 [.ref a0, .int i1] h = G d 63004 0 [.ref a0, .int i1, jno, jno, jno, jno, jno, jno, jno] [] h := M_eq rfl hr rfl
/-! java/util/ArrayDeque.inc(II)I -/
abbrev cJ22_inc : ByteArray := prog_64_method_6_code
def dkwJ22_inc_0 : List UInt8 := [132, 0, 1, 26, 27, 161, 0, 5, 3, 59, 26, 172]
abbrev dktJ22_inc_0 : List UInt8 := dkwJ22_inc_0 ++ []
theorem dksJ22_inc_0 : cJ22_inc.data.toList.drop 0 = dktJ22_inc_0 := by decide +kernel
theorem dJ22_inc_0 : decode cJ22_inc 0 = .ok (.iinc 0 1, 3) := dk_132 0 1 (dk_at dksJ22_inc_0 0 rfl rfl)
theorem dJ22_inc_3 : decode cJ22_inc 3 = .ok (.iload_n 0, 1) := dk_26 (dk_at dksJ22_inc_0 3 rfl rfl)
theorem dJ22_inc_4 : decode cJ22_inc 4 = .ok (.iload_n 1, 1) := dk_27 (dk_at dksJ22_inc_0 4 rfl rfl)
theorem dJ22_inc_5 : decode cJ22_inc 5 = .ok (.if_icmp .lt 5, 3) := dk_161 0 5 (dk_at dksJ22_inc_0 5 rfl rfl)
theorem dJ22_inc_8 : decode cJ22_inc 8 = .ok (.iconst 0, 1) := dk_3 (dk_at dksJ22_inc_0 8 rfl rfl)
theorem dJ22_inc_9 : decode cJ22_inc 9 = .ok (.istore_n 0, 1) := dk_59 (dk_at dksJ22_inc_0 9 rfl rfl)
theorem dJ22_inc_10 : decode cJ22_inc 10 = .ok (.iload_n 0, 1) := dk_26 (dk_at dksJ22_inc_0 10 rfl rfl)
theorem dJ22_inc_11 : decode cJ22_inc 11 = .ok (.ireturn, 1) := dk_172 (dk_at dksJ22_inc_0 11 rfl rfl)
theorem c63005 : jtCode 63005 = cJ22_inc := rfl
theorem E63005_0 (d : Nat) (i0 : Int32) (i1 : Int32) (h : AH) : G d 63005 0 [.int i0, .int i1] [] h = if (i0 + 1) < i1 then (some (.inl (some (.int (i0 + 1))), h)) else (some (.inl (some (.int 0)), h)) := by
  refine (g_iinc (c := 1) (L' := [.int (i0 + 1), .int i1]) c63005 dJ22_inc_0 rfl rfl rfl rfl).trans ?_
  refine (g_iload_n c63005 dJ22_inc_3 rfl).trans ?_
  refine (g_iload_n c63005 dJ22_inc_4 rfl).trans ?_
  refine (g_icmp_lt (tgt := 10) c63005 dJ22_inc_5 rfl).trans (if_cg ?_ ?_)
  · skip
    refine (g_iload_n c63005 dJ22_inc_10 rfl).trans ?_
    exact g_ireturn c63005 dJ22_inc_11 rfl
  · skip
    refine (g_iconst (x := 0) c63005 dJ22_inc_8 rfl).trans ?_
    refine (g_istore_n (L' := [.int 0, .int i1]) c63005 dJ22_inc_9 rfl rfl).trans ?_
    refine (g_iload_n c63005 dJ22_inc_10 rfl).trans ?_
    exact g_ireturn c63005 dJ22_inc_11 rfl
theorem X63005 {d : Nat} {i0 : Int32} {i1 : Int32} (h : AH) : M (d + 1) 63005 [.int i0, .int i1] h = G d 63005 0 [.int i0, .int i1] [] h := M_eq rfl rfl rfl
/-! java/util/ArrayDeque.isEmpty()Z -/
abbrev cJ22_isEmpty : ByteArray := prog_64_method_38_code
def dkwJ22_isEmpty_0 : List UInt8 := [42, 180, 0, 24, 42, 180, 0, 20, 160, 0, 7, 4, 167, 0, 4, 3, 172]
abbrev dktJ22_isEmpty_0 : List UInt8 := dkwJ22_isEmpty_0 ++ []
theorem dksJ22_isEmpty_0 : cJ22_isEmpty.data.toList.drop 0 = dktJ22_isEmpty_0 := by decide +kernel
theorem dJ22_isEmpty_0 : decode cJ22_isEmpty 0 = .ok (.aload_n 0, 1) := dk_42 (dk_at dksJ22_isEmpty_0 0 rfl rfl)
theorem dJ22_isEmpty_1 : decode cJ22_isEmpty 1 = .ok (.getfield 24, 3) := dk_180 0 24 (dk_at dksJ22_isEmpty_0 1 rfl rfl)
theorem dJ22_isEmpty_4 : decode cJ22_isEmpty 4 = .ok (.aload_n 0, 1) := dk_42 (dk_at dksJ22_isEmpty_0 4 rfl rfl)
theorem dJ22_isEmpty_5 : decode cJ22_isEmpty 5 = .ok (.getfield 20, 3) := dk_180 0 20 (dk_at dksJ22_isEmpty_0 5 rfl rfl)
theorem dJ22_isEmpty_8 : decode cJ22_isEmpty 8 = .ok (.if_icmp .ne 7, 3) := dk_160 0 7 (dk_at dksJ22_isEmpty_0 8 rfl rfl)
theorem dJ22_isEmpty_11 : decode cJ22_isEmpty 11 = .ok (.iconst 1, 1) := dk_4 (dk_at dksJ22_isEmpty_0 11 rfl rfl)
theorem dJ22_isEmpty_12 : decode cJ22_isEmpty 12 = .ok (.goto 4, 3) := dk_167 0 4 (dk_at dksJ22_isEmpty_0 12 rfl rfl)
theorem dJ22_isEmpty_15 : decode cJ22_isEmpty 15 = .ok (.iconst 0, 1) := dk_3 (dk_at dksJ22_isEmpty_0 15 rfl rfl)
theorem dJ22_isEmpty_16 : decode cJ22_isEmpty 16 = .ok (.ireturn, 1) := dk_172 (dk_at dksJ22_isEmpty_0 16 rfl rfl)
theorem c63006 : jtCode 63006 = cJ22_isEmpty := rfl
theorem E63006_0 (d : Nat) (a0 : Nat) (h : AH) : G d 63006 0 [.ref a0] [] h = zpI (jf (jc h (.ref a0)) [63] 1) (fun x1 => zpI (jf (jc h (.ref a0)) [63] 2) (fun x2 => if x1 = x2 then (some (.inl (some (.int 1)), h)) else (some (.inl (some (.int 0)), h))) ()) () := by
  refine (g_aload_n c63006 dJ22_isEmpty_0 rfl).trans ?_
  refine (g_getI c63006 dJ22_isEmpty_1 rfl rfl).trans (rI_cg fun x1 => ?_)
  refine (g_aload_n c63006 dJ22_isEmpty_4 rfl).trans ?_
  refine (g_getI c63006 dJ22_isEmpty_5 rfl rfl).trans (rI_cg fun x2 => ?_)
  refine (g_icmp_ne (tgt := 15) c63006 dJ22_isEmpty_8 rfl).trans (if_cg ?_ ?_)
  · skip
    refine (g_iconst (x := 1) c63006 dJ22_isEmpty_11 rfl).trans ?_
    refine (g_goto (tgt := 16) c63006 dJ22_isEmpty_12 rfl).trans ?_
    exact g_zreturn1 c63006 dJ22_isEmpty_16 rfl
  · skip
    refine (g_iconst (x := 0) c63006 dJ22_isEmpty_15 rfl).trans ?_
    exact g_zreturn0 c63006 dJ22_isEmpty_16 rfl
theorem X63006 {d : Nat} {a0 : Nat} (h : AH) (hr : jrecv 63006 [.ref a0] h = true) : M (d + 1) 63006 [.ref a0] h = G d 63006 0 [.ref a0] [] h := M_eq rfl hr rfl
/-! java/util/ArrayDeque.iterator()Ljava/util/Iterator; -/
abbrev cJ22_iterator : ByteArray := prog_64_method_39_code
def dkwJ22_iterator_0 : List UInt8 := [187, 0, 131, 89, 42, 183, 0, 133, 176]
abbrev dktJ22_iterator_0 : List UInt8 := dkwJ22_iterator_0 ++ []
theorem dksJ22_iterator_0 : cJ22_iterator.data.toList.drop 0 = dktJ22_iterator_0 := by decide +kernel
theorem dJ22_iterator_0 : decode cJ22_iterator 0 = .ok (.new 131, 3) := dk_187 0 131 (dk_at dksJ22_iterator_0 0 rfl rfl)
theorem dJ22_iterator_3 : decode cJ22_iterator 3 = .ok (.dup, 1) := dk_89 (dk_at dksJ22_iterator_0 3 rfl rfl)
theorem dJ22_iterator_4 : decode cJ22_iterator 4 = .ok (.aload_n 0, 1) := dk_42 (dk_at dksJ22_iterator_0 4 rfl rfl)
theorem dJ22_iterator_5 : decode cJ22_iterator 5 = .ok (.invokespecial 133, 3) := dk_183 0 133 (dk_at dksJ22_iterator_0 5 rfl rfl)
theorem dJ22_iterator_8 : decode cJ22_iterator 8 = .ok (.areturn, 1) := dk_176 (dk_at dksJ22_iterator_0 8 rfl rfl)
theorem c63007 : jtCode 63007 = cJ22_iterator := rfl
theorem E63007_0 (d : Nat) (a0 : Nat) (h : AH) : G d 63007 0 [.ref a0] [] h = zqH (jpush h (64, 4, jL [.int 0, .int 0, .int 0, .null])) (fun h1 => zcV (M d 64900 [.ref h.1, .ref a0] h1) (fun h3 => some (.inl (some (.ref h.1)), h3)) ()) () := by
  refine (g_new (l := [.int 0, .int 0, .int 0, .null]) c63007 dJ22_iterator_0 rfl rfl).trans ?_
  refine nmZ ?_
  generalize jpush h (64, 4, jL [.int 0, .int 0, .int 0, .null]) = h1
  refine (g_dup_r c63007 dJ22_iterator_3).trans ?_
  refine (g_aload_n c63007 dJ22_iterator_4 rfl).trans ?_
  refine (g_special (as := [.ref h.1, .ref a0]) (rest := [.ref h.1]) c63007 dJ22_iterator_5 rfl rfl rfl rfl rfl).trans ((jback_V (κx := cX) (fun e h => jthrow_out rfl)).trans (cV_cg fun h3 => ?_))
  exact g_areturn_r c63007 dJ22_iterator_8 rfl
theorem X63007 {d : Nat} {a0 : Nat} (h : AH) (hr : jrecv 63007 [.ref a0] h = true) : M (d + 1) 63007 [.ref a0] h = G d 63007 0 [.ref a0] [] h := M_eq rfl hr rfl
/-! java/util/ArrayDeque.nonNullElementAt([Ljava/lang/Object;I)Ljava/lang/Object; -/
abbrev cJ22_nonNullElementAt : ByteArray := prog_64_method_11_code
def dkwJ22_nonNullElementAt_0 : List UInt8 := [42, 27, 50, 77, 44, 199, 0, 11, 187, 0, 62, 89, 183, 0, 64, 191, 44, 176]
abbrev dktJ22_nonNullElementAt_0 : List UInt8 := dkwJ22_nonNullElementAt_0 ++ []
theorem dksJ22_nonNullElementAt_0 : cJ22_nonNullElementAt.data.toList.drop 0 = dktJ22_nonNullElementAt_0 := by decide +kernel
theorem dJ22_nonNullElementAt_0 : decode cJ22_nonNullElementAt 0 = .ok (.aload_n 0, 1) := dk_42 (dk_at dksJ22_nonNullElementAt_0 0 rfl rfl)
theorem dJ22_nonNullElementAt_1 : decode cJ22_nonNullElementAt 1 = .ok (.iload_n 1, 1) := dk_27 (dk_at dksJ22_nonNullElementAt_0 1 rfl rfl)
theorem dJ22_nonNullElementAt_2 : decode cJ22_nonNullElementAt 2 = .ok (.aaload, 1) := dk_50 (dk_at dksJ22_nonNullElementAt_0 2 rfl rfl)
theorem dJ22_nonNullElementAt_3 : decode cJ22_nonNullElementAt 3 = .ok (.astore_n 2, 1) := dk_77 (dk_at dksJ22_nonNullElementAt_0 3 rfl rfl)
theorem dJ22_nonNullElementAt_4 : decode cJ22_nonNullElementAt 4 = .ok (.aload_n 2, 1) := dk_44 (dk_at dksJ22_nonNullElementAt_0 4 rfl rfl)
theorem dJ22_nonNullElementAt_5 : decode cJ22_nonNullElementAt 5 = .ok (.ifnonnull 11, 3) := dk_199 0 11 (dk_at dksJ22_nonNullElementAt_0 5 rfl rfl)
theorem dJ22_nonNullElementAt_8 : decode cJ22_nonNullElementAt 8 = .ok (.new 62, 3) := dk_187 0 62 (dk_at dksJ22_nonNullElementAt_0 8 rfl rfl)
theorem dJ22_nonNullElementAt_11 : decode cJ22_nonNullElementAt 11 = .ok (.dup, 1) := dk_89 (dk_at dksJ22_nonNullElementAt_0 11 rfl rfl)
theorem dJ22_nonNullElementAt_12 : decode cJ22_nonNullElementAt 12 = .ok (.invokespecial 64, 3) := dk_183 0 64 (dk_at dksJ22_nonNullElementAt_0 12 rfl rfl)
theorem dJ22_nonNullElementAt_15 : decode cJ22_nonNullElementAt 15 = .ok (.athrow, 1) := dk_191 (dk_at dksJ22_nonNullElementAt_0 15 rfl rfl)
theorem dJ22_nonNullElementAt_16 : decode cJ22_nonNullElementAt 16 = .ok (.aload_n 2, 1) := dk_44 (dk_at dksJ22_nonNullElementAt_0 16 rfl rfl)
theorem dJ22_nonNullElementAt_17 : decode cJ22_nonNullElementAt 17 = .ok (.areturn, 1) := dk_176 (dk_at dksJ22_nonNullElementAt_0 17 rfl rfl)
theorem c63009 : jtCode 63009 = cJ22_nonNullElementAt := rfl
theorem E63009_0 (d : Nat) (v0 : Value) (i1 : Int32) (h : AH) : G d 63009 0 [v0, .int i1, jno] [] h = zkR v0 (zqG h v0 [1040, 1041, 1050, 1060, 1071] i1 (fun w1 => zpR w1 (fun r2 => zkR r2 (zkR r2 (zkR r2 (if (r2 : Value) = .null then (G d 63009 8 [v0, .int i1, r2] [] h) else (zkR r2 (ckR r2 (some (.inl (some r2), h))) ())) ()) ()) ()) ()) ()) () := by
  refine (g_aload_nV c63009 dJ22_nonNullElementAt_0 rfl).trans (ckR_cg ?_)
  refine (g_iload_n c63009 dJ22_nonNullElementAt_1 rfl).trans ?_
  refine (g_aaload c63009 dJ22_nonNullElementAt_2).trans (aG_cg fun w1 => rR_cg fun r2 => ?_)
  refine (g_astore_nV (L' := [v0, .int i1, r2]) c63009 dJ22_nonNullElementAt_3 rfl rfl).trans (ckR_cg ?_)
  refine (g_aload_nV c63009 dJ22_nonNullElementAt_4 rfl).trans (ckR_cg ?_)
  refine (g_ifnonnull (tgt := 16) c63009 dJ22_nonNullElementAt_5 rfl).trans (ckR_cg (if_cg ?_ ?_))
  · skip
    rfl
  · skip
    refine (g_aload_nV c63009 dJ22_nonNullElementAt_16 rfl).trans (ckR_cg ?_)
    exact g_areturn c63009 dJ22_nonNullElementAt_17 rfl
theorem X63009 {d : Nat} {v0 : Value} {i1 : Int32} (h : AH) (hv0 : isR v0 = true) : M (d + 1) 63009 [v0, .int i1] h = G d 63009 0 [v0, .int i1, jno] [] h := M_eq rfl rfl (by simp only [jent, jargL_R hv0, jargL]; rfl)
/-! java/util/ArrayDeque.pollFirst()Ljava/lang/Object; -/
abbrev cJ22_pollFirst : ByteArray := prog_64_method_20_code
def dkwJ22_pollFirst_1 : List UInt8 := [42, 28, 43, 190, 184, 0, 74, 181, 0, 24, 45, 176]
abbrev dktJ22_pollFirst_1 : List UInt8 := dkwJ22_pollFirst_1 ++ []
def dkwJ22_pollFirst_0 : List UInt8 := [42, 180, 0, 3, 89, 76, 42, 180, 0, 24, 89, 61, 184, 0, 103, 78, 45, 198, 0, 17, 43, 28, 1, 83]
abbrev dktJ22_pollFirst_0 : List UInt8 := dkwJ22_pollFirst_0 ++ dktJ22_pollFirst_1
theorem dksJ22_pollFirst_0 : cJ22_pollFirst.data.toList.drop 0 = dktJ22_pollFirst_0 := by decide +kernel
theorem dksJ22_pollFirst_1 : cJ22_pollFirst.data.toList.drop 24 = dktJ22_pollFirst_1 := dk_seg dksJ22_pollFirst_0 24 rfl rfl
theorem dJ22_pollFirst_0 : decode cJ22_pollFirst 0 = .ok (.aload_n 0, 1) := dk_42 (dk_at dksJ22_pollFirst_0 0 rfl rfl)
theorem dJ22_pollFirst_1 : decode cJ22_pollFirst 1 = .ok (.getfield 3, 3) := dk_180 0 3 (dk_at dksJ22_pollFirst_0 1 rfl rfl)
theorem dJ22_pollFirst_4 : decode cJ22_pollFirst 4 = .ok (.dup, 1) := dk_89 (dk_at dksJ22_pollFirst_0 4 rfl rfl)
theorem dJ22_pollFirst_5 : decode cJ22_pollFirst 5 = .ok (.astore_n 1, 1) := dk_76 (dk_at dksJ22_pollFirst_0 5 rfl rfl)
theorem dJ22_pollFirst_6 : decode cJ22_pollFirst 6 = .ok (.aload_n 0, 1) := dk_42 (dk_at dksJ22_pollFirst_0 6 rfl rfl)
theorem dJ22_pollFirst_7 : decode cJ22_pollFirst 7 = .ok (.getfield 24, 3) := dk_180 0 24 (dk_at dksJ22_pollFirst_0 7 rfl rfl)
theorem dJ22_pollFirst_10 : decode cJ22_pollFirst 10 = .ok (.dup, 1) := dk_89 (dk_at dksJ22_pollFirst_0 10 rfl rfl)
theorem dJ22_pollFirst_11 : decode cJ22_pollFirst 11 = .ok (.istore_n 2, 1) := dk_61 (dk_at dksJ22_pollFirst_0 11 rfl rfl)
theorem dJ22_pollFirst_12 : decode cJ22_pollFirst 12 = .ok (.invokestatic 103, 3) := dk_184 0 103 (dk_at dksJ22_pollFirst_0 12 rfl rfl)
theorem dJ22_pollFirst_15 : decode cJ22_pollFirst 15 = .ok (.astore_n 3, 1) := dk_78 (dk_at dksJ22_pollFirst_0 15 rfl rfl)
theorem dJ22_pollFirst_16 : decode cJ22_pollFirst 16 = .ok (.aload_n 3, 1) := dk_45 (dk_at dksJ22_pollFirst_0 16 rfl rfl)
theorem dJ22_pollFirst_17 : decode cJ22_pollFirst 17 = .ok (.ifnull 17, 3) := dk_198 0 17 (dk_at dksJ22_pollFirst_0 17 rfl rfl)
theorem dJ22_pollFirst_20 : decode cJ22_pollFirst 20 = .ok (.aload_n 1, 1) := dk_43 (dk_at dksJ22_pollFirst_0 20 rfl rfl)
theorem dJ22_pollFirst_21 : decode cJ22_pollFirst 21 = .ok (.iload_n 2, 1) := dk_28 (dk_at dksJ22_pollFirst_0 21 rfl rfl)
theorem dJ22_pollFirst_22 : decode cJ22_pollFirst 22 = .ok (.aconst_null, 1) := dk_1 (dk_at dksJ22_pollFirst_0 22 rfl rfl)
theorem dJ22_pollFirst_23 : decode cJ22_pollFirst 23 = .ok (.aastore, 1) := dk_83 (dk_at dksJ22_pollFirst_0 23 rfl rfl)
theorem dJ22_pollFirst_24 : decode cJ22_pollFirst 24 = .ok (.aload_n 0, 1) := dk_42 (dk_at dksJ22_pollFirst_1 0 rfl rfl)
theorem dJ22_pollFirst_25 : decode cJ22_pollFirst 25 = .ok (.iload_n 2, 1) := dk_28 (dk_at dksJ22_pollFirst_1 1 rfl rfl)
theorem dJ22_pollFirst_26 : decode cJ22_pollFirst 26 = .ok (.aload_n 1, 1) := dk_43 (dk_at dksJ22_pollFirst_1 2 rfl rfl)
theorem dJ22_pollFirst_27 : decode cJ22_pollFirst 27 = .ok (.arraylength, 1) := dk_190 (dk_at dksJ22_pollFirst_1 3 rfl rfl)
theorem dJ22_pollFirst_28 : decode cJ22_pollFirst 28 = .ok (.invokestatic 74, 3) := dk_184 0 74 (dk_at dksJ22_pollFirst_1 4 rfl rfl)
theorem dJ22_pollFirst_31 : decode cJ22_pollFirst 31 = .ok (.putfield 24, 3) := dk_181 0 24 (dk_at dksJ22_pollFirst_1 7 rfl rfl)
theorem dJ22_pollFirst_34 : decode cJ22_pollFirst 34 = .ok (.aload_n 3, 1) := dk_45 (dk_at dksJ22_pollFirst_1 10 rfl rfl)
theorem dJ22_pollFirst_35 : decode cJ22_pollFirst 35 = .ok (.areturn, 1) := dk_176 (dk_at dksJ22_pollFirst_1 11 rfl rfl)
theorem c63010 : jtCode 63010 = cJ22_pollFirst := rfl
theorem E63010_0 (d : Nat) (a0 : Nat) (h : AH) : G d 63010 0 [.ref a0, jno, jno, jno] [] h = zpR (jf (jc h (.ref a0)) [63] 0) (fun r1 => zkW r1 (zkR r1 (zpI (jf (jc h (.ref a0)) [63] 1) (fun x2 => zcR (M d 63003 [r1, .int x2] h) (fun r3 h4 => zkR r3 (zkR r3 (zkR r3 (if (r3 : Value) = .null then (zkR r3 (ckR r3 (some (.inl (some r3), h4))) ()) else (zkR r1 (zqA h4 r1 .null x2 (fun h5 => zkR r1 (zqL h5 r1 (fun x6 => zcI (M d 63005 [.int x2, .int x6] h5) (fun x7 h8 => zqF h8 (.ref a0) [63] 1 0 (.int x7) (fun h9 => zkR r3 (ckR r3 (some (.inl (some r3), h9))) ()) ()) ()) ()) ()) ()) ())) ()) ()) ()) ()) ()) ()) ()) () := by
  refine (g_aload_n c63010 dJ22_pollFirst_0 rfl).trans ?_
  refine (g_getR c63010 dJ22_pollFirst_1 rfl).trans (rR_cg fun r1 => ?_)
  refine (g_dup c63010 dJ22_pollFirst_4).trans (ckW_cg ?_)
  refine (g_astore_nV (L' := [.ref a0, r1, jno, jno]) c63010 dJ22_pollFirst_5 rfl rfl).trans (ckR_cg ?_)
  refine (g_aload_n c63010 dJ22_pollFirst_6 rfl).trans ?_
  refine (g_getI c63010 dJ22_pollFirst_7 rfl rfl).trans (rI_cg fun x2 => ?_)
  refine (g_dup_i c63010 dJ22_pollFirst_10).trans ?_
  refine (g_istore_n (L' := [.ref a0, r1, .int x2, jno]) c63010 dJ22_pollFirst_11 rfl rfl).trans ?_
  refine (g_static (as := [r1, .int x2]) (rest := []) c63010 dJ22_pollFirst_12 rfl rfl rfl rfl rfl).trans ((jback_R (κx := cX) (fun e h => jthrow_out rfl)).trans (cR_cg fun r3 h4 => ?_))
  refine (g_astore_nV (L' := [.ref a0, r1, .int x2, r3]) c63010 dJ22_pollFirst_15 rfl rfl).trans (ckR_cg ?_)
  refine (g_aload_nV c63010 dJ22_pollFirst_16 rfl).trans (ckR_cg ?_)
  refine (g_ifnull (tgt := 34) c63010 dJ22_pollFirst_17 rfl).trans (ckR_cg (if_cg ?_ ?_))
  · skip
    refine (g_aload_nV c63010 dJ22_pollFirst_34 rfl).trans (ckR_cg ?_)
    exact g_areturn c63010 dJ22_pollFirst_35 rfl
  · skip
    refine (g_aload_nV c63010 dJ22_pollFirst_20 rfl).trans (ckR_cg ?_)
    refine (g_iload_n c63010 dJ22_pollFirst_21 rfl).trans ?_
    refine (g_aconst_null c63010 dJ22_pollFirst_22).trans ?_
    refine (g_aastore c63010 dJ22_pollFirst_23).trans (aSr_cg fun h5 => ?_)
    refine (g_aload_n c63010 dJ22_pollFirst_24 rfl).trans ?_
    refine (g_iload_n c63010 dJ22_pollFirst_25 rfl).trans ?_
    refine (g_aload_nV c63010 dJ22_pollFirst_26 rfl).trans (ckR_cg ?_)
    refine (g_alen c63010 dJ22_pollFirst_27).trans (aL_cg fun x6 => ?_)
    refine (g_static (as := [.int x2, .int x6]) (rest := [.ref a0]) c63010 dJ22_pollFirst_28 rfl rfl rfl rfl rfl).trans ((jback_I (κx := cX) (fun e h => jthrow_out rfl)).trans (cI_cg fun x7 h8 => ?_))
    refine (g_put c63010 dJ22_pollFirst_31 rfl).trans (pF_cg fun h9 => ?_)
    refine (g_aload_nV c63010 dJ22_pollFirst_34 rfl).trans (ckR_cg ?_)
    exact g_areturn c63010 dJ22_pollFirst_35 rfl
theorem X63010 {d : Nat} {a0 : Nat} (h : AH) (hr : jrecv 63010 [.ref a0] h = true) : M (d + 1) 63010 [.ref a0] h = G d 63010 0 [.ref a0, jno, jno, jno] [] h := M_eq rfl hr rfl
/-! java/util/ArrayDeque.size()I -/
abbrev cJ22_size : ByteArray := prog_64_method_37_code
def dkwJ22_size_0 : List UInt8 := [42, 180, 0, 20, 42, 180, 0, 24, 42, 180, 0, 3, 190, 184, 0, 127, 172]
abbrev dktJ22_size_0 : List UInt8 := dkwJ22_size_0 ++ []
theorem dksJ22_size_0 : cJ22_size.data.toList.drop 0 = dktJ22_size_0 := by decide +kernel
theorem dJ22_size_0 : decode cJ22_size 0 = .ok (.aload_n 0, 1) := dk_42 (dk_at dksJ22_size_0 0 rfl rfl)
theorem dJ22_size_1 : decode cJ22_size 1 = .ok (.getfield 20, 3) := dk_180 0 20 (dk_at dksJ22_size_0 1 rfl rfl)
theorem dJ22_size_4 : decode cJ22_size 4 = .ok (.aload_n 0, 1) := dk_42 (dk_at dksJ22_size_0 4 rfl rfl)
theorem dJ22_size_5 : decode cJ22_size 5 = .ok (.getfield 24, 3) := dk_180 0 24 (dk_at dksJ22_size_0 5 rfl rfl)
theorem dJ22_size_8 : decode cJ22_size 8 = .ok (.aload_n 0, 1) := dk_42 (dk_at dksJ22_size_0 8 rfl rfl)
theorem dJ22_size_9 : decode cJ22_size 9 = .ok (.getfield 3, 3) := dk_180 0 3 (dk_at dksJ22_size_0 9 rfl rfl)
theorem dJ22_size_12 : decode cJ22_size 12 = .ok (.arraylength, 1) := dk_190 (dk_at dksJ22_size_0 12 rfl rfl)
theorem dJ22_size_13 : decode cJ22_size 13 = .ok (.invokestatic 127, 3) := dk_184 0 127 (dk_at dksJ22_size_0 13 rfl rfl)
theorem dJ22_size_16 : decode cJ22_size 16 = .ok (.ireturn, 1) := dk_172 (dk_at dksJ22_size_0 16 rfl rfl)
theorem c63011 : jtCode 63011 = cJ22_size := rfl
theorem E63011_0 (d : Nat) (a0 : Nat) (h : AH) : G d 63011 0 [.ref a0] [] h = zpI (jf (jc h (.ref a0)) [63] 2) (fun x1 => zpI (jf (jc h (.ref a0)) [63] 1) (fun x2 => zpR (jf (jc h (.ref a0)) [63] 0) (fun r3 => zqL h r3 (fun x4 => zcI (M d 63012 [.int x1, .int x2, .int x4] h) (fun x5 h6 => some (.inl (some (.int x5)), h6)) ()) ()) ()) ()) () := by
  refine (g_aload_n c63011 dJ22_size_0 rfl).trans ?_
  refine (g_getI c63011 dJ22_size_1 rfl rfl).trans (rI_cg fun x1 => ?_)
  refine (g_aload_n c63011 dJ22_size_4 rfl).trans ?_
  refine (g_getI c63011 dJ22_size_5 rfl rfl).trans (rI_cg fun x2 => ?_)
  refine (g_aload_n c63011 dJ22_size_8 rfl).trans ?_
  refine (g_getR c63011 dJ22_size_9 rfl).trans (rR_cg fun r3 => ?_)
  refine (g_alen c63011 dJ22_size_12).trans (aL_cg fun x4 => ?_)
  refine (g_static (as := [.int x1, .int x2, .int x4]) (rest := []) c63011 dJ22_size_13 rfl rfl rfl rfl rfl).trans ((jback_I (κx := cX) (fun e h => jthrow_out rfl)).trans (cI_cg fun x5 h6 => ?_))
  exact g_ireturn c63011 dJ22_size_16 rfl
theorem X63011 {d : Nat} {a0 : Nat} (h : AH) (hr : jrecv 63011 [.ref a0] h = true) : M (d + 1) 63011 [.ref a0] h = G d 63011 0 [.ref a0] [] h := M_eq rfl hr rfl
/-! java/util/ArrayDeque.sub(III)I -/
abbrev cJ22_sub : ByteArray := prog_64_method_9_code
def dkwJ22_sub_0 : List UInt8 := [26, 27, 100, 89, 59, 156, 0, 7, 26, 28, 96, 59, 26, 172]
abbrev dktJ22_sub_0 : List UInt8 := dkwJ22_sub_0 ++ []
theorem dksJ22_sub_0 : cJ22_sub.data.toList.drop 0 = dktJ22_sub_0 := by decide +kernel
theorem dJ22_sub_0 : decode cJ22_sub 0 = .ok (.iload_n 0, 1) := dk_26 (dk_at dksJ22_sub_0 0 rfl rfl)
theorem dJ22_sub_1 : decode cJ22_sub 1 = .ok (.iload_n 1, 1) := dk_27 (dk_at dksJ22_sub_0 1 rfl rfl)
theorem dJ22_sub_2 : decode cJ22_sub 2 = .ok (.isub, 1) := dk_100 (dk_at dksJ22_sub_0 2 rfl rfl)
theorem dJ22_sub_3 : decode cJ22_sub 3 = .ok (.dup, 1) := dk_89 (dk_at dksJ22_sub_0 3 rfl rfl)
theorem dJ22_sub_4 : decode cJ22_sub 4 = .ok (.istore_n 0, 1) := dk_59 (dk_at dksJ22_sub_0 4 rfl rfl)
theorem dJ22_sub_5 : decode cJ22_sub 5 = .ok (.ifCond .ge 7, 3) := dk_156 0 7 (dk_at dksJ22_sub_0 5 rfl rfl)
theorem dJ22_sub_8 : decode cJ22_sub 8 = .ok (.iload_n 0, 1) := dk_26 (dk_at dksJ22_sub_0 8 rfl rfl)
theorem dJ22_sub_9 : decode cJ22_sub 9 = .ok (.iload_n 2, 1) := dk_28 (dk_at dksJ22_sub_0 9 rfl rfl)
theorem dJ22_sub_10 : decode cJ22_sub 10 = .ok (.iadd, 1) := dk_96 (dk_at dksJ22_sub_0 10 rfl rfl)
theorem dJ22_sub_11 : decode cJ22_sub 11 = .ok (.istore_n 0, 1) := dk_59 (dk_at dksJ22_sub_0 11 rfl rfl)
theorem dJ22_sub_12 : decode cJ22_sub 12 = .ok (.iload_n 0, 1) := dk_26 (dk_at dksJ22_sub_0 12 rfl rfl)
theorem dJ22_sub_13 : decode cJ22_sub 13 = .ok (.ireturn, 1) := dk_172 (dk_at dksJ22_sub_0 13 rfl rfl)
theorem c63012 : jtCode 63012 = cJ22_sub := rfl
theorem E63012_0 (d : Nat) (i0 : Int32) (i1 : Int32) (i2 : Int32) (h : AH) : G d 63012 0 [.int i0, .int i1, .int i2] [] h = if 0 ≤ (i0 - i1) then (some (.inl (some (.int (i0 - i1))), h)) else (some (.inl (some (.int ((i0 - i1) + i2))), h)) := by
  refine (g_iload_n c63012 dJ22_sub_0 rfl).trans ?_
  refine (g_iload_n c63012 dJ22_sub_1 rfl).trans ?_
  refine (g_isub c63012 dJ22_sub_2).trans ?_
  refine (g_dup_i c63012 dJ22_sub_3).trans ?_
  refine (g_istore_n (L' := [.int (i0 - i1), .int i1, .int i2]) c63012 dJ22_sub_4 rfl rfl).trans ?_
  refine (g_if_ge (tgt := 12) c63012 dJ22_sub_5 rfl).trans (if_cg ?_ ?_)
  · skip
    refine (g_iload_n c63012 dJ22_sub_12 rfl).trans ?_
    exact g_ireturn c63012 dJ22_sub_13 rfl
  · skip
    refine (g_iload_n c63012 dJ22_sub_8 rfl).trans ?_
    refine (g_iload_n c63012 dJ22_sub_9 rfl).trans ?_
    refine (g_iadd c63012 dJ22_sub_10).trans ?_
    refine (g_istore_n (L' := [.int ((i0 - i1) + i2), .int i1, .int i2]) c63012 dJ22_sub_11 rfl rfl).trans ?_
    refine (g_iload_n c63012 dJ22_sub_12 rfl).trans ?_
    exact g_ireturn c63012 dJ22_sub_13 rfl
theorem X63012 {d : Nat} {i0 : Int32} {i1 : Int32} {i2 : Int32} (h : AH) : M (d + 1) 63012 [.int i0, .int i1, .int i2] h = G d 63012 0 [.int i0, .int i1, .int i2] [] h := M_eq rfl rfl rfl
/-! java/util/ArrayDeque.<init>()V -/
abbrev cJ22_init : ByteArray := prog_64_method_3_code
def dkwJ22_init_0 : List UInt8 := [42, 183, 0, 42, 42, 16, 17, 189, 0, 47, 181, 0, 3, 177]
abbrev dktJ22_init_0 : List UInt8 := dkwJ22_init_0 ++ []
theorem dksJ22_init_0 : cJ22_init.data.toList.drop 0 = dktJ22_init_0 := by decide +kernel
theorem dJ22_init_0 : decode cJ22_init 0 = .ok (.aload_n 0, 1) := dk_42 (dk_at dksJ22_init_0 0 rfl rfl)
theorem dJ22_init_1 : decode cJ22_init 1 = .ok (.invokespecial 42, 3) := dk_183 0 42 (dk_at dksJ22_init_0 1 rfl rfl)
theorem dJ22_init_4 : decode cJ22_init 4 = .ok (.aload_n 0, 1) := dk_42 (dk_at dksJ22_init_0 4 rfl rfl)
theorem dJ22_init_5 : decode cJ22_init 5 = .ok (.bipush 17, 2) := dk_16 17 (dk_at dksJ22_init_0 5 rfl rfl)
theorem dJ22_init_7 : decode cJ22_init 7 = .ok (.anewarray 47, 3) := dk_189 0 47 (dk_at dksJ22_init_0 7 rfl rfl)
theorem dJ22_init_10 : decode cJ22_init 10 = .ok (.putfield 3, 3) := dk_181 0 3 (dk_at dksJ22_init_0 10 rfl rfl)
theorem dJ22_init_13 : decode cJ22_init 13 = .ok (.return_, 1) := dk_177 (dk_at dksJ22_init_0 13 rfl rfl)
theorem c63900 : jtCode 63900 = cJ22_init := rfl
theorem E63900_0 (d : Nat) (a0 : Nat) (h : AH) : G d 63900 0 [.ref a0] [] h = zcV (M d 41900 [.ref a0] h) (fun h2 => zqN 17 (zqH (jpush h2 (1040, (17 : Int32).toNatClampNeg, fun _ => .null)) (fun h3 => zqF h3 (.ref a0) [63] 0 2 (.ref h2.1) (fun h4 => some (.inl none, h4)) ()) ()) ()) () := by
  refine (g_aload_n c63900 dJ22_init_0 rfl).trans ?_
  refine (g_special (as := [.ref a0]) (rest := []) c63900 dJ22_init_1 rfl rfl rfl rfl rfl).trans ((jback_V (κx := cX) (fun e h => jthrow_out rfl)).trans (cV_cg fun h2 => ?_))
  refine (g_aload_n c63900 dJ22_init_4 rfl).trans ?_
  refine (g_bipush (x := 17) c63900 dJ22_init_5 rfl).trans ?_
  refine (g_newR (t := 1040) c63900 dJ22_init_7 rfl rfl).trans (nA_cg ?_)
  refine nmZ ?_
  generalize jpush h2 (1040, (17 : Int32).toNatClampNeg, fun _ => .null) = h3
  refine (g_put c63900 dJ22_init_10 rfl).trans (pF_cg fun h4 => ?_)
  exact g_return c63900 dJ22_init_13 rfl
theorem X63900 {d : Nat} {a0 : Nat} (h : AH) (hr : jrecv 63900 [.ref a0] h = true) : M (d + 1) 63900 [.ref a0] h = G d 63900 0 [.ref a0] [] h := M_eq rfl hr rfl
/-! java/util/ArrayDeque$DeqIterator.hasNext()Z -/
abbrev cJ23_hasNext : ByteArray := prog_65_method_2_code
def dkwJ23_hasNext_0 : List UInt8 := [42, 180, 0, 19, 158, 0, 7, 4, 167, 0, 4, 3, 172]
abbrev dktJ23_hasNext_0 : List UInt8 := dkwJ23_hasNext_0 ++ []
theorem dksJ23_hasNext_0 : cJ23_hasNext.data.toList.drop 0 = dktJ23_hasNext_0 := by decide +kernel
theorem dJ23_hasNext_0 : decode cJ23_hasNext 0 = .ok (.aload_n 0, 1) := dk_42 (dk_at dksJ23_hasNext_0 0 rfl rfl)
theorem dJ23_hasNext_1 : decode cJ23_hasNext 1 = .ok (.getfield 19, 3) := dk_180 0 19 (dk_at dksJ23_hasNext_0 1 rfl rfl)
theorem dJ23_hasNext_4 : decode cJ23_hasNext 4 = .ok (.ifCond .le 7, 3) := dk_158 0 7 (dk_at dksJ23_hasNext_0 4 rfl rfl)
theorem dJ23_hasNext_7 : decode cJ23_hasNext 7 = .ok (.iconst 1, 1) := dk_4 (dk_at dksJ23_hasNext_0 7 rfl rfl)
theorem dJ23_hasNext_8 : decode cJ23_hasNext 8 = .ok (.goto 4, 3) := dk_167 0 4 (dk_at dksJ23_hasNext_0 8 rfl rfl)
theorem dJ23_hasNext_11 : decode cJ23_hasNext 11 = .ok (.iconst 0, 1) := dk_3 (dk_at dksJ23_hasNext_0 11 rfl rfl)
theorem dJ23_hasNext_12 : decode cJ23_hasNext 12 = .ok (.ireturn, 1) := dk_172 (dk_at dksJ23_hasNext_0 12 rfl rfl)
theorem c64000 : jtCode 64000 = cJ23_hasNext := rfl
theorem E64000_0 (d : Nat) (a0 : Nat) (h : AH) : G d 64000 0 [.ref a0] [] h = zpI (jf (jc h (.ref a0)) [64] 1) (fun x1 => if x1 ≤ 0 then (some (.inl (some (.int 0)), h)) else (some (.inl (some (.int 1)), h))) () := by
  refine (g_aload_n c64000 dJ23_hasNext_0 rfl).trans ?_
  refine (g_getI c64000 dJ23_hasNext_1 rfl rfl).trans (rI_cg fun x1 => ?_)
  refine (g_if_le (tgt := 11) c64000 dJ23_hasNext_4 rfl).trans (if_cg ?_ ?_)
  · skip
    refine (g_iconst (x := 0) c64000 dJ23_hasNext_11 rfl).trans ?_
    exact g_zreturn0 c64000 dJ23_hasNext_12 rfl
  · skip
    refine (g_iconst (x := 1) c64000 dJ23_hasNext_7 rfl).trans ?_
    refine (g_goto (tgt := 12) c64000 dJ23_hasNext_8 rfl).trans ?_
    exact g_zreturn1 c64000 dJ23_hasNext_12 rfl
theorem X64000 {d : Nat} {a0 : Nat} (h : AH) (hr : jrecv 64000 [.ref a0] h = true) : M (d + 1) 64000 [.ref a0] h = G d 64000 0 [.ref a0] [] h := M_eq rfl hr rfl
/-! java/util/ArrayDeque$DeqIterator.next()Ljava/lang/Object; -/
abbrev cJ23_next : ByteArray := prog_65_method_3_code
def dkwJ23_next_2 : List UInt8 := [181, 0, 29, 42, 89, 180, 0, 19, 4, 100, 181, 0, 19, 44, 176]
abbrev dktJ23_next_2 : List UInt8 := dkwJ23_next_2 ++ []
def dkwJ23_next_1 : List UInt8 := [42, 180, 0, 29, 184, 0, 39, 77, 42, 42, 42, 180, 0, 29, 90, 181, 0, 23, 43, 190, 184, 0, 43]
abbrev dktJ23_next_1 : List UInt8 := dkwJ23_next_1 ++ dktJ23_next_2
def dkwJ23_next_0 : List UInt8 := [42, 180, 0, 19, 157, 0, 11, 187, 0, 32, 89, 183, 0, 34, 191, 42, 180, 0, 1, 180, 0, 35, 76, 43]
abbrev dktJ23_next_0 : List UInt8 := dkwJ23_next_0 ++ dktJ23_next_1
theorem dksJ23_next_0 : cJ23_next.data.toList.drop 0 = dktJ23_next_0 := by decide +kernel
theorem dksJ23_next_1 : cJ23_next.data.toList.drop 24 = dktJ23_next_1 := dk_seg dksJ23_next_0 24 rfl rfl
theorem dksJ23_next_2 : cJ23_next.data.toList.drop 47 = dktJ23_next_2 := dk_seg dksJ23_next_1 23 rfl rfl
theorem dJ23_next_0 : decode cJ23_next 0 = .ok (.aload_n 0, 1) := dk_42 (dk_at dksJ23_next_0 0 rfl rfl)
theorem dJ23_next_1 : decode cJ23_next 1 = .ok (.getfield 19, 3) := dk_180 0 19 (dk_at dksJ23_next_0 1 rfl rfl)
theorem dJ23_next_4 : decode cJ23_next 4 = .ok (.ifCond .gt 11, 3) := dk_157 0 11 (dk_at dksJ23_next_0 4 rfl rfl)
theorem dJ23_next_7 : decode cJ23_next 7 = .ok (.new 32, 3) := dk_187 0 32 (dk_at dksJ23_next_0 7 rfl rfl)
theorem dJ23_next_10 : decode cJ23_next 10 = .ok (.dup, 1) := dk_89 (dk_at dksJ23_next_0 10 rfl rfl)
theorem dJ23_next_11 : decode cJ23_next 11 = .ok (.invokespecial 34, 3) := dk_183 0 34 (dk_at dksJ23_next_0 11 rfl rfl)
theorem dJ23_next_14 : decode cJ23_next 14 = .ok (.athrow, 1) := dk_191 (dk_at dksJ23_next_0 14 rfl rfl)
theorem dJ23_next_15 : decode cJ23_next 15 = .ok (.aload_n 0, 1) := dk_42 (dk_at dksJ23_next_0 15 rfl rfl)
theorem dJ23_next_16 : decode cJ23_next 16 = .ok (.getfield 1, 3) := dk_180 0 1 (dk_at dksJ23_next_0 16 rfl rfl)
theorem dJ23_next_19 : decode cJ23_next 19 = .ok (.getfield 35, 3) := dk_180 0 35 (dk_at dksJ23_next_0 19 rfl rfl)
theorem dJ23_next_22 : decode cJ23_next 22 = .ok (.astore_n 1, 1) := dk_76 (dk_at dksJ23_next_0 22 rfl rfl)
theorem dJ23_next_23 : decode cJ23_next 23 = .ok (.aload_n 1, 1) := dk_43 (dk_at dksJ23_next_0 23 rfl rfl)
theorem dJ23_next_24 : decode cJ23_next 24 = .ok (.aload_n 0, 1) := dk_42 (dk_at dksJ23_next_1 0 rfl rfl)
theorem dJ23_next_25 : decode cJ23_next 25 = .ok (.getfield 29, 3) := dk_180 0 29 (dk_at dksJ23_next_1 1 rfl rfl)
theorem dJ23_next_28 : decode cJ23_next 28 = .ok (.invokestatic 39, 3) := dk_184 0 39 (dk_at dksJ23_next_1 4 rfl rfl)
theorem dJ23_next_31 : decode cJ23_next 31 = .ok (.astore_n 2, 1) := dk_77 (dk_at dksJ23_next_1 7 rfl rfl)
theorem dJ23_next_32 : decode cJ23_next 32 = .ok (.aload_n 0, 1) := dk_42 (dk_at dksJ23_next_1 8 rfl rfl)
theorem dJ23_next_33 : decode cJ23_next 33 = .ok (.aload_n 0, 1) := dk_42 (dk_at dksJ23_next_1 9 rfl rfl)
theorem dJ23_next_34 : decode cJ23_next 34 = .ok (.aload_n 0, 1) := dk_42 (dk_at dksJ23_next_1 10 rfl rfl)
theorem dJ23_next_35 : decode cJ23_next 35 = .ok (.getfield 29, 3) := dk_180 0 29 (dk_at dksJ23_next_1 11 rfl rfl)
theorem dJ23_next_38 : decode cJ23_next 38 = .ok (.dup_x1, 1) := dk_90 (dk_at dksJ23_next_1 14 rfl rfl)
theorem dJ23_next_39 : decode cJ23_next 39 = .ok (.putfield 23, 3) := dk_181 0 23 (dk_at dksJ23_next_1 15 rfl rfl)
theorem dJ23_next_42 : decode cJ23_next 42 = .ok (.aload_n 1, 1) := dk_43 (dk_at dksJ23_next_1 18 rfl rfl)
theorem dJ23_next_43 : decode cJ23_next 43 = .ok (.arraylength, 1) := dk_190 (dk_at dksJ23_next_1 19 rfl rfl)
theorem dJ23_next_44 : decode cJ23_next 44 = .ok (.invokestatic 43, 3) := dk_184 0 43 (dk_at dksJ23_next_1 20 rfl rfl)
theorem dJ23_next_47 : decode cJ23_next 47 = .ok (.putfield 29, 3) := dk_181 0 29 (dk_at dksJ23_next_2 0 rfl rfl)
theorem dJ23_next_50 : decode cJ23_next 50 = .ok (.aload_n 0, 1) := dk_42 (dk_at dksJ23_next_2 3 rfl rfl)
theorem dJ23_next_51 : decode cJ23_next 51 = .ok (.dup, 1) := dk_89 (dk_at dksJ23_next_2 4 rfl rfl)
theorem dJ23_next_52 : decode cJ23_next 52 = .ok (.getfield 19, 3) := dk_180 0 19 (dk_at dksJ23_next_2 5 rfl rfl)
theorem dJ23_next_55 : decode cJ23_next 55 = .ok (.iconst 1, 1) := dk_4 (dk_at dksJ23_next_2 8 rfl rfl)
theorem dJ23_next_56 : decode cJ23_next 56 = .ok (.isub, 1) := dk_100 (dk_at dksJ23_next_2 9 rfl rfl)
theorem dJ23_next_57 : decode cJ23_next 57 = .ok (.putfield 19, 3) := dk_181 0 19 (dk_at dksJ23_next_2 10 rfl rfl)
theorem dJ23_next_60 : decode cJ23_next 60 = .ok (.aload_n 2, 1) := dk_44 (dk_at dksJ23_next_2 13 rfl rfl)
theorem dJ23_next_61 : decode cJ23_next 61 = .ok (.areturn, 1) := dk_176 (dk_at dksJ23_next_2 14 rfl rfl)
theorem c64001 : jtCode 64001 = cJ23_next := rfl
theorem E64001_0 (d : Nat) (a0 : Nat) (h : AH) : G d 64001 0 [.ref a0, jno, jno] [] h = zpI (jf (jc h (.ref a0)) [64] 1) (fun x1 => if 0 < x1 then (zpR (jf (jc h (.ref a0)) [64] 3) (fun r2 => zpR (jf (jc h r2) [63] 0) (fun r3 => zkR r3 (zkR r3 (zpI (jf (jc h (.ref a0)) [64] 0) (fun x4 => zcR (M d 63009 [r3, .int x4] h) (fun r5 h6 => zkR r5 (zpI (jf (jc h6 (.ref a0)) [64] 0) (fun x7 => zqF h6 (.ref a0) [64] 2 0 (.int x7) (fun h8 => zkR r3 (zqL h8 r3 (fun x9 => zcI (M d 63005 [.int x7, .int x9] h8) (fun x10 h11 => zqF h11 (.ref a0) [64] 0 0 (.int x10) (fun h12 => zpI (jf (jc h12 (.ref a0)) [64] 1) (fun x13 => zqF h12 (.ref a0) [64] 1 0 (.int (x13 - 1)) (fun h14 => zkR r5 (ckR r5 (some (.inl (some r5), h14))) ()) ()) ()) ()) ()) ()) ()) ()) ()) ()) ()) ()) ()) ()) ()) ()) else (cX h.1 (jpush h (66, 6, jL [])))) () := by
  refine (g_aload_n c64001 dJ23_next_0 rfl).trans ?_
  refine (g_getI c64001 dJ23_next_1 rfl rfl).trans (rI_cg fun x1 => ?_)
  refine (g_if_gt (tgt := 15) c64001 dJ23_next_4 rfl).trans (if_cg ?_ ?_)
  · skip
    refine (g_aload_n c64001 dJ23_next_15 rfl).trans ?_
    refine (g_getR c64001 dJ23_next_16 rfl).trans (rR_cg fun r2 => ?_)
    refine (g_getR c64001 dJ23_next_19 rfl).trans (rR_cg fun r3 => ?_)
    refine (g_astore_nV (L' := [.ref a0, r3, jno]) c64001 dJ23_next_22 rfl rfl).trans (ckR_cg ?_)
    refine (g_aload_nV c64001 dJ23_next_23 rfl).trans (ckR_cg ?_)
    refine (g_aload_n c64001 dJ23_next_24 rfl).trans ?_
    refine (g_getI c64001 dJ23_next_25 rfl rfl).trans (rI_cg fun x4 => ?_)
    refine (g_static (as := [r3, .int x4]) (rest := []) c64001 dJ23_next_28 rfl rfl rfl rfl rfl).trans ((jback_R (κx := cX) (fun e h => jthrow_out rfl)).trans (cR_cg fun r5 h6 => ?_))
    refine (g_astore_nV (L' := [.ref a0, r3, r5]) c64001 dJ23_next_31 rfl rfl).trans (ckR_cg ?_)
    refine (g_aload_n c64001 dJ23_next_32 rfl).trans ?_
    refine (g_aload_n c64001 dJ23_next_33 rfl).trans ?_
    refine (g_aload_n c64001 dJ23_next_34 rfl).trans ?_
    refine (g_getI c64001 dJ23_next_35 rfl rfl).trans (rI_cg fun x7 => ?_)
    refine (g_dup_x1_ir c64001 dJ23_next_38).trans ?_
    refine (g_put c64001 dJ23_next_39 rfl).trans (pF_cg fun h8 => ?_)
    refine (g_aload_nV c64001 dJ23_next_42 rfl).trans (ckR_cg ?_)
    refine (g_alen c64001 dJ23_next_43).trans (aL_cg fun x9 => ?_)
    refine (g_static (as := [.int x7, .int x9]) (rest := [.ref a0]) c64001 dJ23_next_44 rfl rfl rfl rfl rfl).trans ((jback_I (κx := cX) (fun e h => jthrow_out rfl)).trans (cI_cg fun x10 h11 => ?_))
    refine (g_put c64001 dJ23_next_47 rfl).trans (pF_cg fun h12 => ?_)
    refine (g_aload_n c64001 dJ23_next_50 rfl).trans ?_
    refine (g_dup_r c64001 dJ23_next_51).trans ?_
    refine (g_getI c64001 dJ23_next_52 rfl rfl).trans (rI_cg fun x13 => ?_)
    refine (g_iconst (x := 1) c64001 dJ23_next_55 rfl).trans ?_
    refine (g_isub c64001 dJ23_next_56).trans ?_
    refine (g_put c64001 dJ23_next_57 rfl).trans (pF_cg fun h14 => ?_)
    refine (g_aload_nV c64001 dJ23_next_60 rfl).trans (ckR_cg ?_)
    exact g_areturn c64001 dJ23_next_61 rfl
  · skip
    exact g_throwNew (l := []) c64001 dJ23_next_7 rfl rfl (by decide +kernel)
theorem X64001 {d : Nat} {a0 : Nat} (h : AH) (hr : jrecv 64001 [.ref a0] h = true) : M (d + 1) 64001 [.ref a0] h = G d 64001 0 [.ref a0, jno, jno] [] h := M_eq rfl hr rfl
/-! java/util/ArrayDeque$DeqIterator.<init>(Ljava/util/ArrayDeque;)V -/
abbrev cJ23_init : ByteArray := prog_65_method_1_code
def dkwJ23_init_1 : List UInt8 := [181, 0, 23, 42, 43, 180, 0, 26, 181, 0, 29, 177]
abbrev dktJ23_init_1 : List UInt8 := dkwJ23_init_1 ++ []
def dkwJ23_init_0 : List UInt8 := [42, 43, 181, 0, 1, 42, 183, 0, 7, 42, 42, 180, 0, 1, 182, 0, 13, 181, 0, 19, 42, 2]
abbrev dktJ23_init_0 : List UInt8 := dkwJ23_init_0 ++ dktJ23_init_1
theorem dksJ23_init_0 : cJ23_init.data.toList.drop 0 = dktJ23_init_0 := by decide +kernel
theorem dksJ23_init_1 : cJ23_init.data.toList.drop 22 = dktJ23_init_1 := dk_seg dksJ23_init_0 22 rfl rfl
theorem dJ23_init_0 : decode cJ23_init 0 = .ok (.aload_n 0, 1) := dk_42 (dk_at dksJ23_init_0 0 rfl rfl)
theorem dJ23_init_1 : decode cJ23_init 1 = .ok (.aload_n 1, 1) := dk_43 (dk_at dksJ23_init_0 1 rfl rfl)
theorem dJ23_init_2 : decode cJ23_init 2 = .ok (.putfield 1, 3) := dk_181 0 1 (dk_at dksJ23_init_0 2 rfl rfl)
theorem dJ23_init_5 : decode cJ23_init 5 = .ok (.aload_n 0, 1) := dk_42 (dk_at dksJ23_init_0 5 rfl rfl)
theorem dJ23_init_6 : decode cJ23_init 6 = .ok (.invokespecial 7, 3) := dk_183 0 7 (dk_at dksJ23_init_0 6 rfl rfl)
theorem dJ23_init_9 : decode cJ23_init 9 = .ok (.aload_n 0, 1) := dk_42 (dk_at dksJ23_init_0 9 rfl rfl)
theorem dJ23_init_10 : decode cJ23_init 10 = .ok (.aload_n 0, 1) := dk_42 (dk_at dksJ23_init_0 10 rfl rfl)
theorem dJ23_init_11 : decode cJ23_init 11 = .ok (.getfield 1, 3) := dk_180 0 1 (dk_at dksJ23_init_0 11 rfl rfl)
theorem dJ23_init_14 : decode cJ23_init 14 = .ok (.invokevirtual 13, 3) := dk_182 0 13 (dk_at dksJ23_init_0 14 rfl rfl)
theorem dJ23_init_17 : decode cJ23_init 17 = .ok (.putfield 19, 3) := dk_181 0 19 (dk_at dksJ23_init_0 17 rfl rfl)
theorem dJ23_init_20 : decode cJ23_init 20 = .ok (.aload_n 0, 1) := dk_42 (dk_at dksJ23_init_0 20 rfl rfl)
theorem dJ23_init_21 : decode cJ23_init 21 = .ok (.iconst (-1), 1) := dk_2 (dk_at dksJ23_init_0 21 rfl rfl)
theorem dJ23_init_22 : decode cJ23_init 22 = .ok (.putfield 23, 3) := dk_181 0 23 (dk_at dksJ23_init_1 0 rfl rfl)
theorem dJ23_init_25 : decode cJ23_init 25 = .ok (.aload_n 0, 1) := dk_42 (dk_at dksJ23_init_1 3 rfl rfl)
theorem dJ23_init_26 : decode cJ23_init 26 = .ok (.aload_n 1, 1) := dk_43 (dk_at dksJ23_init_1 4 rfl rfl)
theorem dJ23_init_27 : decode cJ23_init 27 = .ok (.getfield 26, 3) := dk_180 0 26 (dk_at dksJ23_init_1 5 rfl rfl)
theorem dJ23_init_30 : decode cJ23_init 30 = .ok (.putfield 29, 3) := dk_181 0 29 (dk_at dksJ23_init_1 8 rfl rfl)
theorem dJ23_init_33 : decode cJ23_init 33 = .ok (.return_, 1) := dk_177 (dk_at dksJ23_init_1 11 rfl rfl)
theorem c64900 : jtCode 64900 = cJ23_init := rfl
theorem E64900_0 (d : Nat) (a0 : Nat) (v1 : Value) (h : AH) : G d 64900 0 [.ref a0, v1] [] h = zkR v1 (zqF h (.ref a0) [64] 3 2 v1 (fun h1 => zcV (M d 90000 [.ref a0] h1) (fun h3 => zpR (jf (jc h3 (.ref a0)) [64] 3) (fun r4 => zcI (M d 63011 [r4] h3) (fun x5 h6 => zqF h6 (.ref a0) [64] 1 0 (.int x5) (fun h7 => zqF h7 (.ref a0) [64] 2 0 (.int (-1)) (fun h8 => zkR v1 (zpI (jf (jc h8 v1) [63] 1) (fun x9 => zqF h8 (.ref a0) [64] 0 0 (.int x9) (fun h10 => some (.inl none, h10)) ()) ()) ()) ()) ()) ()) ()) ()) ()) () := by
  refine (g_aload_n c64900 dJ23_init_0 rfl).trans ?_
  refine (g_aload_nV c64900 dJ23_init_1 rfl).trans (ckR_cg ?_)
  refine (g_putF c64900 dJ23_init_2 rfl rfl).trans (pF_cg fun h1 => ?_)
  refine (g_aload_n c64900 dJ23_init_5 rfl).trans ?_
  refine (g_special (as := [.ref a0]) (rest := []) c64900 dJ23_init_6 rfl rfl rfl rfl rfl).trans ((jback_V (κx := cX) (fun e h => jthrow_out rfl)).trans (cV_cg fun h3 => ?_))
  refine (g_aload_n c64900 dJ23_init_9 rfl).trans ?_
  refine (g_aload_n c64900 dJ23_init_10 rfl).trans ?_
  refine (g_getR c64900 dJ23_init_11 rfl).trans (rR_cg fun r4 => ?_)
  refine (g_virtual (as := [r4]) (rest := [.ref a0]) c64900 dJ23_init_14 rfl rfl rfl rfl rfl).trans ((jback_I (κx := cX) (fun e h => jthrow_out rfl)).trans (cI_cg fun x5 h6 => ?_))
  refine (g_put c64900 dJ23_init_17 rfl).trans (pF_cg fun h7 => ?_)
  refine (g_aload_n c64900 dJ23_init_20 rfl).trans ?_
  refine (g_iconst (x := (-1)) c64900 dJ23_init_21 rfl).trans ?_
  refine (g_put c64900 dJ23_init_22 rfl).trans (pF_cg fun h8 => ?_)
  refine (g_aload_n c64900 dJ23_init_25 rfl).trans ?_
  refine (g_aload_nV c64900 dJ23_init_26 rfl).trans (ckR_cg ?_)
  refine (g_getI c64900 dJ23_init_27 rfl rfl).trans (rI_cg fun x9 => ?_)
  refine (g_put c64900 dJ23_init_30 rfl).trans (pF_cg fun h10 => ?_)
  exact g_return c64900 dJ23_init_33 rfl
theorem X64900 {d : Nat} {a0 : Nat} {v1 : Value} (h : AH) (hv1 : isR v1 = true) (hr : jrecv 64900 [.ref a0, v1] h = true) : M (d + 1) 64900 [.ref a0, v1] h = G d 64900 0 [.ref a0, v1] [] h := M_eq rfl hr (by simp only [jent, jargL_R hv1, jargL]; rfl)
/-! java/util/ArrayList$Itr.checkForComodification()V -/
abbrev cJ26_checkForComodification : ByteArray := prog_67_method_6_code
def dkwJ26_checkForComodification_0 : List UInt8 := [42, 180, 0, 1, 180, 0, 17, 42, 180, 0, 22, 159, 0, 11, 187, 0, 41, 89, 183, 0, 43, 191, 177]
abbrev dktJ26_checkForComodification_0 : List UInt8 := dkwJ26_checkForComodification_0 ++ []
theorem dksJ26_checkForComodification_0 : cJ26_checkForComodification.data.toList.drop 0 = dktJ26_checkForComodification_0 := by decide +kernel
theorem dJ26_checkForComodification_0 : decode cJ26_checkForComodification 0 = .ok (.aload_n 0, 1) := dk_42 (dk_at dksJ26_checkForComodification_0 0 rfl rfl)
theorem dJ26_checkForComodification_1 : decode cJ26_checkForComodification 1 = .ok (.getfield 1, 3) := dk_180 0 1 (dk_at dksJ26_checkForComodification_0 1 rfl rfl)
theorem dJ26_checkForComodification_4 : decode cJ26_checkForComodification 4 = .ok (.getfield 17, 3) := dk_180 0 17 (dk_at dksJ26_checkForComodification_0 4 rfl rfl)
theorem dJ26_checkForComodification_7 : decode cJ26_checkForComodification 7 = .ok (.aload_n 0, 1) := dk_42 (dk_at dksJ26_checkForComodification_0 7 rfl rfl)
theorem dJ26_checkForComodification_8 : decode cJ26_checkForComodification 8 = .ok (.getfield 22, 3) := dk_180 0 22 (dk_at dksJ26_checkForComodification_0 8 rfl rfl)
theorem dJ26_checkForComodification_11 : decode cJ26_checkForComodification 11 = .ok (.if_icmp .eq 11, 3) := dk_159 0 11 (dk_at dksJ26_checkForComodification_0 11 rfl rfl)
theorem dJ26_checkForComodification_14 : decode cJ26_checkForComodification 14 = .ok (.new 41, 3) := dk_187 0 41 (dk_at dksJ26_checkForComodification_0 14 rfl rfl)
theorem dJ26_checkForComodification_17 : decode cJ26_checkForComodification 17 = .ok (.dup, 1) := dk_89 (dk_at dksJ26_checkForComodification_0 17 rfl rfl)
theorem dJ26_checkForComodification_18 : decode cJ26_checkForComodification 18 = .ok (.invokespecial 43, 3) := dk_183 0 43 (dk_at dksJ26_checkForComodification_0 18 rfl rfl)
theorem dJ26_checkForComodification_21 : decode cJ26_checkForComodification 21 = .ok (.athrow, 1) := dk_191 (dk_at dksJ26_checkForComodification_0 21 rfl rfl)
theorem dJ26_checkForComodification_22 : decode cJ26_checkForComodification 22 = .ok (.return_, 1) := dk_177 (dk_at dksJ26_checkForComodification_0 22 rfl rfl)
theorem c67000 : jtCode 67000 = cJ26_checkForComodification := rfl
theorem E67000_0 (d : Nat) (a0 : Nat) (h : AH) : G d 67000 0 [.ref a0] [] h = zpR (jf (jc h (.ref a0)) [67, 74] 3) (fun r1 => zpI (jf (jc h r1) [43, 47] 0) (fun x2 => zpI (jf (jc h (.ref a0)) [67, 74] 2) (fun x3 => if x2 = x3 then (some (.inl none, h)) else (zqH (jpush h (69, 6, jL [.null, .null, .null, .null, .null, .int 0])) (fun h4 => zcV (M d 69900 [.ref h.1] h4) (fun h6 => aT h6 h.1 (cX h.1 h6)) ()) ())) ()) ()) () := by
  refine (g_aload_n c67000 dJ26_checkForComodification_0 rfl).trans ?_
  refine (g_getR c67000 dJ26_checkForComodification_1 rfl).trans (rR_cg fun r1 => ?_)
  refine (g_getI c67000 dJ26_checkForComodification_4 rfl rfl).trans (rI_cg fun x2 => ?_)
  refine (g_aload_n c67000 dJ26_checkForComodification_7 rfl).trans ?_
  refine (g_getI c67000 dJ26_checkForComodification_8 rfl rfl).trans (rI_cg fun x3 => ?_)
  refine (g_icmp_eq (tgt := 22) c67000 dJ26_checkForComodification_11 rfl).trans (if_cg ?_ ?_)
  · skip
    exact g_return c67000 dJ26_checkForComodification_22 rfl
  · skip
    refine (g_new (l := [.null, .null, .null, .null, .null, .int 0]) c67000 dJ26_checkForComodification_14 rfl rfl).trans ?_
    refine nmZ ?_
    generalize jpush h (69, 6, jL [.null, .null, .null, .null, .null, .int 0]) = h4
    refine (g_dup_r c67000 dJ26_checkForComodification_17).trans ?_
    refine (g_special (as := [.ref h.1]) (rest := [.ref h.1]) c67000 dJ26_checkForComodification_18 rfl rfl rfl rfl rfl).trans ((jback_V (κx := cX) (fun e h => jthrow_out rfl)).trans (cV_cg fun h6 => ?_))
    exact g_athrow c67000 dJ26_checkForComodification_21 rfl
theorem X67000 {d : Nat} {a0 : Nat} (h : AH) (hr : jrecv 67000 [.ref a0] h = true) : M (d + 1) 67000 [.ref a0] h = G d 67000 0 [.ref a0] [] h := M_eq rfl hr rfl
/-! java/util/ArrayList$Itr.hasNext()Z -/
abbrev cJ26_hasNext : ByteArray := prog_67_method_2_code
def dkwJ26_hasNext_0 : List UInt8 := [42, 180, 0, 25, 42, 180, 0, 1, 180, 0, 28, 159, 0, 7, 4, 167, 0, 4, 3, 172]
abbrev dktJ26_hasNext_0 : List UInt8 := dkwJ26_hasNext_0 ++ []
theorem dksJ26_hasNext_0 : cJ26_hasNext.data.toList.drop 0 = dktJ26_hasNext_0 := by decide +kernel
theorem dJ26_hasNext_0 : decode cJ26_hasNext 0 = .ok (.aload_n 0, 1) := dk_42 (dk_at dksJ26_hasNext_0 0 rfl rfl)
theorem dJ26_hasNext_1 : decode cJ26_hasNext 1 = .ok (.getfield 25, 3) := dk_180 0 25 (dk_at dksJ26_hasNext_0 1 rfl rfl)
theorem dJ26_hasNext_4 : decode cJ26_hasNext 4 = .ok (.aload_n 0, 1) := dk_42 (dk_at dksJ26_hasNext_0 4 rfl rfl)
theorem dJ26_hasNext_5 : decode cJ26_hasNext 5 = .ok (.getfield 1, 3) := dk_180 0 1 (dk_at dksJ26_hasNext_0 5 rfl rfl)
theorem dJ26_hasNext_8 : decode cJ26_hasNext 8 = .ok (.getfield 28, 3) := dk_180 0 28 (dk_at dksJ26_hasNext_0 8 rfl rfl)
theorem dJ26_hasNext_11 : decode cJ26_hasNext 11 = .ok (.if_icmp .eq 7, 3) := dk_159 0 7 (dk_at dksJ26_hasNext_0 11 rfl rfl)
theorem dJ26_hasNext_14 : decode cJ26_hasNext 14 = .ok (.iconst 1, 1) := dk_4 (dk_at dksJ26_hasNext_0 14 rfl rfl)
theorem dJ26_hasNext_15 : decode cJ26_hasNext 15 = .ok (.goto 4, 3) := dk_167 0 4 (dk_at dksJ26_hasNext_0 15 rfl rfl)
theorem dJ26_hasNext_18 : decode cJ26_hasNext 18 = .ok (.iconst 0, 1) := dk_3 (dk_at dksJ26_hasNext_0 18 rfl rfl)
theorem dJ26_hasNext_19 : decode cJ26_hasNext 19 = .ok (.ireturn, 1) := dk_172 (dk_at dksJ26_hasNext_0 19 rfl rfl)
theorem c67001 : jtCode 67001 = cJ26_hasNext := rfl
theorem E67001_0 (d : Nat) (a0 : Nat) (h : AH) : G d 67001 0 [.ref a0] [] h = zpI (jf (jc h (.ref a0)) [67, 74] 0) (fun x1 => zpR (jf (jc h (.ref a0)) [67, 74] 3) (fun r2 => zpI (jf (jc h r2) [43] 2) (fun x3 => if x1 = x3 then (some (.inl (some (.int 0)), h)) else (some (.inl (some (.int 1)), h))) ()) ()) () := by
  refine (g_aload_n c67001 dJ26_hasNext_0 rfl).trans ?_
  refine (g_getI c67001 dJ26_hasNext_1 rfl rfl).trans (rI_cg fun x1 => ?_)
  refine (g_aload_n c67001 dJ26_hasNext_4 rfl).trans ?_
  refine (g_getR c67001 dJ26_hasNext_5 rfl).trans (rR_cg fun r2 => ?_)
  refine (g_getI c67001 dJ26_hasNext_8 rfl rfl).trans (rI_cg fun x3 => ?_)
  refine (g_icmp_eq (tgt := 18) c67001 dJ26_hasNext_11 rfl).trans (if_cg ?_ ?_)
  · skip
    refine (g_iconst (x := 0) c67001 dJ26_hasNext_18 rfl).trans ?_
    exact g_zreturn0 c67001 dJ26_hasNext_19 rfl
  · skip
    refine (g_iconst (x := 1) c67001 dJ26_hasNext_14 rfl).trans ?_
    refine (g_goto (tgt := 19) c67001 dJ26_hasNext_15 rfl).trans ?_
    exact g_zreturn1 c67001 dJ26_hasNext_19 rfl
theorem X67001 {d : Nat} {a0 : Nat} (h : AH) (hr : jrecv 67001 [.ref a0] h = true) : M (d + 1) 67001 [.ref a0] h = G d 67001 0 [.ref a0] [] h := M_eq rfl hr rfl
/-! java/util/ArrayList$Itr.next()Ljava/lang/Object; -/
abbrev cJ26_next : ByteArray := prog_67_method_3_code
def dkwJ26_next_2 : List UInt8 := [183, 0, 43, 191, 42, 27, 4, 96, 181, 0, 25, 44, 42, 27, 90, 181, 0, 13, 50, 176]
abbrev dktJ26_next_2 : List UInt8 := dkwJ26_next_2 ++ []
def dkwJ26_next_1 : List UInt8 := [183, 0, 36, 191, 42, 180, 0, 1, 180, 0, 37, 77, 27, 44, 190, 161, 0, 11, 187, 0, 41, 89]
abbrev dktJ26_next_1 : List UInt8 := dkwJ26_next_1 ++ dktJ26_next_2
def dkwJ26_next_0 : List UInt8 := [42, 182, 0, 31, 42, 180, 0, 25, 60, 27, 42, 180, 0, 1, 180, 0, 28, 161, 0, 11, 187, 0, 34, 89]
abbrev dktJ26_next_0 : List UInt8 := dkwJ26_next_0 ++ dktJ26_next_1
theorem dksJ26_next_0 : cJ26_next.data.toList.drop 0 = dktJ26_next_0 := by decide +kernel
theorem dksJ26_next_1 : cJ26_next.data.toList.drop 24 = dktJ26_next_1 := dk_seg dksJ26_next_0 24 rfl rfl
theorem dksJ26_next_2 : cJ26_next.data.toList.drop 46 = dktJ26_next_2 := dk_seg dksJ26_next_1 22 rfl rfl
theorem dJ26_next_0 : decode cJ26_next 0 = .ok (.aload_n 0, 1) := dk_42 (dk_at dksJ26_next_0 0 rfl rfl)
theorem dJ26_next_1 : decode cJ26_next 1 = .ok (.invokevirtual 31, 3) := dk_182 0 31 (dk_at dksJ26_next_0 1 rfl rfl)
theorem dJ26_next_4 : decode cJ26_next 4 = .ok (.aload_n 0, 1) := dk_42 (dk_at dksJ26_next_0 4 rfl rfl)
theorem dJ26_next_5 : decode cJ26_next 5 = .ok (.getfield 25, 3) := dk_180 0 25 (dk_at dksJ26_next_0 5 rfl rfl)
theorem dJ26_next_8 : decode cJ26_next 8 = .ok (.istore_n 1, 1) := dk_60 (dk_at dksJ26_next_0 8 rfl rfl)
theorem dJ26_next_9 : decode cJ26_next 9 = .ok (.iload_n 1, 1) := dk_27 (dk_at dksJ26_next_0 9 rfl rfl)
theorem dJ26_next_10 : decode cJ26_next 10 = .ok (.aload_n 0, 1) := dk_42 (dk_at dksJ26_next_0 10 rfl rfl)
theorem dJ26_next_11 : decode cJ26_next 11 = .ok (.getfield 1, 3) := dk_180 0 1 (dk_at dksJ26_next_0 11 rfl rfl)
theorem dJ26_next_14 : decode cJ26_next 14 = .ok (.getfield 28, 3) := dk_180 0 28 (dk_at dksJ26_next_0 14 rfl rfl)
theorem dJ26_next_17 : decode cJ26_next 17 = .ok (.if_icmp .lt 11, 3) := dk_161 0 11 (dk_at dksJ26_next_0 17 rfl rfl)
theorem dJ26_next_20 : decode cJ26_next 20 = .ok (.new 34, 3) := dk_187 0 34 (dk_at dksJ26_next_0 20 rfl rfl)
theorem dJ26_next_23 : decode cJ26_next 23 = .ok (.dup, 1) := dk_89 (dk_at dksJ26_next_0 23 rfl rfl)
theorem dJ26_next_24 : decode cJ26_next 24 = .ok (.invokespecial 36, 3) := dk_183 0 36 (dk_at dksJ26_next_1 0 rfl rfl)
theorem dJ26_next_27 : decode cJ26_next 27 = .ok (.athrow, 1) := dk_191 (dk_at dksJ26_next_1 3 rfl rfl)
theorem dJ26_next_28 : decode cJ26_next 28 = .ok (.aload_n 0, 1) := dk_42 (dk_at dksJ26_next_1 4 rfl rfl)
theorem dJ26_next_29 : decode cJ26_next 29 = .ok (.getfield 1, 3) := dk_180 0 1 (dk_at dksJ26_next_1 5 rfl rfl)
theorem dJ26_next_32 : decode cJ26_next 32 = .ok (.getfield 37, 3) := dk_180 0 37 (dk_at dksJ26_next_1 8 rfl rfl)
theorem dJ26_next_35 : decode cJ26_next 35 = .ok (.astore_n 2, 1) := dk_77 (dk_at dksJ26_next_1 11 rfl rfl)
theorem dJ26_next_36 : decode cJ26_next 36 = .ok (.iload_n 1, 1) := dk_27 (dk_at dksJ26_next_1 12 rfl rfl)
theorem dJ26_next_37 : decode cJ26_next 37 = .ok (.aload_n 2, 1) := dk_44 (dk_at dksJ26_next_1 13 rfl rfl)
theorem dJ26_next_38 : decode cJ26_next 38 = .ok (.arraylength, 1) := dk_190 (dk_at dksJ26_next_1 14 rfl rfl)
theorem dJ26_next_39 : decode cJ26_next 39 = .ok (.if_icmp .lt 11, 3) := dk_161 0 11 (dk_at dksJ26_next_1 15 rfl rfl)
theorem dJ26_next_42 : decode cJ26_next 42 = .ok (.new 41, 3) := dk_187 0 41 (dk_at dksJ26_next_1 18 rfl rfl)
theorem dJ26_next_45 : decode cJ26_next 45 = .ok (.dup, 1) := dk_89 (dk_at dksJ26_next_1 21 rfl rfl)
theorem dJ26_next_46 : decode cJ26_next 46 = .ok (.invokespecial 43, 3) := dk_183 0 43 (dk_at dksJ26_next_2 0 rfl rfl)
theorem dJ26_next_49 : decode cJ26_next 49 = .ok (.athrow, 1) := dk_191 (dk_at dksJ26_next_2 3 rfl rfl)
theorem dJ26_next_50 : decode cJ26_next 50 = .ok (.aload_n 0, 1) := dk_42 (dk_at dksJ26_next_2 4 rfl rfl)
theorem dJ26_next_51 : decode cJ26_next 51 = .ok (.iload_n 1, 1) := dk_27 (dk_at dksJ26_next_2 5 rfl rfl)
theorem dJ26_next_52 : decode cJ26_next 52 = .ok (.iconst 1, 1) := dk_4 (dk_at dksJ26_next_2 6 rfl rfl)
theorem dJ26_next_53 : decode cJ26_next 53 = .ok (.iadd, 1) := dk_96 (dk_at dksJ26_next_2 7 rfl rfl)
theorem dJ26_next_54 : decode cJ26_next 54 = .ok (.putfield 25, 3) := dk_181 0 25 (dk_at dksJ26_next_2 8 rfl rfl)
theorem dJ26_next_57 : decode cJ26_next 57 = .ok (.aload_n 2, 1) := dk_44 (dk_at dksJ26_next_2 11 rfl rfl)
theorem dJ26_next_58 : decode cJ26_next 58 = .ok (.aload_n 0, 1) := dk_42 (dk_at dksJ26_next_2 12 rfl rfl)
theorem dJ26_next_59 : decode cJ26_next 59 = .ok (.iload_n 1, 1) := dk_27 (dk_at dksJ26_next_2 13 rfl rfl)
theorem dJ26_next_60 : decode cJ26_next 60 = .ok (.dup_x1, 1) := dk_90 (dk_at dksJ26_next_2 14 rfl rfl)
theorem dJ26_next_61 : decode cJ26_next 61 = .ok (.putfield 13, 3) := dk_181 0 13 (dk_at dksJ26_next_2 15 rfl rfl)
theorem dJ26_next_64 : decode cJ26_next 64 = .ok (.aaload, 1) := dk_50 (dk_at dksJ26_next_2 18 rfl rfl)
theorem dJ26_next_65 : decode cJ26_next 65 = .ok (.areturn, 1) := dk_176 (dk_at dksJ26_next_2 19 rfl rfl)
theorem c67002 : jtCode 67002 = cJ26_next := rfl
theorem E67002_0 (d : Nat) (a0 : Nat) (h : AH) : G d 67002 0 [.ref a0, jno, jno] [] h = zcV (M d 67000 [.ref a0] h) (fun h2 => zpI (jf (jc h2 (.ref a0)) [67, 74] 0) (fun x3 => zpR (jf (jc h2 (.ref a0)) [67, 74] 3) (fun r4 => zpI (jf (jc h2 r4) [43] 2) (fun x5 => if x3 < x5 then (zpR (jf (jc h2 (.ref a0)) [67, 74] 3) (fun r6 => zpR (jf (jc h2 r6) [43] 1) (fun r7 => zkR r7 (zkR r7 (zqL h2 r7 (fun x8 => if x3 < x8 then (zqF h2 (.ref a0) [67, 74] 0 0 (.int (x3 + 1)) (fun h9 => zkR r7 (zqF h9 (.ref a0) [67, 74] 1 0 (.int x3) (fun h10 => zqG h10 r7 [1040, 1041, 1050, 1060, 1071] x3 (fun w11 => zpR w11 (fun r12 => ckR r12 (some (.inl (some r12), h10))) ()) ()) ()) ()) ()) else (zqH (jpush h2 (69, 6, jL [.null, .null, .null, .null, .null, .int 0])) (fun h13 => zcV (M d 69900 [.ref h2.1] h13) (fun h15 => aT h15 h2.1 (cX h2.1 h15)) ()) ())) ()) ()) ()) ()) ()) else (cX h2.1 (jpush h2 (66, 6, jL [])))) ()) ()) ()) () := by
  refine (g_aload_n c67002 dJ26_next_0 rfl).trans ?_
  refine (g_virtual (as := [.ref a0]) (rest := []) c67002 dJ26_next_1 rfl rfl rfl rfl rfl).trans ((jback_V (κx := cX) (fun e h => jthrow_out rfl)).trans (cV_cg fun h2 => ?_))
  refine (g_aload_n c67002 dJ26_next_4 rfl).trans ?_
  refine (g_getI c67002 dJ26_next_5 rfl rfl).trans (rI_cg fun x3 => ?_)
  refine (g_istore_n (L' := [.ref a0, .int x3, jno]) c67002 dJ26_next_8 rfl rfl).trans ?_
  refine (g_iload_n c67002 dJ26_next_9 rfl).trans ?_
  refine (g_aload_n c67002 dJ26_next_10 rfl).trans ?_
  refine (g_getR c67002 dJ26_next_11 rfl).trans (rR_cg fun r4 => ?_)
  refine (g_getI c67002 dJ26_next_14 rfl rfl).trans (rI_cg fun x5 => ?_)
  refine (g_icmp_lt (tgt := 28) c67002 dJ26_next_17 rfl).trans (if_cg ?_ ?_)
  · skip
    refine (g_aload_n c67002 dJ26_next_28 rfl).trans ?_
    refine (g_getR c67002 dJ26_next_29 rfl).trans (rR_cg fun r6 => ?_)
    refine (g_getR c67002 dJ26_next_32 rfl).trans (rR_cg fun r7 => ?_)
    refine (g_astore_nV (L' := [.ref a0, .int x3, r7]) c67002 dJ26_next_35 rfl rfl).trans (ckR_cg ?_)
    refine (g_iload_n c67002 dJ26_next_36 rfl).trans ?_
    refine (g_aload_nV c67002 dJ26_next_37 rfl).trans (ckR_cg ?_)
    refine (g_alen c67002 dJ26_next_38).trans (aL_cg fun x8 => ?_)
    refine (g_icmp_lt (tgt := 50) c67002 dJ26_next_39 rfl).trans (if_cg ?_ ?_)
    · skip
      refine (g_aload_n c67002 dJ26_next_50 rfl).trans ?_
      refine (g_iload_n c67002 dJ26_next_51 rfl).trans ?_
      refine (g_iconst (x := 1) c67002 dJ26_next_52 rfl).trans ?_
      refine (g_iadd c67002 dJ26_next_53).trans ?_
      refine (g_put c67002 dJ26_next_54 rfl).trans (pF_cg fun h9 => ?_)
      refine (g_aload_nV c67002 dJ26_next_57 rfl).trans (ckR_cg ?_)
      refine (g_aload_n c67002 dJ26_next_58 rfl).trans ?_
      refine (g_iload_n c67002 dJ26_next_59 rfl).trans ?_
      refine (g_dup_x1_ir c67002 dJ26_next_60).trans ?_
      refine (g_put c67002 dJ26_next_61 rfl).trans (pF_cg fun h10 => ?_)
      refine (g_aaload c67002 dJ26_next_64).trans (aG_cg fun w11 => rR_cg fun r12 => ?_)
      exact g_areturn c67002 dJ26_next_65 rfl
    · skip
      refine (g_new (l := [.null, .null, .null, .null, .null, .int 0]) c67002 dJ26_next_42 rfl rfl).trans ?_
      refine nmZ ?_
      generalize jpush h2 (69, 6, jL [.null, .null, .null, .null, .null, .int 0]) = h13
      refine (g_dup_r c67002 dJ26_next_45).trans ?_
      refine (g_special (as := [.ref h2.1]) (rest := [.ref h2.1]) c67002 dJ26_next_46 rfl rfl rfl rfl rfl).trans ((jback_V (κx := cX) (fun e h => jthrow_out rfl)).trans (cV_cg fun h15 => ?_))
      exact g_athrow c67002 dJ26_next_49 rfl
  · skip
    exact g_throwNew (l := []) c67002 dJ26_next_20 rfl rfl (by decide +kernel)
theorem X67002 {d : Nat} {a0 : Nat} (h : AH) (hr : jrecv 67002 [.ref a0] h = true) : M (d + 1) 67002 [.ref a0] h = G d 67002 0 [.ref a0, jno, jno] [] h := M_eq rfl hr rfl
/-! java/util/ArrayList$Itr.remove()V -/
abbrev cJ26_remove : ByteArray := prog_67_method_4_code
def dkwJ26_remove_2 : List UInt8 := [180, 0, 1, 180, 0, 17, 181, 0, 22, 167, 0, 12, 76, 187, 0, 41, 89, 183, 0, 43, 191, 177]
abbrev dktJ26_remove_2 : List UInt8 := dkwJ26_remove_2 ++ []
def dkwJ26_remove_1 : List UInt8 := [180, 0, 13, 182, 0, 47, 87, 42, 42, 180, 0, 13, 181, 0, 25, 42, 2, 181, 0, 13, 42, 42]
abbrev dktJ26_remove_1 : List UInt8 := dkwJ26_remove_1 ++ dktJ26_remove_2
def dkwJ26_remove_0 : List UInt8 := [42, 180, 0, 13, 156, 0, 11, 187, 0, 44, 89, 183, 0, 46, 191, 42, 182, 0, 31, 42, 180, 0, 1, 42]
abbrev dktJ26_remove_0 : List UInt8 := dkwJ26_remove_0 ++ dktJ26_remove_1
theorem dksJ26_remove_0 : cJ26_remove.data.toList.drop 0 = dktJ26_remove_0 := by decide +kernel
theorem dksJ26_remove_1 : cJ26_remove.data.toList.drop 24 = dktJ26_remove_1 := dk_seg dksJ26_remove_0 24 rfl rfl
theorem dksJ26_remove_2 : cJ26_remove.data.toList.drop 46 = dktJ26_remove_2 := dk_seg dksJ26_remove_1 22 rfl rfl
theorem dJ26_remove_0 : decode cJ26_remove 0 = .ok (.aload_n 0, 1) := dk_42 (dk_at dksJ26_remove_0 0 rfl rfl)
theorem dJ26_remove_1 : decode cJ26_remove 1 = .ok (.getfield 13, 3) := dk_180 0 13 (dk_at dksJ26_remove_0 1 rfl rfl)
theorem dJ26_remove_4 : decode cJ26_remove 4 = .ok (.ifCond .ge 11, 3) := dk_156 0 11 (dk_at dksJ26_remove_0 4 rfl rfl)
theorem dJ26_remove_7 : decode cJ26_remove 7 = .ok (.new 44, 3) := dk_187 0 44 (dk_at dksJ26_remove_0 7 rfl rfl)
theorem dJ26_remove_10 : decode cJ26_remove 10 = .ok (.dup, 1) := dk_89 (dk_at dksJ26_remove_0 10 rfl rfl)
theorem dJ26_remove_11 : decode cJ26_remove 11 = .ok (.invokespecial 46, 3) := dk_183 0 46 (dk_at dksJ26_remove_0 11 rfl rfl)
theorem dJ26_remove_14 : decode cJ26_remove 14 = .ok (.athrow, 1) := dk_191 (dk_at dksJ26_remove_0 14 rfl rfl)
theorem dJ26_remove_15 : decode cJ26_remove 15 = .ok (.aload_n 0, 1) := dk_42 (dk_at dksJ26_remove_0 15 rfl rfl)
theorem dJ26_remove_16 : decode cJ26_remove 16 = .ok (.invokevirtual 31, 3) := dk_182 0 31 (dk_at dksJ26_remove_0 16 rfl rfl)
theorem dJ26_remove_19 : decode cJ26_remove 19 = .ok (.aload_n 0, 1) := dk_42 (dk_at dksJ26_remove_0 19 rfl rfl)
theorem dJ26_remove_20 : decode cJ26_remove 20 = .ok (.getfield 1, 3) := dk_180 0 1 (dk_at dksJ26_remove_0 20 rfl rfl)
theorem dJ26_remove_23 : decode cJ26_remove 23 = .ok (.aload_n 0, 1) := dk_42 (dk_at dksJ26_remove_0 23 rfl rfl)
theorem dJ26_remove_24 : decode cJ26_remove 24 = .ok (.getfield 13, 3) := dk_180 0 13 (dk_at dksJ26_remove_1 0 rfl rfl)
theorem dJ26_remove_27 : decode cJ26_remove 27 = .ok (.invokevirtual 47, 3) := dk_182 0 47 (dk_at dksJ26_remove_1 3 rfl rfl)
theorem dJ26_remove_30 : decode cJ26_remove 30 = .ok (.pop, 1) := dk_87 (dk_at dksJ26_remove_1 6 rfl rfl)
theorem dJ26_remove_31 : decode cJ26_remove 31 = .ok (.aload_n 0, 1) := dk_42 (dk_at dksJ26_remove_1 7 rfl rfl)
theorem dJ26_remove_32 : decode cJ26_remove 32 = .ok (.aload_n 0, 1) := dk_42 (dk_at dksJ26_remove_1 8 rfl rfl)
theorem dJ26_remove_33 : decode cJ26_remove 33 = .ok (.getfield 13, 3) := dk_180 0 13 (dk_at dksJ26_remove_1 9 rfl rfl)
theorem dJ26_remove_36 : decode cJ26_remove 36 = .ok (.putfield 25, 3) := dk_181 0 25 (dk_at dksJ26_remove_1 12 rfl rfl)
theorem dJ26_remove_39 : decode cJ26_remove 39 = .ok (.aload_n 0, 1) := dk_42 (dk_at dksJ26_remove_1 15 rfl rfl)
theorem dJ26_remove_40 : decode cJ26_remove 40 = .ok (.iconst (-1), 1) := dk_2 (dk_at dksJ26_remove_1 16 rfl rfl)
theorem dJ26_remove_41 : decode cJ26_remove 41 = .ok (.putfield 13, 3) := dk_181 0 13 (dk_at dksJ26_remove_1 17 rfl rfl)
theorem dJ26_remove_44 : decode cJ26_remove 44 = .ok (.aload_n 0, 1) := dk_42 (dk_at dksJ26_remove_1 20 rfl rfl)
theorem dJ26_remove_45 : decode cJ26_remove 45 = .ok (.aload_n 0, 1) := dk_42 (dk_at dksJ26_remove_1 21 rfl rfl)
theorem dJ26_remove_46 : decode cJ26_remove 46 = .ok (.getfield 1, 3) := dk_180 0 1 (dk_at dksJ26_remove_2 0 rfl rfl)
theorem dJ26_remove_49 : decode cJ26_remove 49 = .ok (.getfield 17, 3) := dk_180 0 17 (dk_at dksJ26_remove_2 3 rfl rfl)
theorem dJ26_remove_52 : decode cJ26_remove 52 = .ok (.putfield 22, 3) := dk_181 0 22 (dk_at dksJ26_remove_2 6 rfl rfl)
theorem dJ26_remove_55 : decode cJ26_remove 55 = .ok (.goto 12, 3) := dk_167 0 12 (dk_at dksJ26_remove_2 9 rfl rfl)
theorem dJ26_remove_58 : decode cJ26_remove 58 = .ok (.astore_n 1, 1) := dk_76 (dk_at dksJ26_remove_2 12 rfl rfl)
theorem dJ26_remove_59 : decode cJ26_remove 59 = .ok (.new 41, 3) := dk_187 0 41 (dk_at dksJ26_remove_2 13 rfl rfl)
theorem dJ26_remove_62 : decode cJ26_remove 62 = .ok (.dup, 1) := dk_89 (dk_at dksJ26_remove_2 16 rfl rfl)
theorem dJ26_remove_63 : decode cJ26_remove 63 = .ok (.invokespecial 43, 3) := dk_183 0 43 (dk_at dksJ26_remove_2 17 rfl rfl)
theorem dJ26_remove_66 : decode cJ26_remove 66 = .ok (.athrow, 1) := dk_191 (dk_at dksJ26_remove_2 20 rfl rfl)
theorem dJ26_remove_67 : decode cJ26_remove 67 = .ok (.return_, 1) := dk_177 (dk_at dksJ26_remove_2 21 rfl rfl)
theorem c67003 : jtCode 67003 = cJ26_remove := rfl
theorem E67003_0 (d : Nat) (a0 : Nat) (h : AH) : G d 67003 0 [.ref a0, jno] [] h = zpI (jf (jc h (.ref a0)) [67, 74] 1) (fun x1 => if 0 ≤ x1 then (zcV (M d 67000 [.ref a0] h) (fun h3 => zpR (jf (jc h3 (.ref a0)) [67, 74] 3) (fun r4 => zpI (jf (jc h3 (.ref a0)) [67, 74] 1) (fun x5 => zxR (M d 43015 [r4, .int x5] h3) (fun r6 h7 => zkW r6 (zpI (jf (jc h7 (.ref a0)) [67, 74] 1) (fun x10 => zqF h7 (.ref a0) [67, 74] 0 0 (.int x10) (fun h11 => zqF h11 (.ref a0) [67, 74] 1 0 (.int (-1)) (fun h12 => zpR (jf (jc h12 (.ref a0)) [67, 74] 3) (fun r13 => zpI (jf (jc h12 r13) [43, 47] 0) (fun x14 => zqF h12 (.ref a0) [67, 74] 2 0 (.int x14) (fun h15 => some (.inl none, h15)) ()) ()) ()) ()) ()) ()) ()) (fun e8 h9 => zqE h9 e8 [] (zqH (jpush h9 (69, 6, jL [.null, .null, .null, .null, .null, .int 0])) (fun h16 => zcV (M d 69900 [.ref h9.1] h16) (fun h18 => aT h18 h9.1 (cX h9.1 h18)) ()) ()) ()) () ()) ()) ()) ()) else (zqH (jpush h (68, 6, jL [.null, .null, .null, .null, .null, .int 0])) (fun h19 => zcV (M d 68900 [.ref h.1] h19) (fun h21 => aT h21 h.1 (cX h.1 h21)) ()) ())) () := by
  refine (g_aload_n c67003 dJ26_remove_0 rfl).trans ?_
  refine (g_getI c67003 dJ26_remove_1 rfl rfl).trans (rI_cg fun x1 => ?_)
  refine (g_if_ge (tgt := 15) c67003 dJ26_remove_4 rfl).trans (if_cg ?_ ?_)
  · skip
    refine (g_aload_n c67003 dJ26_remove_15 rfl).trans ?_
    refine (g_virtual (as := [.ref a0]) (rest := []) c67003 dJ26_remove_16 rfl rfl rfl rfl rfl).trans ((jback_V (κx := cX) (fun e h => jthrow_out rfl)).trans (cV_cg fun h3 => ?_))
    refine (g_aload_n c67003 dJ26_remove_19 rfl).trans ?_
    refine (g_getR c67003 dJ26_remove_20 rfl).trans (rR_cg fun r4 => ?_)
    refine (g_aload_n c67003 dJ26_remove_23 rfl).trans ?_
    refine (g_getI c67003 dJ26_remove_24 rfl rfl).trans (rI_cg fun x5 => ?_)
    refine (g_virtual (as := [r4, .int x5]) (rest := []) c67003 dJ26_remove_27 rfl rfl rfl rfl rfl).trans ((jback_R (κx := fun e h => hK h e [] (G d 67003 58 [.ref a0, jno] [.ref e] h)) (fun e h => jthrow_in rfl)).trans (cRx_cg (fun r6 h7 => ?_) (fun e8 h9 => hK_cg ?_)))
    · skip
      refine (g_pop c67003 dJ26_remove_30).trans (ckW_cg ?_)
      refine (g_aload_n c67003 dJ26_remove_31 rfl).trans ?_
      refine (g_aload_n c67003 dJ26_remove_32 rfl).trans ?_
      refine (g_getI c67003 dJ26_remove_33 rfl rfl).trans (rI_cg fun x10 => ?_)
      refine (g_put c67003 dJ26_remove_36 rfl).trans (pF_cg fun h11 => ?_)
      refine (g_aload_n c67003 dJ26_remove_39 rfl).trans ?_
      refine (g_iconst (x := (-1)) c67003 dJ26_remove_40 rfl).trans ?_
      refine (g_put c67003 dJ26_remove_41 rfl).trans (pF_cg fun h12 => ?_)
      refine (g_aload_n c67003 dJ26_remove_44 rfl).trans ?_
      refine (g_aload_n c67003 dJ26_remove_45 rfl).trans ?_
      refine (g_getR c67003 dJ26_remove_46 rfl).trans (rR_cg fun r13 => ?_)
      refine (g_getI c67003 dJ26_remove_49 rfl rfl).trans (rI_cg fun x14 => ?_)
      refine (g_put c67003 dJ26_remove_52 rfl).trans (pF_cg fun h15 => ?_)
      refine (g_goto (tgt := 67) c67003 dJ26_remove_55 rfl).trans ?_
      exact g_return c67003 dJ26_remove_67 rfl
    · skip
      refine (g_astore_n (L' := [.ref a0, .ref e8]) c67003 dJ26_remove_58 rfl rfl).trans ?_
      refine (g_new (l := [.null, .null, .null, .null, .null, .int 0]) c67003 dJ26_remove_59 rfl rfl).trans ?_
      refine nmZ ?_
      generalize jpush h9 (69, 6, jL [.null, .null, .null, .null, .null, .int 0]) = h16
      refine (g_dup_r c67003 dJ26_remove_62).trans ?_
      refine (g_special (as := [.ref h9.1]) (rest := [.ref h9.1]) c67003 dJ26_remove_63 rfl rfl rfl rfl rfl).trans ((jback_V (κx := cX) (fun e h => jthrow_out rfl)).trans (cV_cg fun h18 => ?_))
      exact g_athrow c67003 dJ26_remove_66 rfl
  · skip
    refine (g_new (l := [.null, .null, .null, .null, .null, .int 0]) c67003 dJ26_remove_7 rfl rfl).trans ?_
    refine nmZ ?_
    generalize jpush h (68, 6, jL [.null, .null, .null, .null, .null, .int 0]) = h19
    refine (g_dup_r c67003 dJ26_remove_10).trans ?_
    refine (g_special (as := [.ref h.1]) (rest := [.ref h.1]) c67003 dJ26_remove_11 rfl rfl rfl rfl rfl).trans ((jback_V (κx := cX) (fun e h => jthrow_out rfl)).trans (cV_cg fun h21 => ?_))
    exact g_athrow c67003 dJ26_remove_14 rfl
theorem X67003 {d : Nat} {a0 : Nat} (h : AH) (hr : jrecv 67003 [.ref a0] h = true) : M (d + 1) 67003 [.ref a0] h = G d 67003 0 [.ref a0, jno] [] h := M_eq rfl hr rfl
/-! java/util/ArrayList$Itr.<init>(Ljava/util/ArrayList;)V -/
abbrev cJ26_init : ByteArray := prog_67_method_1_code
def dkwJ26_init_1 : List UInt8 := [181, 0, 22, 177]
abbrev dktJ26_init_1 : List UInt8 := dkwJ26_init_1 ++ []
def dkwJ26_init_0 : List UInt8 := [42, 43, 181, 0, 1, 42, 183, 0, 7, 42, 2, 181, 0, 13, 42, 42, 180, 0, 1, 180, 0, 17]
abbrev dktJ26_init_0 : List UInt8 := dkwJ26_init_0 ++ dktJ26_init_1
theorem dksJ26_init_0 : cJ26_init.data.toList.drop 0 = dktJ26_init_0 := by decide +kernel
theorem dksJ26_init_1 : cJ26_init.data.toList.drop 22 = dktJ26_init_1 := dk_seg dksJ26_init_0 22 rfl rfl
theorem dJ26_init_0 : decode cJ26_init 0 = .ok (.aload_n 0, 1) := dk_42 (dk_at dksJ26_init_0 0 rfl rfl)
theorem dJ26_init_1 : decode cJ26_init 1 = .ok (.aload_n 1, 1) := dk_43 (dk_at dksJ26_init_0 1 rfl rfl)
theorem dJ26_init_2 : decode cJ26_init 2 = .ok (.putfield 1, 3) := dk_181 0 1 (dk_at dksJ26_init_0 2 rfl rfl)
theorem dJ26_init_5 : decode cJ26_init 5 = .ok (.aload_n 0, 1) := dk_42 (dk_at dksJ26_init_0 5 rfl rfl)
theorem dJ26_init_6 : decode cJ26_init 6 = .ok (.invokespecial 7, 3) := dk_183 0 7 (dk_at dksJ26_init_0 6 rfl rfl)
theorem dJ26_init_9 : decode cJ26_init 9 = .ok (.aload_n 0, 1) := dk_42 (dk_at dksJ26_init_0 9 rfl rfl)
theorem dJ26_init_10 : decode cJ26_init 10 = .ok (.iconst (-1), 1) := dk_2 (dk_at dksJ26_init_0 10 rfl rfl)
theorem dJ26_init_11 : decode cJ26_init 11 = .ok (.putfield 13, 3) := dk_181 0 13 (dk_at dksJ26_init_0 11 rfl rfl)
theorem dJ26_init_14 : decode cJ26_init 14 = .ok (.aload_n 0, 1) := dk_42 (dk_at dksJ26_init_0 14 rfl rfl)
theorem dJ26_init_15 : decode cJ26_init 15 = .ok (.aload_n 0, 1) := dk_42 (dk_at dksJ26_init_0 15 rfl rfl)
theorem dJ26_init_16 : decode cJ26_init 16 = .ok (.getfield 1, 3) := dk_180 0 1 (dk_at dksJ26_init_0 16 rfl rfl)
theorem dJ26_init_19 : decode cJ26_init 19 = .ok (.getfield 17, 3) := dk_180 0 17 (dk_at dksJ26_init_0 19 rfl rfl)
theorem dJ26_init_22 : decode cJ26_init 22 = .ok (.putfield 22, 3) := dk_181 0 22 (dk_at dksJ26_init_1 0 rfl rfl)
theorem dJ26_init_25 : decode cJ26_init 25 = .ok (.return_, 1) := dk_177 (dk_at dksJ26_init_1 3 rfl rfl)
theorem c67900 : jtCode 67900 = cJ26_init := rfl
theorem E67900_0 (d : Nat) (a0 : Nat) (v1 : Value) (h : AH) : G d 67900 0 [.ref a0, v1] [] h = zkR v1 (zqF h (.ref a0) [67, 74] 3 2 v1 (fun h1 => zcV (M d 90000 [.ref a0] h1) (fun h3 => zqF h3 (.ref a0) [67, 74] 1 0 (.int (-1)) (fun h4 => zpR (jf (jc h4 (.ref a0)) [67, 74] 3) (fun r5 => zpI (jf (jc h4 r5) [43, 47] 0) (fun x6 => zqF h4 (.ref a0) [67, 74] 2 0 (.int x6) (fun h7 => some (.inl none, h7)) ()) ()) ()) ()) ()) ()) () := by
  refine (g_aload_n c67900 dJ26_init_0 rfl).trans ?_
  refine (g_aload_nV c67900 dJ26_init_1 rfl).trans (ckR_cg ?_)
  refine (g_putF c67900 dJ26_init_2 rfl rfl).trans (pF_cg fun h1 => ?_)
  refine (g_aload_n c67900 dJ26_init_5 rfl).trans ?_
  refine (g_special (as := [.ref a0]) (rest := []) c67900 dJ26_init_6 rfl rfl rfl rfl rfl).trans ((jback_V (κx := cX) (fun e h => jthrow_out rfl)).trans (cV_cg fun h3 => ?_))
  refine (g_aload_n c67900 dJ26_init_9 rfl).trans ?_
  refine (g_iconst (x := (-1)) c67900 dJ26_init_10 rfl).trans ?_
  refine (g_put c67900 dJ26_init_11 rfl).trans (pF_cg fun h4 => ?_)
  refine (g_aload_n c67900 dJ26_init_14 rfl).trans ?_
  refine (g_aload_n c67900 dJ26_init_15 rfl).trans ?_
  refine (g_getR c67900 dJ26_init_16 rfl).trans (rR_cg fun r5 => ?_)
  refine (g_getI c67900 dJ26_init_19 rfl rfl).trans (rI_cg fun x6 => ?_)
  refine (g_put c67900 dJ26_init_22 rfl).trans (pF_cg fun h7 => ?_)
  exact g_return c67900 dJ26_init_25 rfl
theorem X67900 {d : Nat} {a0 : Nat} {v1 : Value} (h : AH) (hv1 : isR v1 = true) (hr : jrecv 67900 [.ref a0, v1] h = true) : M (d + 1) 67900 [.ref a0, v1] h = G d 67900 0 [.ref a0, v1] [] h := M_eq rfl hr (by simp only [jent, jargL_R hv1, jargL]; rfl)
