set_option maxRecDepth 100000
theorem F72006_0v (d : Nat) (a0 : Nat) (w0 : Value) (h : AH) : G2 d 72006 0 [.ref a0, w0] [] h = zpI (jf (jc h (.ref a0)) [72] 5) (fun x1 => if x1 ≤ 1 then (some (.inl none, h)) else (zpI (jf (jc h (.ref a0)) [72] 5) (fun x2 => if (x2 - 2) ≤ 0 then (G2 d 72006 45 [.ref a0, .int (x2 - 2)] [] h) else (zpR (jf (jc h (.ref a0)) [72] 7) (fun r3 => zqG h r3 [1000, 1001] ((x2 - 2) - 1) (fun w4 => zpI w4 (fun x5 => zpR (jf (jc h (.ref a0)) [72] 7) (fun r6 => zqG h r6 [1000, 1001] (x2 - 2) (fun w7 => zpI w7 (fun x8 => zpR (jf (jc h (.ref a0)) [72] 7) (fun r9 => zqG h r9 [1000, 1001] ((x2 - 2) + 1) (fun w10 => zpI w10 (fun x11 => if x5 ≤ (x8 + x11) then (G2 d 72006 76 [.ref a0, .int (x2 - 2)] [] h) else (G2 d 72006 45 [.ref a0, .int (x2 - 2)] [] h)) ()) ()) ()) ()) ()) ()) ()) ()) ())) ())) () := by
  refine (g_aload_nH c72006 dJ31_mergeCollapse_0 rfl).trans ?_
  refine (g_getIH c72006 dJ31_mergeCollapse_1 rfl rfl).trans (rI_cg fun x1 => ?_)
  refine (g_iconstH (x := 1) c72006 dJ31_mergeCollapse_4 rfl).trans ?_
  refine (g_icmp_leH (tgt := 133) c72006 dJ31_mergeCollapse_5 rfl).trans (if_cg ?_ ?_)
  · skip
    exact g_returnH c72006 dJ31_mergeCollapse_133 rfl
  · skip
    refine (g_aload_nH c72006 dJ31_mergeCollapse_8 rfl).trans ?_
    refine (g_getIH c72006 dJ31_mergeCollapse_9 rfl rfl).trans (rI_cg fun x2 => ?_)
    refine (g_iconstH (x := 2) c72006 dJ31_mergeCollapse_12 rfl).trans ?_
    refine (g_isubH c72006 dJ31_mergeCollapse_13).trans ?_
    refine (g_istore_nH (L' := [.ref a0, .int (x2 - 2)]) c72006 dJ31_mergeCollapse_14 rfl rfl).trans ?_
    refine (g_iload_nH c72006 dJ31_mergeCollapse_15 rfl).trans ?_
    refine (g_if_leH (tgt := 45) c72006 dJ31_mergeCollapse_16 rfl).trans (if_cg ?_ ?_)
    · skip
      rfl
    · skip
      refine (g_aload_nH c72006 dJ31_mergeCollapse_19 rfl).trans ?_
      refine (g_getRH c72006 dJ31_mergeCollapse_20 rfl).trans (rR_cg fun r3 => ?_)
      refine (g_iload_nH c72006 dJ31_mergeCollapse_23 rfl).trans ?_
      refine (g_iconstH (x := 1) c72006 dJ31_mergeCollapse_24 rfl).trans ?_
      refine (g_isubH c72006 dJ31_mergeCollapse_25).trans ?_
      refine (g_ialoadH c72006 dJ31_mergeCollapse_26).trans (aG_cg fun w4 => rI_cg fun x5 => ?_)
      refine (g_aload_nH c72006 dJ31_mergeCollapse_27 rfl).trans ?_
      refine (g_getRH c72006 dJ31_mergeCollapse_28 rfl).trans (rR_cg fun r6 => ?_)
      refine (g_iload_nH c72006 dJ31_mergeCollapse_31 rfl).trans ?_
      refine (g_ialoadH c72006 dJ31_mergeCollapse_32).trans (aG_cg fun w7 => rI_cg fun x8 => ?_)
      refine (g_aload_nH c72006 dJ31_mergeCollapse_33 rfl).trans ?_
      refine (g_getRH c72006 dJ31_mergeCollapse_34 rfl).trans (rR_cg fun r9 => ?_)
      refine (g_iload_nH c72006 dJ31_mergeCollapse_37 rfl).trans ?_
      refine (g_iconstH (x := 1) c72006 dJ31_mergeCollapse_38 rfl).trans ?_
      refine (g_iaddH c72006 dJ31_mergeCollapse_39).trans ?_
      refine (g_ialoadH c72006 dJ31_mergeCollapse_40).trans (aG_cg fun w10 => rI_cg fun x11 => ?_)
      refine (g_iaddH c72006 dJ31_mergeCollapse_41).trans ?_
      refine (g_icmp_leH (tgt := 76) c72006 dJ31_mergeCollapse_42 rfl).trans (if_cg ?_ ?_)
      · skip
        rfl
      · skip
        rfl
theorem F72007_0v (d : Nat) (a0 : Nat) (w0 : Value) (h : AH) : G2 d 72007 0 [.ref a0, w0] [] h = zpI (jf (jc h (.ref a0)) [72] 5) (fun x1 => if x1 ≤ 1 then (some (.inl none, h)) else (zpI (jf (jc h (.ref a0)) [72] 5) (fun x2 => if (x2 - 2) ≤ 0 then (zcV (M2 d 72005 [.ref a0, .int (x2 - 2)] h) (fun h4 => G2 d 72007 0 [.ref a0, .int (x2 - 2)] [] h4) ()) else (zpR (jf (jc h (.ref a0)) [72] 7) (fun r5 => zqG h r5 [1000, 1001] ((x2 - 2) - 1) (fun w6 => zpI w6 (fun x7 => zpR (jf (jc h (.ref a0)) [72] 7) (fun r8 => zqG h r8 [1000, 1001] ((x2 - 2) + 1) (fun w9 => zpI w9 (fun x10 => if x10 ≤ x7 then (zcV (M2 d 72005 [.ref a0, .int (x2 - 2)] h) (fun h12 => G2 d 72007 0 [.ref a0, .int (x2 - 2)] [] h12) ()) else (zcV (M2 d 72005 [.ref a0, .int ((x2 - 2) + (-1))] h) (fun h14 => G2 d 72007 0 [.ref a0, .int ((x2 - 2) + (-1))] [] h14) ())) ()) ()) ()) ()) ()) ())) ())) () := by
  refine (g_aload_nH c72007 dJ31_mergeForceCollapse_0 rfl).trans ?_
  refine (g_getIH c72007 dJ31_mergeForceCollapse_1 rfl rfl).trans (rI_cg fun x1 => ?_)
  refine (g_iconstH (x := 1) c72007 dJ31_mergeForceCollapse_4 rfl).trans ?_
  refine (g_icmp_leH (tgt := 49) c72007 dJ31_mergeForceCollapse_5 rfl).trans (if_cg ?_ ?_)
  · skip
    exact g_returnH c72007 dJ31_mergeForceCollapse_49 rfl
  · skip
    refine (g_aload_nH c72007 dJ31_mergeForceCollapse_8 rfl).trans ?_
    refine (g_getIH c72007 dJ31_mergeForceCollapse_9 rfl rfl).trans (rI_cg fun x2 => ?_)
    refine (g_iconstH (x := 2) c72007 dJ31_mergeForceCollapse_12 rfl).trans ?_
    refine (g_isubH c72007 dJ31_mergeForceCollapse_13).trans ?_
    refine (g_istore_nH (L' := [.ref a0, .int (x2 - 2)]) c72007 dJ31_mergeForceCollapse_14 rfl rfl).trans ?_
    refine (g_iload_nH c72007 dJ31_mergeForceCollapse_15 rfl).trans ?_
    refine (g_if_leH (tgt := 41) c72007 dJ31_mergeForceCollapse_16 rfl).trans (if_cg ?_ ?_)
    · skip
      refine (g_aload_nH c72007 dJ31_mergeForceCollapse_41 rfl).trans ?_
      refine (g_iload_nH c72007 dJ31_mergeForceCollapse_42 rfl).trans ?_
      refine (g_virtualH (as := [.ref a0, .int (x2 - 2)]) (rest := []) c72007 dJ31_mergeForceCollapse_43 rfl rfl rfl rfl rfl).trans ((jback_VH (κx := cX) (fun e h => jthrow_outH rfl)).trans (cV_cg fun h4 => ?_))
      refine (g_gotoH (tgt := 0) c72007 dJ31_mergeForceCollapse_46 rfl).trans ?_
      rfl
    · skip
      refine (g_aload_nH c72007 dJ31_mergeForceCollapse_19 rfl).trans ?_
      refine (g_getRH c72007 dJ31_mergeForceCollapse_20 rfl).trans (rR_cg fun r5 => ?_)
      refine (g_iload_nH c72007 dJ31_mergeForceCollapse_23 rfl).trans ?_
      refine (g_iconstH (x := 1) c72007 dJ31_mergeForceCollapse_24 rfl).trans ?_
      refine (g_isubH c72007 dJ31_mergeForceCollapse_25).trans ?_
      refine (g_ialoadH c72007 dJ31_mergeForceCollapse_26).trans (aG_cg fun w6 => rI_cg fun x7 => ?_)
      refine (g_aload_nH c72007 dJ31_mergeForceCollapse_27 rfl).trans ?_
      refine (g_getRH c72007 dJ31_mergeForceCollapse_28 rfl).trans (rR_cg fun r8 => ?_)
      refine (g_iload_nH c72007 dJ31_mergeForceCollapse_31 rfl).trans ?_
      refine (g_iconstH (x := 1) c72007 dJ31_mergeForceCollapse_32 rfl).trans ?_
      refine (g_iaddH c72007 dJ31_mergeForceCollapse_33).trans ?_
      refine (g_ialoadH c72007 dJ31_mergeForceCollapse_34).trans (aG_cg fun w9 => rI_cg fun x10 => ?_)
      refine (g_icmp_geH (tgt := 41) c72007 dJ31_mergeForceCollapse_35 rfl).trans (if_cg ?_ ?_)
      · skip
        refine (g_aload_nH c72007 dJ31_mergeForceCollapse_41 rfl).trans ?_
        refine (g_iload_nH c72007 dJ31_mergeForceCollapse_42 rfl).trans ?_
        refine (g_virtualH (as := [.ref a0, .int (x2 - 2)]) (rest := []) c72007 dJ31_mergeForceCollapse_43 rfl rfl rfl rfl rfl).trans ((jback_VH (κx := cX) (fun e h => jthrow_outH rfl)).trans (cV_cg fun h12 => ?_))
        refine (g_gotoH (tgt := 0) c72007 dJ31_mergeForceCollapse_46 rfl).trans ?_
        rfl
      · skip
        refine (g_iincH (c := (-1)) (L' := [.ref a0, .int ((x2 - 2) + (-1))]) c72007 dJ31_mergeForceCollapse_38 rfl rfl rfl rfl).trans ?_
        refine (g_aload_nH c72007 dJ31_mergeForceCollapse_41 rfl).trans ?_
        refine (g_iload_nH c72007 dJ31_mergeForceCollapse_42 rfl).trans ?_
        refine (g_virtualH (as := [.ref a0, .int ((x2 - 2) + (-1))]) (rest := []) c72007 dJ31_mergeForceCollapse_43 rfl rfl rfl rfl rfl).trans ((jback_VH (κx := cX) (fun e h => jthrow_outH rfl)).trans (cV_cg fun h14 => ?_))
        refine (g_gotoH (tgt := 0) c72007 dJ31_mergeForceCollapse_46 rfl).trans ?_
        rfl
