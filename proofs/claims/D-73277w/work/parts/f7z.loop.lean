set_option maxRecDepth 100000
theorem F5013_0v (d : Nat) (a0 : Nat) (w0 : Value) (w1 : Value) (h : AH) : G2 d 5013 0 [.ref a0, w0, w1] [] h = zqF h (.ref a0) [5] 5 3 (.int 0) (fun h1 => G2 d 5013 7 [.ref a0, .int 0, w1] [] h1) () := by
  refine (g_aload_nH c5013 dX4_spreads_0 rfl).trans ?_
  refine (g_iconstH (x := 0) c5013 dX4_spreads_1 rfl).trans ?_
  refine (g_putH c5013 dX4_spreads_2 rfl).trans (pF_cg fun h1 => ?_)
  refine (g_iconstH (x := 0) c5013 dX4_spreads_5 rfl).trans ?_
  refine (g_istore_nH (L' := [.ref a0, .int 0, w1]) c5013 dX4_spreads_6 rfl rfl).trans ?_
  rfl
