/-! the twin's constructor (printed by tools/twctr.py) -/
def cnZ (k : Nat) : Cl := ((twL.getD k (0, 0)).1, (twL.getD k (0, 0)).2, if (twL.getD k (0, 0)).1 = 1030 then fun _ => .long (zJ 0) else fun _ => .int (zI 0))
def cnS : Nat → Nat
  | 0 => 66
  | k + 1 => cnS k + (twL.getD (k + 1) (0, 0)).2
/-- the object and n of its arrays, over h -/
def cnH (m n : Nat) (f : Nat → Value) (h : AH) : AH := (m + n + 1, h.2.1 + cnS n, h.2.2.1, fun q => if q = m then some (7, 66, f) else if m < q ∧ q ≤ m + n then some (cnZ (q - m)) else h.2.2.2 q)
section
variable {m n : Nat} {f f2 : Nat → Value} {h : AH} {c : Cl}
theorem cnO_push (hc : c = cnZ (n + 1)) : jpush (cnH m n f h) c = cnH m (n + 1) f h := by
  subst hc
  have e1 : (cnZ (n + 1)).2.1 = (twL.getD (n + 1) (0, 0)).2 := rfl
  unfold jpush cnH
  refine Prod.ext ?_ (Prod.ext ?_ (Prod.ext rfl (funext fun q => ?_)))
  · show m + n + 1 + 1 = m + (n + 1) + 1; omega
  · show h.2.1 + cnS n + (cnZ (n + 1)).2.1 = h.2.1 + cnS (n + 1)
    rw [e1]
    show _ = h.2.1 + (cnS n + _)
    omega
  · show (if q = m + n + 1 then some (cnZ (n + 1)) else if q = m then some (7, 66, f) else if m < q ∧ q ≤ m + n then some (cnZ (q - m)) else h.2.2.2 q) = (if q = m then some (7, 66, f) else if m < q ∧ q ≤ m + (n + 1) then some (cnZ (q - m)) else h.2.2.2 q)
    by_cases c1 : q = m + n + 1
    · subst c1
      rw [if_pos rfl, if_neg (by omega), if_pos (by omega), show m + n + 1 - m = n + 1 by omega]
    · rw [if_neg c1]
      by_cases c2 : q = m
      · rw [if_pos c2, if_pos c2]
      · rw [if_neg c2, if_neg c2]
        by_cases c3 : m < q ∧ q ≤ m + n
        · rw [if_pos c3, if_pos (by omega)]
        · rw [if_neg c3, if_neg (by omega)]
theorem cnO_at : jm (cnH m n f h) m = some (7, 66, f) := by
  show (if m = m then some (7, 66, f) else _) = _
  rw [if_pos rfl]
theorem cnO_set : jset (cnH m n f h) m (7, 66, f2) = cnH m n f2 h := by
  unfold jset cnH
  refine Prod.ext rfl (Prod.ext rfl (Prod.ext rfl (funext fun q => ?_)))
  show (if q = m then some (7, 66, f2) else if q = m then some (7, 66, f) else _) = (if q = m then some (7, 66, f2) else _)
  by_cases c : q = m
  · rw [if_pos c, if_pos c]
  · rw [if_neg c, if_neg c, if_neg c]
theorem cnO_1 : (cnH m n f h).1 = m + (n + 1) := rfl
theorem cnO_ar {k : Nat} (k0 : 1 ≤ k) (k1 : k ≤ n) : jm (cnH m n f h) (m + k) = some (cnZ k) := by
  show (if m + k = m then _ else if m < m + k ∧ m + k ≤ m + n then some (cnZ (m + k - m)) else _) = _
  rw [if_neg (by omega), if_pos (by omega), show m + k - m = k by omega]
theorem cnO_out {q : Nat} (hq : q < m ∨ m + n < q) : jm (cnH m n f h) q = jm h q := by
  show (if q = m then _ else if m < q ∧ q ≤ m + n then _ else h.2.2.2 q) = _
  rw [if_neg (by omega), if_neg (by omega)]
  rfl
theorem cn_p0 : jpush (cnH m 0 f h) (1010, 940, fun _ => .int (zI 0)) = cnH m 1 f h := cnO_push rfl
theorem cn_p1 : jpush (cnH m 1 f h) (1000, 1420, fun _ => .int (zI 0)) = cnH m 2 f h := cnO_push rfl
theorem cn_p2 : jpush (cnH m 2 f h) (1000, 148, fun _ => .int (zI 0)) = cnH m 3 f h := cnO_push rfl
theorem cn_p3 : jpush (cnH m 3 f h) (1000, 135, fun _ => .int (zI 0)) = cnH m 4 f h := cnO_push rfl
theorem cn_p4 : jpush (cnH m 4 f h) (1000, 800, fun _ => .int (zI 0)) = cnH m 5 f h := cnO_push rfl
theorem cn_p5 : jpush (cnH m 5 f h) (1030, 40, fun _ => .long (zJ 0)) = cnH m 6 f h := cnO_push rfl
theorem cn_p6 : jpush (cnH m 6 f h) (1030, 29, fun _ => .long (zJ 0)) = cnH m 7 f h := cnO_push rfl
theorem cn_p7 : jpush (cnH m 7 f h) (1000, 960, fun _ => .int (zI 0)) = cnH m 8 f h := cnO_push rfl
theorem cn_p8 : jpush (cnH m 8 f h) (1000, 960, fun _ => .int (zI 0)) = cnH m 9 f h := cnO_push rfl
theorem cn_p9 : jpush (cnH m 9 f h) (1000, 960, fun _ => .int (zI 0)) = cnH m 10 f h := cnO_push rfl
theorem cn_p10 : jpush (cnH m 10 f h) (1000, 396, fun _ => .int (zI 0)) = cnH m 11 f h := cnO_push rfl
theorem cn_p11 : jpush (cnH m 11 f h) (1000, 594, fun _ => .int (zI 0)) = cnH m 12 f h := cnO_push rfl
theorem cn_p12 : jpush (cnH m 12 f h) (1000, 99, fun _ => .int (zI 0)) = cnH m 13 f h := cnO_push rfl
theorem cn_p13 : jpush (cnH m 13 f h) (1000, 1091, fun _ => .int (zI 0)) = cnH m 14 f h := cnO_push rfl
theorem cn_p14 : jpush (cnH m 14 f h) (1000, 4, fun _ => .int (zI 0)) = cnH m 15 f h := cnO_push rfl
theorem cn_p15 : jpush (cnH m 15 f h) (1000, 99, fun _ => .int (zI 0)) = cnH m 16 f h := cnO_push rfl
theorem cn_p16 : jpush (cnH m 16 f h) (1000, 960, fun _ => .int (zI 0)) = cnH m 17 f h := cnO_push rfl
theorem cn_p17 : jpush (cnH m 17 f h) (1000, 960, fun _ => .int (zI 0)) = cnH m 18 f h := cnO_push rfl
theorem cn_p18 : jpush (cnH m 18 f h) (1000, 960, fun _ => .int (zI 0)) = cnH m 19 f h := cnO_push rfl
theorem cn_p19 : jpush (cnH m 19 f h) (1000, 8728, fun _ => .int (zI 0)) = cnH m 20 f h := cnO_push rfl
theorem cn_p20 : jpush (cnH m 20 f h) (1000, 1091, fun _ => .int (zI 0)) = cnH m 21 f h := cnO_push rfl
theorem cn_p21 : jpush (cnH m 21 f h) (1000, 4, fun _ => .int (zI 0)) = cnH m 22 f h := cnO_push rfl
theorem cn_p22 : jpush (cnH m 22 f h) (1000, 4, fun _ => .int (zI 0)) = cnH m 23 f h := cnO_push rfl
theorem cn_p23 : jpush (cnH m 23 f h) (1010, 30, fun _ => .int (zI 0)) = cnH m 24 f h := cnO_push rfl
theorem cn_p24 : jpush (cnH m 24 f h) (1000, 4, fun _ => .int (zI 0)) = cnH m 25 f h := cnO_push rfl
theorem cn_p25 : jpush (cnH m 25 f h) (1000, 1091, fun _ => .int (zI 0)) = cnH m 26 f h := cnO_push rfl
theorem cn_p26 : jpush (cnH m 26 f h) (1000, 45, fun _ => .int (zI 0)) = cnH m 27 f h := cnO_push rfl
theorem cn_p27 : jpush (cnH m 27 f h) (1020, 45, fun _ => .int (zI 0)) = cnH m 28 f h := cnO_push rfl
theorem cn_p28 : jpush (cnH m 28 f h) (1000, 2840, fun _ => .int (zI 0)) = cnH m 29 f h := cnO_push rfl
theorem cn_p29 : jpush (cnH m 29 f h) (1030, 40, fun _ => .long (zJ 0)) = cnH m 30 f h := cnO_push rfl
theorem cn_p30 : jpush (cnH m 30 f h) (1020, 2, fun _ => .int (zI 0)) = cnH m 31 f h := cnO_push rfl
theorem tw_own {T : Nat → Int → Int} (hT : ∀ k, k < 32 → jm h (m + k) = some (twc m k (T k))) : tw m T h = h := by
  refine Prod.ext rfl (Prod.ext rfl (Prod.ext rfl (funext fun q => ?_)))
  show (if m ≤ q ∧ q < m + 32 then some (twc m (q - m) (T (q - m))) else h.2.2.2 q) = h.2.2.2 q
  by_cases c : m ≤ q ∧ q < m + 32
  · rw [if_pos c]
    have := hT (q - m) (by omega)
    rw [show m + (q - m) = q by omega] at this
    exact this.symm
  · rw [if_neg c]
theorem cnZ_twc : ∀ k, 1 ≤ k → k < 32 → cnZ k = twc m k (fun _ => 0)
  | 1, _, _ => rfl
  | 2, _, _ => rfl
  | 3, _, _ => rfl
  | 4, _, _ => rfl
  | 5, _, _ => rfl
  | 6, _, _ => rfl
  | 7, _, _ => rfl
  | 8, _, _ => rfl
  | 9, _, _ => rfl
  | 10, _, _ => rfl
  | 11, _, _ => rfl
  | 12, _, _ => rfl
  | 13, _, _ => rfl
  | 14, _, _ => rfl
  | 15, _, _ => rfl
  | 16, _, _ => rfl
  | 17, _, _ => rfl
  | 18, _, _ => rfl
  | 19, _, _ => rfl
  | 20, _, _ => rfl
  | 21, _, _ => rfl
  | 22, _, _ => rfl
  | 23, _, _ => rfl
  | 24, _, _ => rfl
  | 25, _, _ => rfl
  | 26, _, _ => rfl
  | 27, _, _ => rfl
  | 28, _, _ => rfl
  | 29, _, _ => rfl
  | 30, _, _ => rfl
  | 31, _, _ => rfl
  | 0, h, _ => absurd h (by decide)
  | k + 32, _, h => absurd h (by omega)
/-- fields of a new twin -/
def tn0 : Int → Int := fset (fun _ => 0) 48 (-1)
def tnT (k : Nat) : Int → Int := if k = 0 then tn0 else fun _ => 0
theorem cn_tw : cnH m 31 (ob m tn0) h = tw m tnT (cnH m 31 (ob m tn0) h) := by
  refine (tw_own fun k hk => ?_).symm
  by_cases k0 : k = 0
  · subst k0
    rw [Nat.add_zero, cnO_at]; rfl
  · rw [cnO_ar (by omega) (by omega), cnZ_twc k (by omega) hk]
    show _ = some (twc m k (if k = 0 then tn0 else fun _ => 0))
    rw [if_neg k0]
def tnF : Nat → Value := jL [.int (zI 0), .null, .int (zI 0), .int (zI 0), .int (zI 0), .int (zI 0), .null, .null, .null, .null, .null, .null, .int (zI 0), .int (zI 0), .int (zI 0), .int (zI 0), .int (zI 0), .int (zI 0), .long (zJ 0), .int (zI 0), .int (zI 0), .int (zI 0), .int (zI 0), .null, .null, .null, .int (zI 0), .null, .null, .null, .null, .int (zI 0), .int (zI 0), .int (zI 0), .int (zI 0), .int (zI 0), .null, .null, .null, .null, .null, .int (zI 0), .int (zI 0), .null, .int (zI 0), .null, .null, .null, .int (zI 0), .null, .int (zI 0), .int (zI 0), .int (zI 0), .null, .null, .int (zI 0), .null, .int (zI 0), .int (zI 0), .int (zI 0), .int (zI 0), .int (zI 0), .null, .null, .null, .null]
theorem cn_0 : jpush h (7, 66, tnF) = cnH h.1 0 tnF h := by
  unfold jpush cnH
  refine Prod.ext rfl (Prod.ext rfl (Prod.ext rfl (funext fun q => ?_)))
  show (if q = h.1 then some (7, 66, tnF) else h.2.2.2 q) = (if q = h.1 then some (7, 66, tnF) else if h.1 < q ∧ q ≤ h.1 + 0 then _ else h.2.2.2 q)
  by_cases c : q = h.1
  · rw [if_pos c, if_pos c]
  · rw [if_neg c, if_neg c, if_neg (by omega)]
theorem jL_out {l : List Value} {k : Nat} (hk : l.length ≤ k) : jL l k = .null := by
  unfold jL
  rw [List.getD_eq_getElem?_getD, List.getElem?_eq_none hk]
  rfl
theorem tn_ob : ju (ju (ju (ju (ju (ju (ju (ju (ju (ju (ju (ju (ju (ju (ju (ju (ju (ju (ju (ju (ju (ju (ju (ju (ju (ju (ju (ju (ju (ju (ju (ju (tnF) 1 (.ref (m + 1))) 6 (.ref (m + 2))) 7 (.ref (m + 3))) 8 (.ref (m + 4))) 9 (.ref (m + 5))) 10 (.ref (m + 6))) 11 (.ref (m + 7))) 23 (.ref (m + 8))) 24 (.ref (m + 9))) 25 (.ref (m + 10))) 27 (.ref (m + 11))) 28 (.ref (m + 12))) 29 (.ref (m + 13))) 30 (.ref (m + 14))) 36 (.ref (m + 15))) 37 (.ref (m + 16))) 38 (.ref (m + 17))) 39 (.ref (m + 18))) 40 (.ref (m + 19))) 43 (.ref (m + 20))) 45 (.ref (m + 21))) 46 (.ref (m + 22))) 47 (.ref (m + 23))) 48 (.int (zI (-1)))) 49 (.ref (m + 24))) 53 (.ref (m + 25))) 54 (.ref (m + 26))) 56 (.ref (m + 27))) 62 (.ref (m + 28))) 63 (.ref (m + 29))) 64 (.ref (m + 30))) 65 (.ref (m + 31)) = ob m tn0 :=
  funext fun i => match i with
  | 0 => rfl
  | 1 => rfl
  | 2 => rfl
  | 3 => rfl
  | 4 => rfl
  | 5 => rfl
  | 6 => rfl
  | 7 => rfl
  | 8 => rfl
  | 9 => rfl
  | 10 => rfl
  | 11 => rfl
  | 12 => rfl
  | 13 => rfl
  | 14 => rfl
  | 15 => rfl
  | 16 => rfl
  | 17 => rfl
  | 18 => rfl
  | 19 => rfl
  | 20 => rfl
  | 21 => rfl
  | 22 => rfl
  | 23 => rfl
  | 24 => rfl
  | 25 => rfl
  | 26 => rfl
  | 27 => rfl
  | 28 => rfl
  | 29 => rfl
  | 30 => rfl
  | 31 => rfl
  | 32 => rfl
  | 33 => rfl
  | 34 => rfl
  | 35 => rfl
  | 36 => rfl
  | 37 => rfl
  | 38 => rfl
  | 39 => rfl
  | 40 => rfl
  | 41 => rfl
  | 42 => rfl
  | 43 => rfl
  | 44 => rfl
  | 45 => rfl
  | 46 => rfl
  | 47 => rfl
  | 48 => rfl
  | 49 => rfl
  | 50 => rfl
  | 51 => rfl
  | 52 => rfl
  | 53 => rfl
  | 54 => rfl
  | 55 => rfl
  | 56 => rfl
  | 57 => rfl
  | 58 => rfl
  | 59 => rfl
  | 60 => rfl
  | 61 => rfl
  | 62 => rfl
  | 63 => rfl
  | 64 => rfl
  | 65 => rfl
  | i + 66 => by
    simp (disch := omega) only [ju_ne]
    exact (jL_out (Nat.le_add_left 66 i)).trans (jL_out (Nat.le_add_left 66 i)).symm
/-- the taken words, as they are laid -/
def tnR : Int → Int := (fset (fset (fset (fset (fset (fset (fset (fset (fset (fset (fset (fset (fset (fset (fset (fset (fset (fset (fset (fset (fset (fset (fset (fset (fset (fset (fset (fset (fset (fun _ => 0) 0 499850046565) 1 7038329) 2 7497062) 3 29807) 4 125779836236645) 5 112628746448759) 6 427020345714) 7 491328333172) 8 1718971500) 9 1818326117) 10 28258988067220596) 11 1852138852) 12 426953237355) 13 115923103347316) 14 110386773062757) 15 26982) 16 6385252) 17 7562612) 18 422608071022) 19 109330228406644) 20 1650549611) 21 1852796517) 22 28530) 23 7237492) 24 1650553445) 25 461414299502) 26 108243635103086) 27 26990) 28 7499639)
theorem tnR_ok : ∀ k : Nat, k < 29 → tnR (k : Int) = rsv.getD k 0
  | 0, _ => by decide
  | 1, _ => by decide
  | 2, _ => by decide
  | 3, _ => by decide
  | 4, _ => by decide
  | 5, _ => by decide
  | 6, _ => by decide
  | 7, _ => by decide
  | 8, _ => by decide
  | 9, _ => by decide
  | 10, _ => by decide
  | 11, _ => by decide
  | 12, _ => by decide
  | 13, _ => by decide
  | 14, _ => by decide
  | 15, _ => by decide
  | 16, _ => by decide
  | 17, _ => by decide
  | 18, _ => by decide
  | 19, _ => by decide
  | 20, _ => by decide
  | 21, _ => by decide
  | 22, _ => by decide
  | 23, _ => by decide
  | 24, _ => by decide
  | 25, _ => by decide
  | 26, _ => by decide
  | 27, _ => by decide
  | 28, _ => by decide
  | k + 29, h => absurd h (by omega)
theorem tm_ctor {d : Nat} : M (d + 2) 7900 [.ref h.1] (jpush h (7, 66, tnF)) = some (.inl none, tw h.1 (tg tnT 7 tnR) (cnH h.1 31 (ob h.1 tn0) h)) := by
  have m0 : jm (jpush h (7, 66, tnF)) h.1 = some (7, 66, tnF) := jm_p1
  have rv : (jtRecv 7900).elem 7 = true := rfl
  have q2 : (zI 2).toNatClampNeg = 2 := by decide
  have q4 : (zI 4).toNatClampNeg = 4 := by decide
  have q29 : (zI 29).toNatClampNeg = 29 := by decide
  have q30 : (zI 30).toNatClampNeg = 30 := by decide
  have q40 : (zI 40).toNatClampNeg = 40 := by decide
  have q45 : (zI 45).toNatClampNeg = 45 := by decide
  have q99 : (zI 99).toNatClampNeg = 99 := by decide
  have q135 : (zI 135).toNatClampNeg = 135 := by decide
  have q148 : (zI 148).toNatClampNeg = 148 := by decide
  have q396 : (zI 396).toNatClampNeg = 396 := by decide
  have q594 : (zI 594).toNatClampNeg = 594 := by decide
  have q800 : (zI 800).toNatClampNeg = 800 := by decide
  have q940 : (zI 940).toNatClampNeg = 940 := by decide
  have q960 : (zI 960).toNatClampNeg = 960 := by decide
  have q1091 : (zI 1091).toNatClampNeg = 1091 := by decide
  have q1420 : (zI 1420).toNatClampNeg = 1420 := by decide
  have q2840 : (zI 2840).toNatClampNeg = 2840 := by decide
  have q8728 : (zI 8728).toNatClampNeg = 8728 := by decide
  have ctw := cn_tw (m := h.1) (h := h)
  have tob := tn_ob (m := h.1)
  rw [X7900 _ (jrecv_in m0 rv), E7900_0, cn_0]
  generalize h.1 = m at ctw tob ⊢
  generalize hX : cnH m 31 (ob m tn0) h = X at ctw ⊢
  have c2 := hX.trans ctw
  simp (disch := first | assumption | omega | decide | exact okF_i | exact okF_r | exact okF_n | exact okF_j | rfl) only [jc_ref, rI_int, rR_ref, rR_null, rJ_long, ckR_ref, ckR_null, ckr_ref, ckr_null, ckW_int, ckW_ref, ckW_null, cI_ok, cR_ok, cR_null, cV_ok, cJ_ok, qH_eq, qD_in, aG_ref, aS_ref, aL_ref, pF_ref, cK_ref, cK_null, zI_lit, zJ_lit, zI_add, zI_sub, zI_mul, zI_neg, zI_eq, zI_lt, zI_le, Int.reduceLT, Int.reduceLE, Int.reduceAdd, Int.reduceSub, Int.reduceMul, Int.reduceNeg, Int.reduceEq, Int.reduceNe, reduceIte, tw_0, tw_1, tw_2, tw_3, tw_4, tw_5, tw_6, tw_7, tw_8, tw_9, tw_10, tw_11, tw_12, tw_13, tw_14, tw_15, tw_16, tw_17, tw_18, tw_19, tw_20, tw_21, tw_22, tw_23, tw_24, tw_25, tw_26, tw_27, tw_28, tw_29, tw_30, tw_31, ob_0, ob_1, ob_2, ob_3, ob_4, ob_5, ob_6, ob_7, ob_8, ob_9, ob_10, ob_11, ob_12, ob_13, ob_14, ob_15, ob_16, ob_17, ob_18, ob_19, ob_20, ob_21, ob_22, ob_23, ob_24, ob_25, ob_26, ob_27, ob_28, ob_29, ob_30, ob_31, ob_32, ob_33, ob_34, ob_35, ob_36, ob_37, ob_38, ob_39, ob_40, ob_41, ob_42, ob_43, ob_44, ob_45, ob_46, ob_47, ob_48, ob_49, ob_50, ob_51, ob_52, ob_53, ob_54, ob_55, ob_56, ob_57, ob_58, ob_59, ob_60, ob_61, ob_62, ob_63, ob_64, ob_65, jf7, aGi, aGb, aGz, aGj, leT, leF, ltT, ltF, eqT, eqF, tws_0, tws_1, tws_2, tws_3, tws_4, tws_5, tws_6, tws_7, tws_8, tws_9, tws_10, tws_11, tws_12, tws_13, tws_14, tws_15, tws_16, tws_17, tws_18, tws_19, tws_20, tws_21, tws_22, tws_23, tws_24, tws_25, tws_26, tws_27, tws_28, tws_29, tws_30, tws_31, obs_0, obs_2, obs_3, obs_4, obs_5, obs_12, obs_13, obs_14, obs_15, obs_16, obs_17, obs_18, obs_19, obs_20, obs_21, obs_22, obs_26, obs_31, obs_32, obs_33, obs_34, obs_35, obs_41, obs_42, obs_44, obs_48, obs_50, obs_51, obs_52, obs_55, obs_57, obs_58, obs_59, obs_60, obs_61, pF7i, pF7z, pF7j, aSi, aSj, aSb1, aSb24, aSb28, aSb31, ts, tg_eq, tg_ne, tg_tg, fset_eq, fset_ne, pFc_in, nA_in, obi, tob, c2, cnO_at, cnO_set, cnO_1, q2, q4, q29, q30, q40, q45, q99, q135, q148, q396, q594, q800, q940, q960, q1091, q1420, q2840, q8728, cn_p0, cn_p1, cn_p2, cn_p3, cn_p4, cn_p5, cn_p6, cn_p7, cn_p8, cn_p9, cn_p10, cn_p11, cn_p12, cn_p13, cn_p14, cn_p15, cn_p16, cn_p17, cn_p18, cn_p19, cn_p20, cn_p21, cn_p22, cn_p23, cn_p24, cn_p25, cn_p26, cn_p27, cn_p28, cn_p29, cn_p30, Nat.reduceAdd]
  rfl
end
