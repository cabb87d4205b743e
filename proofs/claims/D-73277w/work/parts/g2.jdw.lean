/-! what the twin's judges keeps -/
/-- J: what judges has left behind of T -/
def JdW (T J : Nat → Int → Int) (why : Int) : Prop := (0 ≤ why ∧ why ≤ 6) ∧ (∀ k, k ≠ 0 → k ≠ 2 → k ≠ 8 → k ≠ 9 → k ≠ 10 → k ≠ 11 → k ≠ 12 → k ≠ 13 → k ≠ 14 → J k = T k) ∧
  (∀ i, i ≠ 26 → i ≠ 31 → i ≠ 32 → i ≠ 33 → i ≠ 34 → i ≠ 35 → J 0 i = T 0 i) ∧ StW (J 2) ∧ (why ≠ 0 → J 2 = T 2) ∧ (∀ i, i < 148 ∨ i = 149 ∨ 744 ≤ i → J 2 i = T 2 i) ∧ (∀ i, 0 ≤ i → i < 1091 → J 14 i = T 2 (148 + i)) ∧
  (0 ≤ J 0 26 ∧ J 0 26 ≤ 960) ∧ (0 ≤ J 0 31 ∧ J 0 31 ≤ 99) ∧ (0 ≤ J 0 32 ∧ J 0 32 ≤ 99) ∧ (0 ≤ J 0 33 ∧ J 0 33 ≤ 99) ∧ (J 0 35 = 0 ∨ J 0 35 = 1) ∧ GoW (J 13) ∧ AhW (J 12)
section
variable {T Y : Nat → Int → Int} {to : Int}
theorem jdT_12 : jdT T to 12 = jd3 T 12 := by
  unfold jdT jd7
  rw [putW_at (by decide) (by decide)]
  unfold jd6
  rw [ts_ne (by decide), ts_ne (by decide)]
  unfold jd5
  rw [tg_ne (by decide), jd4_12]
theorem fndA_len (W : StW (T 2)) : (fndA T to).length ≤ 40 := by
  have := alv_le W
  unfold fndA
  split
  · exact Nat.zero_le _
  · unfold fndL
    exact Nat.le_trans (List.length_filter_le _ _) this
theorem jdT_go (W : StW (T 2)) : GoW (jdT T to 13) := by
  have bf := jdT_bfs (to := to) W
  rw [jdT_13]
  refine closF_G 100 1 _ (fun r r0 r1 => ?_) (by omega) (by omega)
  rw [jd4_13, jd3_13' r0 r1]
  split <;> omega
theorem JdW.mid (W : StW (T 2)) (hA : AhW (T 12)) (L : LnW (T 2) (T 5) to) (h35 : T 0 35 = 0 ∨ T 0 35 = 1) : JdW T (jdT T to) 5 := by
  have f := fndA_len (to := to) W
  have gr := goC_rg (Go := jdT T to 13) 99 0
  have hG : GoG (jdT T to 13) (fun k => decide (0 ≤ jdT T to 13 (k : Int))) := fun r r0 r1 => by
    show decide (0 ≤ jdT T to 13 (r.toNat : Int)) = _
    rw [show ((r.toNat : Nat) : Int) = r by omega]
  obtain ⟨-, -, w⟩ := jdT_lst W h35 hA L hG
  refine ⟨⟨by omega, by omega⟩, fun k h0 h2 h8 h9 h10 h11 h12 h13 h14 => jdT_k h0 h11 h12 h13 h14, fun i h26 h31 h32 h33 h34 h35 => ?_, ?_, fun _ => jdT_k (by decide) (by decide) (by decide) (by decide) (by decide), fun i _ => by rw [jdT_k (by decide) (by decide) (by decide) (by decide) (by decide)], fun i i0 i1 => ?_, ?_, ?_, ?_, ?_, w.2.2, jdT_go W, ?_⟩
  · rw [jdT_0 h31 h32 h34 h35, jd3_f, if_neg (by omega)]
  · rw [jdT_k (by decide) (by decide) (by decide) (by decide) (by decide)]; exact W
  · rw [jdT_14]; unfold bl; rw [if_pos ⟨i0, i1⟩]
  · rw [jdT_0 (by decide) (by decide) (by decide) (by decide), jd3_f, if_pos (by decide)]; omega
  · rw [jdT_31]; omega
  · rw [jdT_32]; omega
  · rw [jdT_0 (by decide) (by decide) (by decide) (by decide), jd3_f, if_pos (by decide)]; omega
  · rw [jdT_12]; exact jd3_12 hA
theorem JdW.full (W : StW (T 2)) (hA : AhW (T 12)) (h35 : T 0 35 = 0 ∨ T 0 35 = 1) : JdW T (jd3 T) 6 := by
  have z : ∀ i, (i = 31 ∨ i = 32 ∨ i = 33 ∨ i = 34 ∨ i = 26) → jd3 T 0 i = 0 := fun i hi => by rw [jd3_f, if_pos hi]
  refine ⟨⟨by omega, by omega⟩, fun k h0 h2 h8 h9 h10 h11 h12 h13 h14 => jd3_k h0 h11 h12 h13 h14, fun i h26 h31 h32 h33 h34 h35 => ?_, ?_, fun _ => jd3_k (by decide) (by decide) (by decide) (by decide) (by decide), fun i _ => by rw [jd3_k (by decide) (by decide) (by decide) (by decide) (by decide)], fun i i0 i1 => ?_, ?_, ?_, ?_, ?_, ?_, jd3_13, jd3_12 hA⟩
  · rw [jd3_f, if_neg (by omega)]
  · rw [jd3_k (by decide) (by decide) (by decide) (by decide) (by decide)]; exact W
  · rw [jd3_14]; unfold bl; rw [if_pos ⟨i0, i1⟩]
  · rw [z 26 (by decide)]; omega
  · rw [z 31 (by decide)]; omega
  · rw [z 32 (by decide)]; omega
  · rw [z 33 (by decide)]; omega
  · rw [jd3_f, if_neg (by decide)]; exact h35
/-- the end keeps it -/
theorem JdW.fin (h : JdW T Y 5) {Z : Nat → Int → Int} (hk : ∀ k, k ≠ 0 → k ≠ 2 → Z k = Y k) (h0 : ∀ i, i ≠ 33 → Z 0 i = Y 0 i) (h33 : 0 ≤ Z 0 33 ∧ Z 0 33 ≤ 99) (W2 : StW (Z 2)) (h2 : ∀ i, i < 148 ∨ i = 149 ∨ 744 ≤ i → Z 2 i = T 2 i) (hs : ∀ i, i < 148 ∨ 1239 ≤ i → Z 2 i = T 2 i) (WT : StW (T 2)) : JdW T (jdE Z).2 (jdE Z).1 := by
  obtain ⟨-, a2, a3, a4, a5, a6, a7, a8, a9, a10, a11, a12, a13, a14⟩ := h
  have l9 := violS_le W2 (late := decide (Z 2 149 = 0))
  have lv := lay_vio (T := Z) (V := jdV Z)
  have e26 : layL (ts Z 0 26 0) (jdV Z) 0 26 = (violS (Z 2) (decide (Z 2 149 = 0))).length := lv.1
  have e0 : ∀ i, i ≠ 26 → layL (ts Z 0 26 0) (jdV Z) 0 i = Z 0 i := fun i hi => lay_0 hi
  have ek : ∀ k, k ≠ 0 → k ≠ 8 → k ≠ 9 → k ≠ 10 → layL (ts Z 0 26 0) (jdV Z) k = Z k := fun k k0 k8 k9 k10 => by rw [layL_k ⟨k0, k8, k9, k10⟩, ts_ne k0]
  by_cases hn : jdV Z = []
  · rw [jdE_nil hn]
    show JdW T (layL (ts Z 0 26 0) (jdV Z)) 0
    refine ⟨⟨by omega, by omega⟩, fun k k0 k2 k8 k9 k10 k11 k12 k13 k14 => by rw [ek k k0 k8 k9 k10, hk k k0 k2, a2 k k0 k2 k8 k9 k10 k11 k12 k13 k14], fun i i26 i31 i32 i33 i34 i35 => by rw [e0 i i26, h0 i i33, a3 i i26 i31 i32 i33 i34 i35], by rw [ek 2 (by decide) (by decide) (by decide) (by decide)]; exact W2, fun z => by omega, fun i hi => by rw [ek 2 (by decide) (by decide) (by decide) (by decide)]; exact h2 i hi, fun i i0 i1 => by rw [ek 14 (by decide) (by decide) (by decide) (by decide), hk 14 (by decide) (by decide)]; exact a7 i i0 i1, by rw [e26]; omega, by rw [e0 31 (by decide), h0 31 (by decide)]; exact a9, by rw [e0 32 (by decide), h0 32 (by decide)]; exact a10, by rw [e0 33 (by decide)]; exact h33, by rw [e0 35 (by decide), h0 35 (by decide)]; exact a12, by rw [ek 13 (by decide) (by decide) (by decide) (by decide), hk 13 (by decide) (by decide)]; exact a13, by rw [ek 12 (by decide) (by decide) (by decide) (by decide), hk 12 (by decide) (by decide)]; exact a14⟩
  · rw [jdE_cons hn]
    obtain ⟨x, V', hV'⟩ : ∃ x V', jdV Z = x :: V' := by
      cases hc : jdV Z with
      | nil => exact absurd hc hn
      | cons x V' => exact ⟨x, V', rfl⟩
    have e8 : layL (ts Z 0 26 0) (jdV Z) 8 0 = x.1 := (lv.2 0 x (by rw [hV']; rfl)).1
    have rgx := ((mem_viol W2).mp (show x ∈ violS (Z 2) (decide (Z 2 149 = 0)) from (show jdV Z = violS (Z 2) (decide (Z 2 149 = 0)) from rfl) ▸ hV' ▸ List.mem_cons_self)).rg W2
    have k2 : tg (layL (ts Z 0 26 0) (jdV Z)) 2 (bl 148 1239 (fun x => Z 14 (x - 148)) (Z 2)) 2 = T 2 := by
      rw [tg_eq]
      funext i
      unfold bl
      by_cases hi : 148 ≤ i ∧ i < 1239
      · rw [if_pos hi, hk 14 (by decide) (by decide)]
        have := a7 (i - 148) (by omega) (by omega)
        rw [show 148 + (i - 148) = i by omega] at this
        exact this
      · rw [if_neg hi]; exact hs i (by omega)
    have kk : ∀ j, j ≠ 2 → tg (layL (ts Z 0 26 0) (jdV Z)) 2 (bl 148 1239 (fun x => Z 14 (x - 148)) (Z 2)) j = layL (ts Z 0 26 0) (jdV Z) j := fun j hj => tg_ne hj
    rw [e8]
    show JdW T (tg (layL (ts Z 0 26 0) (jdV Z)) 2 (bl 148 1239 (fun x => Z 14 (x - 148)) (Z 2))) x.1
    refine ⟨⟨by omega, by omega⟩, fun k k0 k2 k8 k9 k10 k11 k12 k13 k14 => by rw [kk k k2, ek k k0 k8 k9 k10, hk k k0 k2, a2 k k0 k2 k8 k9 k10 k11 k12 k13 k14], fun i i26 i31 i32 i33 i34 i35 => by rw [kk 0 (by decide), e0 i i26, h0 i i33, a3 i i26 i31 i32 i33 i34 i35], by rw [k2]; exact WT, fun _ => k2, fun i hi => by rw [k2], fun i i0 i1 => by rw [kk 14 (by decide), ek 14 (by decide) (by decide) (by decide) (by decide), hk 14 (by decide) (by decide)]; exact a7 i i0 i1, by rw [kk 0 (by decide), e26]; omega, by rw [kk 0 (by decide), e0 31 (by decide), h0 31 (by decide)]; exact a9, by rw [kk 0 (by decide), e0 32 (by decide), h0 32 (by decide)]; exact a10, by rw [kk 0 (by decide), e0 33 (by decide)]; exact h33, by rw [kk 0 (by decide), e0 35 (by decide), h0 35 (by decide)]; exact a12, by rw [kk 13 (by decide), ek 13 (by decide) (by decide) (by decide) (by decide), hk 13 (by decide) (by decide)]; exact a13, by rw [kk 12 (by decide), ek 12 (by decide) (by decide) (by decide) (by decide), hk 12 (by decide) (by decide)]; exact a14⟩
theorem judT_W (W : StW (T 2)) (hA : AhW (T 12)) (L : LnW (T 2) (T 5) to) (h35 : T 0 35 = 0 ∨ T 0 35 = 1) : JdW T (judT T to).2 (judT T to).1 := by
  have w5 := W.2.2.2.2.1
  by_cases hf : T 5 to = 0 ∧ (cntA (T 2) 150 99 0 = 40 ∨ T 2 148 = 99)
  · rw [judT_full hf]; exact JdW.full W hA h35
  · have hm := JdW.mid W hA L h35
    have hG : GoG (jdT T to 13) (fun k => decide (0 ≤ jdT T to 13 (k : Int))) := fun r r0 r1 => by
      show decide (0 ≤ jdT T to 13 (r.toNat : Int)) = _
      rw [show ((r.toNat : Nat) : Int) = r by omega]
    obtain ⟨-, -, w⟩ := jdT_lst W h35 hA L hG
    have w34 : jdT T to 0 34 = 0 ∨ jdT T to 0 34 = 1 := w.2.1
    rcases w34 with c | c
    · rw [judT_ok hf c]
      have e2 : jdT T to 2 = T 2 := jdT_k (by decide) (by decide) (by decide) (by decide) (by decide)
      have e5 : jdT T to 5 = T 5 := jdT_k (by decide) (by decide) (by decide) (by decide) (by decide)
      have hk : ∀ k, k ≠ 0 → k ≠ 2 → jdD (jdT T to) to k = jdT T to k := fun k k0 k2 => by
        unfold jdD
        rw [ts_ne k0, tg_ne k2]
      have h0 : ∀ i, i ≠ 33 → jdD (jdT T to) to 0 i = jdT T to 0 i := fun i hi => by
        unfold jdD
        rw [ts_eq, fset_ne hi, tg_ne (by decide)]
      have e33 : jdD (jdT T to) to 0 33 = (doR (wsT (jdT T to)) (jdT T to 13) 99 0 (T 2, 0)).2 := by
        unfold jdD
        rw [ts_eq, fset_eq, e2]
      obtain ⟨k1, k2, k3, k4⟩ := doR_W (Go := jdT T to 13) w 99 0 (T 2, 0) W (Int.le_refl _) rfl
      have k4 : (doR (wsT (jdT T to)) (jdT T to 13) 99 0 (T 2, 0)).2 ≤ 0 + (99 : Nat) := k4
      have k3 : 0 ≤ (doR (wsT (jdT T to)) (jdT T to 13) 99 0 (T 2, 0)).2 := k3
      by_cases h5 : T 5 to = 0
      · have Y2 : jdD (jdT T to) to 2 = insS (T 2) (T 5) to := by
          unfold jdD
          rw [ts_ne (by decide), tg_eq, e5, if_pos h5, e2, doR_no W h35 hA L h5]
        have n9 : T 2 148 < 99 := by omega
        have n40 : cntA (T 2) 150 99 0 < 40 := by have := alv_len (S := T 2) (at_ := 150) 99 0 fun i a b => W.al a (by omega); have := alv_le W; omega
        have ei : ∀ i, i < 148 ∨ i = 149 ∨ 744 ≤ i → insS (T 2) (T 5) to i = T 2 i := fun i hi => by
          unfold insS insQ
          rw [fset_ne (by omega), if_neg (by omega), if_neg (by omega), if_neg (by omega)]
        exact hm.fin hk h0 (by rw [e33]; omega) (by rw [Y2]; exact W.ins (L.2.2.1 h5) n9 n40) (fun i hi => by rw [Y2]; exact ei i hi) (fun i hi => by rw [Y2]; exact ei i (by omega)) W
      · have Y2 : jdD (jdT T to) to 2 = (doR (wsT (jdT T to)) (jdT T to 13) 99 0 (T 2, 0)).1 := by
          unfold jdD
          rw [ts_ne (by decide), tg_eq, e5, if_neg h5, e2]
        exact hm.fin hk h0 (by rw [e33]; omega) (by rw [Y2]; exact k1) (fun i hi => by rw [Y2]; exact k2 i (by omega)) (fun i hi => by rw [Y2]; exact k2 i (by omega)) W
    · rw [judT_cl hf c]; exact hm
end
