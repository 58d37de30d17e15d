set_option maxRecDepth 100000
section T55
variable {g : fc_G} {l : Launch} {M : fc_M} {T : tT} {w : Nat → Int32}
def pkW (nC : Nat) : Nat → Nat → (Nat → Int32) → (Nat → Int32)
  | 0, _, w => w
  | k + 1, c, w => if c < nC then pkW nC k (c + 1) (up (up (up (up w (10 + 20 * c + 0) (w (10 + 20 * c + 10))) (10 + 20 * c + 1) (nI 0)) (10 + 20 * c + 2) (nI 0)) (10 + 20 * c + 3) (nI 0)) else w
set_option maxHeartbeats 1000000 in
theorem l_parks {n0 s0 : Nat} (hM : tw0 + 17 ≤ fc_nx M) {nC : Nat} (hC : nC ≤ 4) : ∀ (k i : Nat) (w : Nat → Int32), w 1 = nI nC → i ≤ nC → nC < i + k → fc_X g l yX6_parks cX6_parks 2 (none) 2 n0 s0 (tv g M T w) 2 [some (.ref (fc_B g + tw0)), some (.int (nI i))] [] (tv_ve g M T (pkW nC k i w)) := by
  intro k
  induction k with
  | zero => intro i w hw h1 h2; omega
  | succ k ih =>
    intro i w hw h1 h2
    refine x_iload_n dX6_parks_2 rfl ?_
    refine x_aload_n dX6_parks_3 rfl ?_
    refine v_geta 0 hM dX6_parks_4 (by decide) rfl q1130 ?_
    refine x_ic1 dX6_parks_7 ?_
    refine v_wld hM dX6_parks_8 rfl (by omega) ?_
    refine x_top hw ?_
    refine x_icmpN_ge (tgt := 52) dX6_parks_9 (by decide) (by omega) (by omega) (fun hc9 => ?_) (fun hc9 => ?_)
    · exact x_vret dX6_parks_52 rfl (tv_v2 rfl (by rw [pkW, if_neg (Nat.not_lt.mpr hc9)]))
    · refine x_aload_n dX6_parks_12 rfl ?_
      refine x_iload_n dX6_parks_13 rfl ?_
      refine x_ic0 dX6_parks_14 ?_
      refine x_aload_n dX6_parks_15 rfl ?_
      refine x_iload_n dX6_parks_16 rfl ?_
      refine x_bipush (v := nI 10) dX6_parks_17 (by decide) ?_
      refine v_V2ie hM dX6_parks_19 kG_X6_X6_ofCar kP_X6_ofCar rfl (by omega) (by decide) (Nat.le_of_ble_eq_true rfl) (c_ofCar hM rfl rfl (by omega)) ?_
      refine v_V3ve hM dX6_parks_22 kG_X6_X6_sets kP_X6_sets rfl (by omega) (by decide) (Nat.le_of_ble_eq_true rfl) (c_sets hM rfl rfl (by omega)) ?_
      refine x_aload_n dX6_parks_25 rfl ?_
      refine x_iload_n dX6_parks_26 rfl ?_
      refine x_ic1 dX6_parks_27 ?_
      refine x_ic0 dX6_parks_28 ?_
      refine v_V3ve hM dX6_parks_29 kG_X6_X6_sets kP_X6_sets rfl (by omega) (by decide) (Nat.le_of_ble_eq_true rfl) (c_sets hM rfl rfl (by omega)) ?_
      refine x_aload_n dX6_parks_32 rfl ?_
      refine x_iload_n dX6_parks_33 rfl ?_
      refine x_ic2 dX6_parks_34 ?_
      refine x_ic0 dX6_parks_35 ?_
      refine v_V3ve hM dX6_parks_36 kG_X6_X6_sets kP_X6_sets rfl (by omega) (by decide) (Nat.le_of_ble_eq_true rfl) (c_sets hM rfl rfl (by omega)) ?_
      refine x_aload_n dX6_parks_39 rfl ?_
      refine x_iload_n dX6_parks_40 rfl ?_
      refine x_ic3 dX6_parks_41 ?_
      refine x_ic0 dX6_parks_42 ?_
      refine v_V3ve hM dX6_parks_43 kG_X6_X6_sets kP_X6_sets rfl (by omega) (by decide) (Nat.le_of_ble_eq_true rfl) (c_sets hM rfl rfl (by omega)) ?_
      refine x_iincN (n := 1) dX6_parks_46 (by decide) rfl (by decide) rfl ?_
      refine x_goto (tgt := 2) dX6_parks_49 (by decide) ?_
      rw [pkW, if_pos hc9]
      exact ih (i + 1) _ (by rw [up_n (by omega), up_n (by omega), up_n (by omega), up_n (by omega)]; exact hw) (by omega) (by omega)
set_option maxHeartbeats 1000000 in
theorem c_parks (hM : tw0 + 17 ≤ fc_nx M) {nC : Nat} (hC : nC ≤ 4) (hw : w 1 = nI nC) : fc_CX g l yX6_parks cX6_parks 2 (none) 2 [.ref (fc_B g + tw0)] (tv g M T w) (tv_ve g M T (pkW nC (nC + 1) 0 w)) := by
  refine fc_enter (by decide) (Nat.le_of_ble_eq_true rfl) rfl ?_
  refine x_ic0 dX6_parks_0 ?_
  refine x_istore_n dX6_parks_1 (by decide) rfl ?_
  exact l_parks hM hC (nC + 1) 0 w hw (by omega) (by omega)
def lcW (f n q : Nat) (w : Nat → Int32) : Nat → Int32 := cmW w n (nI 0) (nI (q / (f - 1))) (if q % (f - 1) < q / (f - 1) then nI (q % (f - 1)) else nI (q % (f - 1) + 1))
set_option maxHeartbeats 1000000 in
theorem c_laysCall (hM : tw0 + 17 ≤ fc_nx M) {n f q : Nat} (hn : n < 60) (hw : w 2 = nI n) (hw0 : w 0 = nI f) (hf2 : 2 ≤ f) (hf : f ≤ 80) (hq : q < 10000) {x : Int32} (hx : x = nI q) : fc_CX g l yX6_laysCall cX6_laysCall 5 (none) 3 [.ref (fc_B g + tw0), .int x] (tv g M T w) (tv_ve g M T (lcW f n q w)) := by
  refine fc_enter (by decide) (Nat.le_of_ble_eq_true rfl) rfl ?_
  subst hx
  have hd0 : q / (f - 1) ≤ q := Nat.div_le_self _ _
  have hm0 : q % (f - 1) < f - 1 := Nat.mod_lt _ (by omega)
  refine x_aload_n dX6_laysCall_0 rfl ?_
  refine v_geta 0 hM dX6_laysCall_1 (by decide) rfl q1130 ?_
  refine x_ic0 dX6_laysCall_4 ?_
  refine v_wld hM dX6_laysCall_5 rfl (by omega) ?_
  refine x_top hw0 ?_
  refine x_ic1 dX6_laysCall_6 ?_
  refine x_isubN dX6_laysCall_7 (by omega) ?_
  refine x_istore_n dX6_laysCall_8 (by decide) rfl ?_
  refine x_iload_n dX6_laysCall_9 rfl ?_
  refine x_iload_n dX6_laysCall_10 rfl ?_
  refine x_idivN dX6_laysCall_11 (by omega) (by omega) (by omega) ?_
  refine x_istore_n dX6_laysCall_12 (by decide) rfl ?_
  refine x_iload_n dX6_laysCall_13 rfl ?_
  refine x_iload_n dX6_laysCall_14 rfl ?_
  refine x_iremN dX6_laysCall_15 (by omega) (by omega) (by omega) ?_
  refine x_istore dX6_laysCall_16 (by decide) rfl ?_
  refine x_aload_n dX6_laysCall_18 rfl ?_
  refine x_ic0 dX6_laysCall_19 ?_
  refine x_iload_n dX6_laysCall_20 rfl ?_
  refine x_iload dX6_laysCall_21 rfl ?_
  refine x_iload_n dX6_laysCall_23 rfl ?_
  refine x_icmpN_ge (tgt := 32) dX6_laysCall_24 (by decide) (by omega) (by omega) (fun hc24 => ?_) (fun hc24 => ?_)
  · refine x_iload dX6_laysCall_32 rfl ?_
    refine x_ic1 dX6_laysCall_34 ?_
    refine x_iaddN dX6_laysCall_35 ?_
    refine v_V3ve hM dX6_laysCall_36 kG_X6_X6_comes kP_X6_comes rfl (by omega) (by decide) (Nat.le_of_ble_eq_true rfl) (c_comes hM hn hw) ?_
    exact x_vret dX6_laysCall_39 rfl (tv_v2 rfl (by rw [lcW, if_neg (Nat.not_lt.mpr hc24)]))
  · refine x_iload dX6_laysCall_27 rfl ?_
    refine x_goto (tgt := 36) dX6_laysCall_29 (by decide) ?_
    refine v_V3ve hM dX6_laysCall_36 kG_X6_X6_comes kP_X6_comes rfl (by omega) (by decide) (Nat.le_of_ble_eq_true rfl) (c_comes hM hn hw) ?_
    exact x_vret dX6_laysCall_39 rfl (tv_v2 rfl (by rw [lcW, if_pos hc24]))
def oo1 (nC : Nat) : Nat → Nat → (Nat → Int32) → (Nat → Int32)
  | 0, _, w => w
  | k + 1, c, w => if c < nC then oo1 nC k (c + 1) (up (up w (10 + 20 * c + 4) (nI 0)) (10 + 20 * c + 5) (-1)) else w
def oo2 : Nat → Nat → (Nat → Int32) → (Nat → Int32)
  | 0, _, w => w
  | k + 1, i, w => if i < 740 then oo2 k (i + 1) (up w i (nI 0)) else w
theorem oo1_fr {nC q : Nat} (hq : ∀ c, c < nC → q ≠ 10 + 20 * c + 4 ∧ q ≠ 10 + 20 * c + 5) : ∀ (k c : Nat) (w : Nat → Int32), oo1 nC k c w q = w q
  | 0, _, _ => rfl
  | k + 1, c, w => by
    simp only [oo1]
    split
    · rename_i h
      rw [oo1_fr hq k, up_n (hq c h).2, up_n (hq c h).1]
    · rfl
theorem oo2_fr {q : Nat} : ∀ (k i : Nat) (w : Nat → Int32), (q < i ∨ 740 ≤ q) → oo2 k i w q = w q
  | 0, _, _, _ => rfl
  | k + 1, i, w, h => by
    simp only [oo2]
    split
    · rename_i h2
      rw [oo2_fr k (i + 1) _ (by omega), up_n (by omega)]
    · rfl
theorem pkW_fr {nC q : Nat} (hq : ∀ c, c < nC → ∀ j, j < 4 → q ≠ 10 + 20 * c + j) : ∀ (k c : Nat) (w : Nat → Int32), pkW nC k c w q = w q
  | 0, _, _ => rfl
  | k + 1, c, w => by
    simp only [pkW]
    split
    · rename_i h
      rw [pkW_fr hq k, up_n (hq c h 3 (by decide)), up_n (hq c h 2 (by decide)), up_n (hq c h 1 (by decide)), up_n (hq c h 0 (by decide))]
    · rfl
def mo0 (nC : Nat) (rule : Int32) (w : Nat → Int32) : Nat → Int32 := pkW nC (nC + 1) 0 (oo2 321 420 (oo1 nC (nC + 1) 0 (up (up (up w 2 (nI 0)) 3 (nI 0)) 4 rule)))
set_option maxHeartbeats 1000000 in
theorem l_oo2 {n0 s0 : Nat} (hM : tw0 + 17 ≤ fc_nx M) {v1 v2 v3 : Option Value} {x4 : Int32} {wf : Nat → Int32} {Q : Outcome → fc_M → Prop} (hk : fc_X g l yX6_overOf cX6_overOf 6 (some .int) 13 n0 s0 (tv g M T wf) 85 [some (.ref (fc_B g + tw0)), v1, v2, v3, some (.int x4), some (.int (nI 740))] [] (Q)) : ∀ (k i : Nat) (w : Nat → Int32), i ≤ 740 → 740 < i + k → oo2 k i w = wf → fc_X g l yX6_overOf cX6_overOf 6 (some .int) 13 n0 s0 (tv g M T w) 63 [some (.ref (fc_B g + tw0)), v1, v2, v3, some (.int x4), some (.int (nI i))] [] (Q) := by
  intro k
  induction k with
  | zero => intro i w h1 h2 hwf; omega
  | succ k ih =>
    intro i w h1 h2 hwf
    refine x_iload dX6_overOf_63 rfl ?_
    refine x_sipush (v := nI 740) dX6_overOf_65 (by decide) ?_
    refine x_icmpN_ge (tgt := 85) dX6_overOf_68 (by decide) (by omega) (by omega) (fun hc68 => ?_) (fun hc68 => ?_)
    · obtain rfl : i = 740 := by omega
      rw [show w = wf by rw [← hwf, oo2, if_neg (by decide)]]
      exact hk
    · refine x_aload_n dX6_overOf_71 rfl ?_
      refine v_geta 0 hM dX6_overOf_72 (by decide) rfl q1130 ?_
      refine x_iload dX6_overOf_75 rfl ?_
      refine x_ic0 dX6_overOf_77 ?_
      refine v_wst hM dX6_overOf_78 rfl (by omega) ?_
      refine x_iincN (n := 1) dX6_overOf_79 (by decide) rfl (by decide) rfl ?_
      refine x_goto (tgt := 63) dX6_overOf_82 (by decide) ?_
      exact ih (i + 1) _ (by omega) (by omega) (by rw [← hwf, oo2, if_pos hc68])
set_option maxHeartbeats 1000000 in
theorem l_oo1 {n0 s0 : Nat} (hM : tw0 + 17 ≤ fc_nx M) {nC : Nat} (hC : nC ≤ 4) {v1 v2 v3 : Option Value} {x4 : Int32} {wf : Nat → Int32} {Q : Outcome → fc_M → Prop} (hk : fc_X g l yX6_overOf cX6_overOf 6 (some .int) 13 n0 s0 (tv g M T wf) 58 [some (.ref (fc_B g + tw0)), v1, v2, v3, some (.int x4), some (.int (nI nC))] [] (Q)) : ∀ (k i : Nat) (w : Nat → Int32), w 1 = nI nC → i ≤ nC → nC < i + k → oo1 nC k i w = wf → fc_X g l yX6_overOf cX6_overOf 6 (some .int) 13 n0 s0 (tv g M T w) 25 [some (.ref (fc_B g + tw0)), v1, v2, v3, some (.int x4), some (.int (nI i))] [] (Q) := by
  intro k
  induction k with
  | zero => intro i w hw h1 h2 hwf; omega
  | succ k ih =>
    intro i w hw h1 h2 hwf
    refine x_iload dX6_overOf_25 rfl ?_
    refine x_aload_n dX6_overOf_27 rfl ?_
    refine v_geta 0 hM dX6_overOf_28 (by decide) rfl q1130 ?_
    refine x_ic1 dX6_overOf_31 ?_
    refine v_wld hM dX6_overOf_32 rfl (by omega) ?_
    refine x_top hw ?_
    refine x_icmpN_ge (tgt := 58) dX6_overOf_33 (by decide) (by omega) (by omega) (fun hc33 => ?_) (fun hc33 => ?_)
    · obtain rfl : i = nC := by omega
      rw [show w = wf by rw [← hwf, oo1, if_neg (Nat.lt_irrefl i)]]
      exact hk
    · refine x_aload_n dX6_overOf_36 rfl ?_
      refine x_iload dX6_overOf_37 rfl ?_
      refine x_ic4 dX6_overOf_39 ?_
      refine x_ic0 dX6_overOf_40 ?_
      refine v_V3ve hM dX6_overOf_41 kG_X6_X6_sets kP_X6_sets rfl (by omega) (by decide) (Nat.le_of_ble_eq_true rfl) (c_sets hM rfl rfl (by omega)) ?_
      refine x_aload_n dX6_overOf_44 rfl ?_
      refine x_iload dX6_overOf_45 rfl ?_
      refine x_ic5 dX6_overOf_47 ?_
      refine x_icm1 dX6_overOf_48 ?_
      refine v_V3ve hM dX6_overOf_49 kG_X6_X6_sets kP_X6_sets rfl (by omega) (by decide) (Nat.le_of_ble_eq_true rfl) (c_sets hM rfl rfl (by omega)) ?_
      refine x_iincN (n := 1) dX6_overOf_52 (by decide) rfl (by decide) rfl ?_
      refine x_goto (tgt := 25) dX6_overOf_55 (by decide) ?_
      exact ih (i + 1) _ (by rw [up_n (by omega), up_n (by omega)]; exact hw) (by omega) (by omega) (by rw [← hwf, oo1, if_pos hc33])
end T55
