set_option maxRecDepth 100000
section T47
variable {g : fc_G} {l : Launch} {M : fc_M} {T : tT} {w : Nat → Int32}
theorem sw4 (x : Int32) : x = nI 0 ∨ x = nI 1 ∨ x = nI 2 ∨ x = nI 3 ∨ (x.toInt < 0 ∨ 3 < x.toInt) := by
  rcases Classical.em (inN x 4) with h | h
  · obtain ⟨j, hj, rfl⟩ := (inN_iff (by decide)).mp h
    rcases (show j = 0 ∨ j = 1 ∨ j = 2 ∨ j = 3 by omega) with rfl | rfl | rfl | rfl <;> first | exact Or.inl rfl | exact Or.inr (Or.inl rfl) | exact Or.inr (Or.inr (Or.inl rfl)) | exact Or.inr (Or.inr (Or.inr (Or.inl rfl)))
  · refine Or.inr (Or.inr (Or.inr (Or.inr (?_))))
    have : ¬ (0 ≤ x.toInt ∧ x.toInt < (4 : Nat)) := h
    omega
theorem sw12 (x : Int32) : x = nI 0 ∨ x = nI 1 ∨ x = nI 2 ∨ x = nI 3 ∨ x = nI 4 ∨ x = nI 5 ∨ x = nI 6 ∨ x = nI 7 ∨ x = nI 8 ∨ x = nI 9 ∨ x = nI 10 ∨ x = nI 11 ∨ (x.toInt < 0 ∨ 11 < x.toInt) := by
  rcases Classical.em (inN x 12) with h | h
  · obtain ⟨j, hj, rfl⟩ := (inN_iff (by decide)).mp h
    rcases (show j = 0 ∨ j = 1 ∨ j = 2 ∨ j = 3 ∨ j = 4 ∨ j = 5 ∨ j = 6 ∨ j = 7 ∨ j = 8 ∨ j = 9 ∨ j = 10 ∨ j = 11 by omega) with rfl | rfl | rfl | rfl | rfl | rfl | rfl | rfl | rfl | rfl | rfl | rfl <;> first | exact Or.inl rfl | exact Or.inr (Or.inl rfl) | exact Or.inr (Or.inr (Or.inl rfl)) | exact Or.inr (Or.inr (Or.inr (Or.inl rfl))) | exact Or.inr (Or.inr (Or.inr (Or.inr (Or.inl rfl)))) | exact Or.inr (Or.inr (Or.inr (Or.inr (Or.inr (Or.inl rfl))))) | exact Or.inr (Or.inr (Or.inr (Or.inr (Or.inr (Or.inr (Or.inl rfl)))))) | exact Or.inr (Or.inr (Or.inr (Or.inr (Or.inr (Or.inr (Or.inr (Or.inl rfl))))))) | exact Or.inr (Or.inr (Or.inr (Or.inr (Or.inr (Or.inr (Or.inr (Or.inr (Or.inl rfl)))))))) | exact Or.inr (Or.inr (Or.inr (Or.inr (Or.inr (Or.inr (Or.inr (Or.inr (Or.inr (Or.inl rfl))))))))) | exact Or.inr (Or.inr (Or.inr (Or.inr (Or.inr (Or.inr (Or.inr (Or.inr (Or.inr (Or.inr (Or.inl rfl)))))))))) | exact Or.inr (Or.inr (Or.inr (Or.inr (Or.inr (Or.inr (Or.inr (Or.inr (Or.inr (Or.inr (Or.inr (Or.inl rfl)))))))))))
  · refine Or.inr (Or.inr (Or.inr (Or.inr (Or.inr (Or.inr (Or.inr (Or.inr (Or.inr (Or.inr (Or.inr (Or.inr (?_))))))))))))
    have : ¬ (0 ≤ x.toInt ∧ x.toInt < (12 : Nat)) := h
    omega
def cmW (w : Nat → Int32) (n : Nat) (a b c : Int32) : Nat → Int32 := up (up (up (up (up (up (up (up w (820 + 8 * n + 0) a) (820 + 8 * n + 1) b) (820 + 8 * n + 2) c) (820 + 8 * n + 3) (nI 0)) (820 + 8 * n + 4) (-1)) (820 + 8 * n + 5) (-1)) (820 + 8 * n + 6) (-1)) 2 (nI (n + 1))
set_option maxHeartbeats 1000000 in
theorem c_comes (hM : tw0 + 17 ≤ fc_nx M) {n : Nat} (hn : n < 60) (hw : w 2 = nI n) {a b c : Int32} : fc_CX g l yX6_comes cX6_comes 5 (none) 2 [.ref (fc_B g + tw0), .int a, .int b, .int c] (tv g M T w) (tv_ve g M T (cmW w n a b c)) := by
  refine fc_enter (by decide) (Nat.le_of_ble_eq_true rfl) rfl ?_
  refine x_aload_n dX6_comes_0 rfl ?_
  refine v_geta 0 hM dX6_comes_1 (by decide) rfl q1130 ?_
  refine x_ic2 dX6_comes_4 ?_
  refine v_wld hM dX6_comes_5 rfl (by omega) ?_
  refine x_top hw ?_
  refine x_istore dX6_comes_6 (by decide) rfl ?_
  refine x_aload_n dX6_comes_8 rfl ?_
  refine x_iload dX6_comes_9 rfl ?_
  refine x_ic0 dX6_comes_11 ?_
  refine x_iload_n dX6_comes_12 rfl ?_
  refine v_V3ve hM dX6_comes_13 kG_X6_X6_gives kP_X6_gives rfl (by omega) (by decide) (Nat.le_of_ble_eq_true rfl) (c_gives hM rfl rfl (by omega)) ?_
  refine x_aload_n dX6_comes_16 rfl ?_
  refine x_iload dX6_comes_17 rfl ?_
  refine x_ic1 dX6_comes_19 ?_
  refine x_iload_n dX6_comes_20 rfl ?_
  refine v_V3ve hM dX6_comes_21 kG_X6_X6_gives kP_X6_gives rfl (by omega) (by decide) (Nat.le_of_ble_eq_true rfl) (c_gives hM rfl rfl (by omega)) ?_
  refine x_aload_n dX6_comes_24 rfl ?_
  refine x_iload dX6_comes_25 rfl ?_
  refine x_ic2 dX6_comes_27 ?_
  refine x_iload_n dX6_comes_28 rfl ?_
  refine v_V3ve hM dX6_comes_29 kG_X6_X6_gives kP_X6_gives rfl (by omega) (by decide) (Nat.le_of_ble_eq_true rfl) (c_gives hM rfl rfl (by omega)) ?_
  refine x_aload_n dX6_comes_32 rfl ?_
  refine x_iload dX6_comes_33 rfl ?_
  refine x_ic3 dX6_comes_35 ?_
  refine x_ic0 dX6_comes_36 ?_
  refine v_V3ve hM dX6_comes_37 kG_X6_X6_gives kP_X6_gives rfl (by omega) (by decide) (Nat.le_of_ble_eq_true rfl) (c_gives hM rfl rfl (by omega)) ?_
  refine x_aload_n dX6_comes_40 rfl ?_
  refine x_iload dX6_comes_41 rfl ?_
  refine x_ic4 dX6_comes_43 ?_
  refine x_icm1 dX6_comes_44 ?_
  refine v_V3ve hM dX6_comes_45 kG_X6_X6_gives kP_X6_gives rfl (by omega) (by decide) (Nat.le_of_ble_eq_true rfl) (c_gives hM rfl rfl (by omega)) ?_
  refine x_aload_n dX6_comes_48 rfl ?_
  refine x_iload dX6_comes_49 rfl ?_
  refine x_ic5 dX6_comes_51 ?_
  refine x_icm1 dX6_comes_52 ?_
  refine v_V3ve hM dX6_comes_53 kG_X6_X6_gives kP_X6_gives rfl (by omega) (by decide) (Nat.le_of_ble_eq_true rfl) (c_gives hM rfl rfl (by omega)) ?_
  refine x_aload_n dX6_comes_56 rfl ?_
  refine x_iload dX6_comes_57 rfl ?_
  refine x_bipush (v := nI 6) dX6_comes_59 (by decide) ?_
  refine x_icm1 dX6_comes_61 ?_
  refine v_V3ve hM dX6_comes_62 kG_X6_X6_gives kP_X6_gives rfl (by omega) (by decide) (Nat.le_of_ble_eq_true rfl) (c_gives hM rfl rfl (by omega)) ?_
  refine x_aload_n dX6_comes_65 rfl ?_
  refine v_geta 0 hM dX6_comes_66 (by decide) rfl q1130 ?_
  refine x_ic2 dX6_comes_69 ?_
  refine x_dup2 dX6_comes_70 rfl rfl ?_
  refine v_wld hM dX6_comes_71 rfl (by omega) ?_
  refine x_top (w := nI n) (by rw [up_n (by omega), up_n (by omega), up_n (by omega), up_n (by omega), up_n (by omega), up_n (by omega), up_n (by omega)]; exact hw) ?_
  refine x_ic1 dX6_comes_72 ?_
  refine x_iaddN dX6_comes_73 ?_
  refine v_wst hM dX6_comes_74 rfl (by omega) ?_
  exact x_vret dX6_comes_75 rfl tv_v1
def onQ (w : Nat → Int32) (a b c : Int32) : Int32 × (Nat → Int32) := if w 3 ≤ a ∧ a ≤ nI 9999 then (if nI 0 ≤ b ∧ b ≤ w 0 - nI 1 then (if nI 0 ≤ c ∧ c ≤ w 0 - nI 1 then (if b = c then (-1, w) else if w 2 = nI 60 then (-1, w) else (w 2, cmW w (wN w 2) a b c)) else (-1, w)) else (-1, w)) else (-1, w)
theorem kG_X6_X6_comes : GoodIn lw_all (wsV RX6 259 RX6 yX6_comes (ws_ yX6_comes cX6_comes 5 (none))) := lw_V q1409 q1411 qs78 q124 q1412
theorem kP_X6_comes : kPar yX6_comes 3 := by decide +kernel
set_option maxHeartbeats 1000000 in
theorem c_one (hM : tw0 + 17 ≤ fc_nx M) {n : Nat} (hn : n ≤ 60) (hw : w 2 = nI n) {a b c : Int32} : fc_CX g l yX6_one cX6_one 4 (some .int) 3 [.ref (fc_B g + tw0), .int a, .int b, .int c] (tv g M T w) (tv_ie g M (onQ w a b c).1 T (onQ w a b c).2) := by
  refine fc_enter (by decide) (Nat.le_of_ble_eq_true rfl) rfl ?_
  refine x_iload_n dX6_one_0 rfl ?_
  refine x_aload_n dX6_one_1 rfl ?_
  refine v_geta 0 hM dX6_one_2 (by decide) rfl q1130 ?_
  refine x_ic3 dX6_one_5 ?_
  refine v_wld hM dX6_one_6 rfl (by omega) ?_
  refine x_sipush (v := nI 9999) dX6_one_7 (by decide) ?_
  refine v_S3ie dX6_one_10 kG_X6_X6_isIn kP_X6_isIn (by omega) (by decide) (Nat.le_of_ble_eq_true rfl) c_isIn ?_
  refine x_ifB_eq (tgt := 48) dX6_one_13 (by decide) (fun hc13 => ?_) (fun hc13 => ?_)
  · refine x_icm1 dX6_one_48 ?_
    refine x_iret dX6_one_49 rfl rfl (tv_i2 ?_ rfl ?_) <;> rw [onQ, if_neg hc13]
  · refine x_aload_n dX6_one_16 rfl ?_
    refine x_iload_n dX6_one_17 rfl ?_
    refine v_V1ie hM dX6_one_18 kG_X6_X6_isFloor kP_X6_isFloor rfl (by omega) (by decide) (Nat.le_of_ble_eq_true rfl) (c_isFloor hM) ?_
    refine x_ifB_eq (tgt := 48) dX6_one_21 (by decide) (fun hc21 => ?_) (fun hc21 => ?_)
    · refine x_icm1 dX6_one_48 ?_
      refine x_iret dX6_one_49 rfl rfl (tv_i2 ?_ rfl ?_) <;> rw [onQ, if_pos hc13, if_neg hc21]
    · refine x_aload_n dX6_one_24 rfl ?_
      refine x_iload_n dX6_one_25 rfl ?_
      refine v_V1ie hM dX6_one_26 kG_X6_X6_isFloor kP_X6_isFloor rfl (by omega) (by decide) (Nat.le_of_ble_eq_true rfl) (c_isFloor hM) ?_
      refine x_ifB_eq (tgt := 48) dX6_one_29 (by decide) (fun hc29 => ?_) (fun hc29 => ?_)
      · refine x_icm1 dX6_one_48 ?_
        refine x_iret dX6_one_49 rfl rfl (tv_i2 ?_ rfl ?_) <;> rw [onQ, if_pos hc13, if_pos hc21, if_neg hc29]
      · refine x_iload_n dX6_one_32 rfl ?_
        refine x_iload_n dX6_one_33 rfl ?_
        refine x_icmp_eq (tgt := 48) dX6_one_34 (by decide) (fun hc34 => ?_) (fun hc34 => ?_)
        · refine x_icm1 dX6_one_48 ?_
          refine x_iret dX6_one_49 rfl rfl (tv_i2 ?_ rfl ?_) <;> rw [onQ, if_pos hc13, if_pos hc21, if_pos hc29, if_pos hc34]
        · refine x_aload_n dX6_one_37 rfl ?_
          refine v_geta 0 hM dX6_one_38 (by decide) rfl q1130 ?_
          refine x_ic2 dX6_one_41 ?_
          refine v_wld hM dX6_one_42 rfl (by omega) ?_
          refine x_bipush (v := nI 60) dX6_one_43 (by decide) ?_
          refine x_icmp_ne (tgt := 50) dX6_one_45 (by decide) (fun hc45 => ?_) (fun hc45 => ?_)
          · refine x_aload_n dX6_one_50 rfl ?_
            refine x_iload_n dX6_one_51 rfl ?_
            refine x_iload_n dX6_one_52 rfl ?_
            refine x_iload_n dX6_one_53 rfl ?_
            have hn2 : n < 60 := by have : ¬ n = 60 := fun z => hc45 (by rw [hw, z]); omega
            refine v_V3ve hM dX6_one_54 kG_X6_X6_comes kP_X6_comes rfl (by omega) (by decide) (Nat.le_of_ble_eq_true rfl) (c_comes hM hn2 hw) ?_
            refine x_aload_n dX6_one_57 rfl ?_
            refine v_geta 0 hM dX6_one_58 (by decide) rfl q1130 ?_
            refine x_ic2 dX6_one_61 ?_
            refine v_wld hM dX6_one_62 rfl (by omega) ?_
            refine x_top (w := nI (n + 1)) up_s ?_
            refine x_ic1 dX6_one_63 ?_
            refine x_isubN dX6_one_64 (by omega) ?_
            have e : onQ w a b c = (w 2, cmW w (wN w 2) a b c) := by rw [onQ, if_pos hc13, if_pos hc21, if_pos hc29, if_neg hc34, if_neg hc45]
            rw [e]
            have e2 : wN w 2 = n := by rw [wN, hw, nI_clamp (by omega)]
            rw [e2]
            exact x_iret dX6_one_65 rfl rfl (tv_i2 (by rw [hw, Nat.add_sub_cancel]) rfl rfl)
          · refine x_icm1 dX6_one_48 ?_
            refine x_iret dX6_one_49 rfl rfl (tv_i2 ?_ rfl ?_) <;> rw [onQ, if_pos hc13, if_pos hc21, if_pos hc29, if_neg hc34, if_pos hc45]
def toL (c n : Nat) : Nat → Nat → (Nat → Int32) → (Nat → Int32)
  | 0, _, w => w
  | k + 1, i, w => if i < n then toL c n k (i + 1) (if w (820 + 8 * i + 3) = nI 1 then (if w (820 + 8 * i + 4) = nI c then up w (820 + 8 * i + 4) (-1) else w) else w) else w
def tkW (w : Nat → Int32) (c n : Nat) : Nat → Int32 := toL c n (n + 1) 0 (up (up (up w (10 + 20 * c + 1) (nI 0)) (10 + 20 * c + 2) (nI 0)) (10 + 20 * c + 3) (nI 0))
set_option maxHeartbeats 1000000 in
theorem l_takesOut {n0 s0 : Nat} (hM : tw0 + 17 ≤ fc_nx M) {n c : Nat} (hn : n ≤ 60) (hc : c < 4) : ∀ (k i : Nat) (w : Nat → Int32), w 2 = nI n → i ≤ n → n < i + k → fc_X g l yX6_takesOut cX6_takesOut 3 (none) 2 n0 s0 (tv g M T w) 23 [some (.ref (fc_B g + tw0)), some (.int (nI c)), some (.int (nI i))] [] (tv_ve g M T (toL c n k i w)) := by
  intro k
  induction k with
  | zero => intro i w hw h1 h2; omega
  | succ k ih =>
    intro i w hw h1 h2
    refine x_iload_n dX6_takesOut_23 rfl ?_
    refine x_aload_n dX6_takesOut_24 rfl ?_
    refine v_geta 0 hM dX6_takesOut_25 (by decide) rfl q1130 ?_
    refine x_ic2 dX6_takesOut_28 ?_
    refine v_wld hM dX6_takesOut_29 rfl (by omega) ?_
    refine x_top hw ?_
    refine x_icmpN_ge (tgt := 66) dX6_takesOut_30 (by decide) (by omega) (by omega) (fun hc30 => ?_) (fun hc30 => ?_)
    · refine x_vret dX6_takesOut_66 rfl (tv_v2 rfl ?_)
      rw [toL, if_neg (Nat.not_lt.mpr hc30)]
    · refine x_aload_n dX6_takesOut_33 rfl ?_
      refine x_iload_n dX6_takesOut_34 rfl ?_
      refine x_ic3 dX6_takesOut_35 ?_
      refine v_V2ie hM dX6_takesOut_36 kG_X6_X6_own kP_X6_own rfl (by omega) (by decide) (Nat.le_of_ble_eq_true rfl) (c_own hM rfl rfl (by omega)) ?_
      refine x_ic1 dX6_takesOut_39 ?_
      refine x_icmp_ne (tgt := 60) dX6_takesOut_40 (by decide) (fun hc40 => ?_) (fun hc40 => ?_)
      · refine x_iincN (n := 1) dX6_takesOut_60 (by decide) rfl (by decide) rfl ?_
        refine x_goto (tgt := 23) dX6_takesOut_63 (by decide) ?_
        rw [toL, if_pos hc30, if_neg hc40]
        exact ih (i + 1) _ hw (by omega) (by omega)
      · refine x_aload_n dX6_takesOut_43 rfl ?_
        refine x_iload_n dX6_takesOut_44 rfl ?_
        refine x_ic4 dX6_takesOut_45 ?_
        refine v_V2ie hM dX6_takesOut_46 kG_X6_X6_own kP_X6_own rfl (by omega) (by decide) (Nat.le_of_ble_eq_true rfl) (c_own hM rfl rfl (by omega)) ?_
        refine x_iload_n dX6_takesOut_49 rfl ?_
        refine x_icmp_ne (tgt := 60) dX6_takesOut_50 (by decide) (fun hc50 => ?_) (fun hc50 => ?_)
        · refine x_iincN (n := 1) dX6_takesOut_60 (by decide) rfl (by decide) rfl ?_
          refine x_goto (tgt := 23) dX6_takesOut_63 (by decide) ?_
          rw [toL, if_pos hc30, if_pos hc40, if_neg hc50]
          exact ih (i + 1) _ hw (by omega) (by omega)
        · refine x_aload_n dX6_takesOut_53 rfl ?_
          refine x_iload_n dX6_takesOut_54 rfl ?_
          refine x_ic4 dX6_takesOut_55 ?_
          refine x_icm1 dX6_takesOut_56 ?_
          refine v_V3ve hM dX6_takesOut_57 kG_X6_X6_gives kP_X6_gives rfl (by omega) (by decide) (Nat.le_of_ble_eq_true rfl) (c_gives hM rfl rfl (by omega)) ?_
          refine x_iincN (n := 1) dX6_takesOut_60 (by decide) rfl (by decide) rfl ?_
          refine x_goto (tgt := 23) dX6_takesOut_63 (by decide) ?_
          rw [toL, if_pos hc30, if_pos hc40, if_pos hc50]
          exact ih (i + 1) _ (by rw [up_n (by omega)]; exact hw) (by omega) (by omega)
set_option maxHeartbeats 1000000 in
theorem c_takesOut (hM : tw0 + 17 ≤ fc_nx M) {n c : Nat} (hn : n ≤ 60) (hw : w 2 = nI n) (hc : c < 4) {x : Int32} (hx : x = nI c) : fc_CX g l yX6_takesOut cX6_takesOut 3 (none) 2 [.ref (fc_B g + tw0), .int x] (tv g M T w) (tv_ve g M T (tkW w c n)) := by
  refine fc_enter (by decide) (Nat.le_of_ble_eq_true rfl) rfl ?_
  subst hx
  refine x_aload_n dX6_takesOut_0 rfl ?_
  refine x_iload_n dX6_takesOut_1 rfl ?_
  refine x_ic1 dX6_takesOut_2 ?_
  refine x_ic0 dX6_takesOut_3 ?_
  refine v_V3ve hM dX6_takesOut_4 kG_X6_X6_sets kP_X6_sets rfl (by omega) (by decide) (Nat.le_of_ble_eq_true rfl) (c_sets hM rfl rfl (by omega)) ?_
  refine x_aload_n dX6_takesOut_7 rfl ?_
  refine x_iload_n dX6_takesOut_8 rfl ?_
  refine x_ic2 dX6_takesOut_9 ?_
  refine x_ic0 dX6_takesOut_10 ?_
  refine v_V3ve hM dX6_takesOut_11 kG_X6_X6_sets kP_X6_sets rfl (by omega) (by decide) (Nat.le_of_ble_eq_true rfl) (c_sets hM rfl rfl (by omega)) ?_
  refine x_aload_n dX6_takesOut_14 rfl ?_
  refine x_iload_n dX6_takesOut_15 rfl ?_
  refine x_ic3 dX6_takesOut_16 ?_
  refine x_ic0 dX6_takesOut_17 ?_
  refine v_V3ve hM dX6_takesOut_18 kG_X6_X6_sets kP_X6_sets rfl (by omega) (by decide) (Nat.le_of_ble_eq_true rfl) (c_sets hM rfl rfl (by omega)) ?_
  refine x_ic0 dX6_takesOut_21 ?_
  refine x_istore_n dX6_takesOut_22 (by decide) rfl ?_
  exact l_takesOut hM hn hc (n + 1) 0 _ (by rw [up_n (by omega), up_n (by omega), up_n (by omega)]; exact hw) (by omega) (by omega)
set_option maxHeartbeats 1000000 in
theorem c_fault (hM : tw0 + 17 ≤ fc_nx M) {x : Int32} : fc_CX g l yX6_fault cX6_fault 2 (some .int) 1 [.ref (fc_B g + tw0), .int x] (tv g M T w) (tv_ie g M (if x = 0 then T 0 23 else if x = nI 1 then T 0 25 else -1) T w) := by
  refine fc_enter (by decide) (Nat.le_of_ble_eq_true rfl) rfl ?_
  refine x_iload_n dX6_fault_0 rfl ?_
  refine x_if_ne (tgt := 11) dX6_fault_1 (by decide) (fun hc1 => ?_) (fun hc1 => ?_)
  · refine x_iload_n dX6_fault_11 rfl ?_
    refine x_ic1 dX6_fault_12 ?_
    refine x_icmp_ne (tgt := 23) dX6_fault_13 (by decide) (fun hc13 => ?_) (fun hc13 => ?_)
    · refine x_icm1 dX6_fault_23 ?_
      refine x_iret dX6_fault_24 rfl rfl (tv_i2 ?_ rfl rfl)
      rw [if_neg hc1, if_neg hc13]
    · refine x_aload_n dX6_fault_16 rfl ?_
      refine v_geti 25 hM dX6_fault_17 (by decide) rfl q1155 ?_
      refine x_goto (tgt := 24) dX6_fault_20 (by decide) ?_
      refine x_iret dX6_fault_24 rfl rfl (tv_i2 ?_ rfl rfl)
      rw [if_neg hc1, if_pos hc13]
  · refine x_aload_n dX6_fault_4 rfl ?_
    refine v_geti 23 hM dX6_fault_5 (by decide) rfl q1153 ?_
    refine x_goto (tgt := 24) dX6_fault_8 (by decide) ?_
    refine x_iret dX6_fault_24 rfl rfl (tv_i2 ?_ rfl rfl)
    rw [if_pos hc1]
set_option maxHeartbeats 1000000 in
theorem c_end (hM : tw0 + 17 ≤ fc_nx M) {x : Int32} : fc_CX g l yX6_end cX6_end 2 (some .boolean) 2 [.ref (fc_B g + tw0), .int x] (tv g M T w) (tv_ie g M (bI (nI 0 ≤ x ∧ x ≤ T 0 16)) (if nI 0 ≤ x ∧ x ≤ T 0 16 then tu T 0 16 x else T) w) := by
  refine fc_enter (by decide) (Nat.le_of_ble_eq_true rfl) rfl ?_
  refine x_iload_n dX6_end_0 rfl ?_
  refine x_ic0 dX6_end_1 ?_
  refine x_aload_n dX6_end_2 rfl ?_
  refine v_geti 16 hM dX6_end_3 (by decide) rfl q1146 ?_
  refine v_S3ie dX6_end_6 kG_X6_X6_isIn kP_X6_isIn (by omega) (by decide) (Nat.le_of_ble_eq_true rfl) c_isIn ?_
  refine x_ifB_ne (tgt := 14) dX6_end_9 (by decide) (fun hc9 => ?_) (fun hc9 => ?_)
  · refine x_aload_n dX6_end_14 rfl ?_
    refine x_iload_n dX6_end_15 rfl ?_
    refine v_puti 16 hM dX6_end_16 (by decide) rfl q1146 rfl rfl rfl ?_
    refine x_ic1 dX6_end_19 ?_
    refine x_iret dX6_end_20 rfl (by rfl) (tv_i2 ?_ ?_ rfl)
    · first | exact (bI_t hc9).symm | exact (bI_f hc9).symm
    · rw [if_pos hc9]
  · refine x_ic0 dX6_end_12 ?_
    refine x_iret dX6_end_13 rfl (by rfl) (tv_i2 ?_ ?_ rfl)
    · first | exact (bI_t hc9).symm | exact (bI_f hc9).symm
    · rw [if_neg hc9]
end T47
