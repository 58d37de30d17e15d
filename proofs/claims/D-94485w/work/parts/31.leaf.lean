set_option maxRecDepth 100000
section T31
variable {g : fc_G} {l : Launch} {M : fc_M} {T : tT} {w : Nat → Int32}
set_option maxHeartbeats 4000000 in
theorem c_isIn {a b c : Int32} : fc_CX g l yX6_isIn cX6_isIn 3 (some .boolean) 1 [.int a, .int b, .int c] (tv g M T w) (tv_ie g M (bI (b ≤ a ∧ a ≤ c)) T w) := by
  refine fc_enter (by decide) (Nat.le_of_ble_eq_true rfl) rfl ?_
  refine x_iload_n dX6_isIn_0 rfl ?_
  refine x_iload_n dX6_isIn_1 rfl ?_
  refine x_icmp_lt (tgt := 14) dX6_isIn_2 (by decide) (fun hc2 => ?_) (fun hc2 => ?_)
  · refine x_ic0 dX6_isIn_14 ?_
    first | exact x_iret dX6_isIn_15 rfl (by rfl) (tv_i2 (bI_f (fun z => Int32.not_le.mpr hc2 z.1)).symm rfl rfl) | exact x_iret dX6_isIn_15 rfl (by rfl) (tv_i2 (bI_f (fun z => Int32.not_le.mpr hc7 z.2)).symm rfl rfl) | exact x_iret dX6_isIn_15 rfl (by rfl) (tv_i2 (bI_t ⟨Int32.not_lt.mp hc2, Int32.not_lt.mp hc7⟩).symm rfl rfl)
  · refine x_iload_n dX6_isIn_5 rfl ?_
    refine x_iload_n dX6_isIn_6 rfl ?_
    refine x_icmp_gt (tgt := 14) dX6_isIn_7 (by decide) (fun hc7 => ?_) (fun hc7 => ?_)
    · refine x_ic0 dX6_isIn_14 ?_
      first | exact x_iret dX6_isIn_15 rfl (by rfl) (tv_i2 (bI_f (fun z => Int32.not_le.mpr hc2 z.1)).symm rfl rfl) | exact x_iret dX6_isIn_15 rfl (by rfl) (tv_i2 (bI_f (fun z => Int32.not_le.mpr hc7 z.2)).symm rfl rfl) | exact x_iret dX6_isIn_15 rfl (by rfl) (tv_i2 (bI_t ⟨Int32.not_lt.mp hc2, Int32.not_lt.mp hc7⟩).symm rfl rfl)
    · refine x_ic1 dX6_isIn_10 ?_
      refine x_goto (tgt := 15) dX6_isIn_11 (by decide) ?_
      first | exact x_iret dX6_isIn_15 rfl (by rfl) (tv_i2 (bI_f (fun z => Int32.not_le.mpr hc2 z.1)).symm rfl rfl) | exact x_iret dX6_isIn_15 rfl (by rfl) (tv_i2 (bI_f (fun z => Int32.not_le.mpr hc7 z.2)).symm rfl rfl) | exact x_iret dX6_isIn_15 rfl (by rfl) (tv_i2 (bI_t ⟨Int32.not_lt.mp hc2, Int32.not_lt.mp hc7⟩).symm rfl rfl)
set_option maxHeartbeats 4000000 in
theorem c_apart {a b : Int32} : fc_CX g l yX6_apart cX6_apart 2 (some .int) 1 [.int a, .int b] (tv g M T w) (tv_ie g M (if b < a then a - b else b - a) T w) := by
  refine fc_enter (by decide) (Nat.le_of_ble_eq_true rfl) rfl ?_
  refine x_iload_n dX6_apart_0 rfl ?_
  refine x_iload_n dX6_apart_1 rfl ?_
  refine x_icmp_le (tgt := 11) dX6_apart_2 (by decide) (fun hc2 => ?_) (fun hc2 => ?_)
  · refine x_iload_n dX6_apart_11 rfl ?_
    refine x_iload_n dX6_apart_12 rfl ?_
    refine x_isub dX6_apart_13 ?_
    first | exact x_iret dX6_apart_14 rfl (by rfl) (tv_i2 (if_neg (Int32.not_lt.mpr hc2)).symm rfl rfl) | exact x_iret dX6_apart_14 rfl (by rfl) (tv_i2 (if_pos (Int32.not_le.mp hc2)).symm rfl rfl)
  · refine x_iload_n dX6_apart_5 rfl ?_
    refine x_iload_n dX6_apart_6 rfl ?_
    refine x_isub dX6_apart_7 ?_
    refine x_goto (tgt := 14) dX6_apart_8 (by decide) ?_
    first | exact x_iret dX6_apart_14 rfl (by rfl) (tv_i2 (if_neg (Int32.not_lt.mpr hc2)).symm rfl rfl) | exact x_iret dX6_apart_14 rfl (by rfl) (tv_i2 (if_pos (Int32.not_le.mp hc2)).symm rfl rfl)
set_option maxHeartbeats 4000000 in
theorem c_ofCar (hM : tw0 + 17 ≤ fc_nx M) {x f : Int32} {c k : Nat} (hx : x = nI c) (hf : f = nI k) (h : 10 + 20 * c + k < 3970) : fc_CX g l yX6_ofCar cX6_ofCar 3 (some .int) 1 [.ref (fc_B g + tw0), .int x, .int f] (tv g M T w) (tv_ie g M (w (10 + 20 * c + k)) T w) := by
  refine fc_enter (by decide) (Nat.le_of_ble_eq_true rfl) rfl ?_
  subst hx
  subst hf
  refine x_aload_n dX6_ofCar_0 rfl ?_
  refine v_geta 0 hM dX6_ofCar_1 (by decide) rfl q1130 ?_
  refine x_bipush (v := nI 10) dX6_ofCar_4 (by decide) ?_
  refine x_bipush (v := nI 20) dX6_ofCar_6 (by decide) ?_
  refine x_iload_n dX6_ofCar_8 rfl ?_
  refine x_imulN dX6_ofCar_9 ?_
  refine x_iaddN dX6_ofCar_10 ?_
  refine x_iload_n dX6_ofCar_11 rfl ?_
  refine x_iaddN dX6_ofCar_12 ?_
  refine v_wld hM dX6_ofCar_13 rfl (by omega) ?_
  exact x_iret dX6_ofCar_14 rfl rfl tv_i1
set_option maxHeartbeats 4000000 in
theorem c_own (hM : tw0 + 17 ≤ fc_nx M) {x f : Int32} {p k : Nat} (hx : x = nI p) (hf : f = nI k) (h : 820 + 8 * p + k < 3970) : fc_CX g l yX6_own cX6_own 3 (some .int) 1 [.ref (fc_B g + tw0), .int x, .int f] (tv g M T w) (tv_ie g M (w (820 + 8 * p + k)) T w) := by
  refine fc_enter (by decide) (Nat.le_of_ble_eq_true rfl) rfl ?_
  subst hx
  subst hf
  refine x_aload_n dX6_own_0 rfl ?_
  refine v_geta 0 hM dX6_own_1 (by decide) rfl q1130 ?_
  refine x_sipush (v := nI 820) dX6_own_4 (by decide) ?_
  refine x_bipush (v := nI 8) dX6_own_7 (by decide) ?_
  refine x_iload_n dX6_own_9 rfl ?_
  refine x_imulN dX6_own_10 ?_
  refine x_iaddN dX6_own_11 ?_
  refine x_iload_n dX6_own_12 rfl ?_
  refine x_iaddN dX6_own_13 ?_
  refine v_wld hM dX6_own_14 rfl (by omega) ?_
  exact x_iret dX6_own_15 rfl rfl tv_i1
set_option maxHeartbeats 4000000 in
theorem c_sets (hM : tw0 + 17 ≤ fc_nx M) {x f v : Int32} {c k : Nat} (hx : x = nI c) (hf : f = nI k) (h : 10 + 20 * c + k < 3970) : fc_CX g l yX6_sets cX6_sets 4 (none) 1 [.ref (fc_B g + tw0), .int x, .int f, .int v] (tv g M T w) (tv_ve g M T (up w (10 + 20 * c + k) v)) := by
  refine fc_enter (by decide) (Nat.le_of_ble_eq_true rfl) rfl ?_
  subst hx
  subst hf
  refine x_aload_n dX6_sets_0 rfl ?_
  refine v_geta 0 hM dX6_sets_1 (by decide) rfl q1130 ?_
  refine x_bipush (v := nI 10) dX6_sets_4 (by decide) ?_
  refine x_bipush (v := nI 20) dX6_sets_6 (by decide) ?_
  refine x_iload_n dX6_sets_8 rfl ?_
  refine x_imulN dX6_sets_9 ?_
  refine x_iaddN dX6_sets_10 ?_
  refine x_iload_n dX6_sets_11 rfl ?_
  refine x_iaddN dX6_sets_12 ?_
  refine x_iload_n dX6_sets_13 rfl ?_
  refine v_wst hM dX6_sets_14 rfl (by omega) ?_
  exact x_vret dX6_sets_15 rfl tv_v1
set_option maxHeartbeats 4000000 in
theorem c_gives (hM : tw0 + 17 ≤ fc_nx M) {x f v : Int32} {p k : Nat} (hx : x = nI p) (hf : f = nI k) (h : 820 + 8 * p + k < 3970) : fc_CX g l yX6_gives cX6_gives 4 (none) 1 [.ref (fc_B g + tw0), .int x, .int f, .int v] (tv g M T w) (tv_ve g M T (up w (820 + 8 * p + k) v)) := by
  refine fc_enter (by decide) (Nat.le_of_ble_eq_true rfl) rfl ?_
  subst hx
  subst hf
  refine x_aload_n dX6_gives_0 rfl ?_
  refine v_geta 0 hM dX6_gives_1 (by decide) rfl q1130 ?_
  refine x_sipush (v := nI 820) dX6_gives_4 (by decide) ?_
  refine x_bipush (v := nI 8) dX6_gives_7 (by decide) ?_
  refine x_iload_n dX6_gives_9 rfl ?_
  refine x_imulN dX6_gives_10 ?_
  refine x_iaddN dX6_gives_11 ?_
  refine x_iload_n dX6_gives_12 rfl ?_
  refine x_iaddN dX6_gives_13 ?_
  refine x_iload_n dX6_gives_14 rfl ?_
  refine v_wst hM dX6_gives_15 rfl (by omega) ?_
  exact x_vret dX6_gives_16 rfl tv_v1
set_option maxHeartbeats 4000000 in
theorem c_serves (hM : tw0 + 17 ≤ fc_nx M) {x f : Int32} {c k : Nat} (hx : x = nI c) (hf : f = nI k) (h : 100 + 80 * c + k < 3970) : fc_CX g l yX6_serves cX6_serves 3 (some .boolean) 1 [.ref (fc_B g + tw0), .int x, .int f] (tv g M T w) (tv_ie g M (bI (w (100 + 80 * c + k) = nI 1)) T w) := by
  refine fc_enter (by decide) (Nat.le_of_ble_eq_true rfl) rfl ?_
  subst hx
  subst hf
  refine x_aload_n dX6_serves_0 rfl ?_
  refine v_geta 0 hM dX6_serves_1 (by decide) rfl q1130 ?_
  refine x_bipush (v := nI 100) dX6_serves_4 (by decide) ?_
  refine x_bipush (v := nI 80) dX6_serves_6 (by decide) ?_
  refine x_iload_n dX6_serves_8 rfl ?_
  refine x_imulN dX6_serves_9 ?_
  refine x_iaddN dX6_serves_10 ?_
  refine x_iload_n dX6_serves_11 rfl ?_
  refine x_iaddN dX6_serves_12 ?_
  refine v_wld hM dX6_serves_13 rfl (by omega) ?_
  refine x_ic1 dX6_serves_14 ?_
  refine x_icmp_ne (tgt := 22) dX6_serves_15 (by decide) (fun hc15 => ?_) (fun hc15 => ?_)
  · refine x_ic0 dX6_serves_22 ?_
    exact x_iret dX6_serves_23 rfl (by rfl) (tv_i2 (by simp_all [bI]) rfl rfl)
  · refine x_ic1 dX6_serves_18 ?_
    refine x_goto (tgt := 23) dX6_serves_19 (by decide) ?_
    exact x_iret dX6_serves_23 rfl (by rfl) (tv_i2 (by simp_all [bI]) rfl rfl)
set_option maxHeartbeats 4000000 in
theorem c_weight (hM : tw0 + 17 ≤ fc_nx M) {f : Int32} {k : Nat} (hf : f = nI k) (h : 740 + k < 3970) : fc_CX g l yX6_weight cX6_weight 2 (some .int) 1 [.ref (fc_B g + tw0), .int f] (tv g M T w) (tv_ie g M (w (740 + k)) T w) := by
  refine fc_enter (by decide) (Nat.le_of_ble_eq_true rfl) rfl ?_
  subst hf
  refine x_aload_n dX6_weight_0 rfl ?_
  refine v_geta 0 hM dX6_weight_1 (by decide) rfl q1130 ?_
  refine x_sipush (v := nI 740) dX6_weight_4 (by decide) ?_
  refine x_iload_n dX6_weight_7 rfl ?_
  refine x_iaddN dX6_weight_8 ?_
  refine v_wld hM dX6_weight_9 rfl (by omega) ?_
  exact x_iret dX6_weight_10 rfl rfl tv_i1
theorem kG_X6_X6_isIn : GoodIn lw_all (va_wsS RX6 66 yX6_isIn (ws_ yX6_isIn cX6_isIn 3 (some .boolean))) := lw_S q1256 q1257 q124 q1258
theorem kP_X6_isIn : kPar yX6_isIn 3 := by decide +kernel
set_option maxHeartbeats 4000000 in
theorem c_isFloor (hM : tw0 + 17 ≤ fc_nx M) {f : Int32} : fc_CX g l yX6_isFloor cX6_isFloor 2 (some .boolean) 2 [.ref (fc_B g + tw0), .int f] (tv g M T w) (tv_ie g M (bI (nI 0 ≤ f ∧ f ≤ w 0 - nI 1)) T w) := by
  refine fc_enter (by decide) (Nat.le_of_ble_eq_true rfl) rfl ?_
  refine x_iload_n dX6_isFloor_0 rfl ?_
  refine x_ic0 dX6_isFloor_1 ?_
  refine x_aload_n dX6_isFloor_2 rfl ?_
  refine v_geta 0 hM dX6_isFloor_3 (by decide) rfl q1130 ?_
  refine x_ic0 dX6_isFloor_6 ?_
  refine v_wld hM dX6_isFloor_7 rfl (by omega) ?_
  refine x_ic1 dX6_isFloor_8 ?_
  refine x_isub dX6_isFloor_9 ?_
  refine v_S3ie dX6_isFloor_10 kG_X6_X6_isIn kP_X6_isIn (by omega) (by decide) (Nat.le_of_ble_eq_true rfl) c_isIn ?_
  exact x_iret dX6_isFloor_13 rfl bI_nar tv_i1
set_option maxHeartbeats 4000000 in
theorem c_isCar (hM : tw0 + 17 ≤ fc_nx M) {f : Int32} : fc_CX g l yX6_isCar cX6_isCar 2 (some .boolean) 2 [.ref (fc_B g + tw0), .int f] (tv g M T w) (tv_ie g M (bI (nI 0 ≤ f ∧ f ≤ w 1 - nI 1)) T w) := by
  refine fc_enter (by decide) (Nat.le_of_ble_eq_true rfl) rfl ?_
  refine x_iload_n dX6_isCar_0 rfl ?_
  refine x_ic0 dX6_isCar_1 ?_
  refine x_aload_n dX6_isCar_2 rfl ?_
  refine v_geta 0 hM dX6_isCar_3 (by decide) rfl q1130 ?_
  refine x_ic1 dX6_isCar_6 ?_
  refine v_wld hM dX6_isCar_7 rfl (by omega) ?_
  refine x_ic1 dX6_isCar_8 ?_
  refine x_isub dX6_isCar_9 ?_
  refine v_S3ie dX6_isCar_10 kG_X6_X6_isIn kP_X6_isIn (by omega) (by decide) (Nat.le_of_ble_eq_true rfl) c_isIn ?_
  exact x_iret dX6_isCar_13 rfl bI_nar tv_i1
set_option maxHeartbeats 4000000 in
theorem c_isOne (hM : tw0 + 17 ≤ fc_nx M) {f : Int32} : fc_CX g l yX6_isOne cX6_isOne 2 (some .boolean) 2 [.ref (fc_B g + tw0), .int f] (tv g M T w) (tv_ie g M (bI (nI 0 ≤ f ∧ f ≤ w 2 - nI 1)) T w) := by
  refine fc_enter (by decide) (Nat.le_of_ble_eq_true rfl) rfl ?_
  refine x_iload_n dX6_isOne_0 rfl ?_
  refine x_ic0 dX6_isOne_1 ?_
  refine x_aload_n dX6_isOne_2 rfl ?_
  refine v_geta 0 hM dX6_isOne_3 (by decide) rfl q1130 ?_
  refine x_ic2 dX6_isOne_6 ?_
  refine v_wld hM dX6_isOne_7 rfl (by omega) ?_
  refine x_ic1 dX6_isOne_8 ?_
  refine x_isub dX6_isOne_9 ?_
  refine v_S3ie dX6_isOne_10 kG_X6_X6_isIn kP_X6_isIn (by omega) (by decide) (Nat.le_of_ble_eq_true rfl) c_isIn ?_
  exact x_iret dX6_isOne_13 rfl bI_nar tv_i1
theorem kG_X6_X6_own : GoodIn lw_all (wsV RX6 271 RX6 yX6_own (ws_ yX6_own cX6_own 3 (some .int))) := lw_V q1429 q1431 qs82 q124 q1432
theorem kP_X6_own : kPar yX6_own 2 := by decide +kernel
set_option maxHeartbeats 4000000 in
theorem c_wayOf (hM : tw0 + 17 ≤ fc_nx M) {x : Int32} {p : Nat} (hx : x = nI p) (h : p < 60) : fc_CX g l yX6_wayOf cX6_wayOf 2 (some .int) 2 [.ref (fc_B g + tw0), .int x] (tv g M T w) (tv_ie g M (if w (820 + 8 * p + 1) < w (820 + 8 * p + 2) then nI 1 else -1) T w) := by
  refine fc_enter (by decide) (Nat.le_of_ble_eq_true rfl) rfl ?_
  subst hx
  refine x_aload_n dX6_wayOf_0 rfl ?_
  refine x_iload_n dX6_wayOf_1 rfl ?_
  refine x_ic2 dX6_wayOf_2 ?_
  refine v_V2ie hM dX6_wayOf_3 kG_X6_X6_own kP_X6_own rfl (by omega) (by decide) (Nat.le_of_ble_eq_true rfl) (c_own hM rfl rfl (by omega)) ?_
  refine x_aload_n dX6_wayOf_6 rfl ?_
  refine x_iload_n dX6_wayOf_7 rfl ?_
  refine x_ic1 dX6_wayOf_8 ?_
  refine v_V2ie hM dX6_wayOf_9 kG_X6_X6_own kP_X6_own rfl (by omega) (by decide) (Nat.le_of_ble_eq_true rfl) (c_own hM rfl rfl (by omega)) ?_
  refine x_icmp_le (tgt := 19) dX6_wayOf_12 (by decide) (fun hc12 => ?_) (fun hc12 => ?_)
  · refine x_icm1 dX6_wayOf_19 ?_
    first | exact x_iret dX6_wayOf_20 rfl rfl (tv_i2 (if_neg (Int32.not_lt.mpr hc12)).symm rfl rfl) | exact x_iret dX6_wayOf_20 rfl rfl (tv_i2 (if_pos (Int32.not_le.mp hc12)).symm rfl rfl)
  · refine x_ic1 dX6_wayOf_15 ?_
    refine x_goto (tgt := 20) dX6_wayOf_16 (by decide) ?_
    first | exact x_iret dX6_wayOf_20 rfl rfl (tv_i2 (if_neg (Int32.not_lt.mpr hc12)).symm rfl rfl) | exact x_iret dX6_wayOf_20 rfl rfl (tv_i2 (if_pos (Int32.not_le.mp hc12)).symm rfl rfl)
set_option maxHeartbeats 4000000 in
theorem c_over (hM : tw0 + 17 ≤ fc_nx M) {x : Int32} {p : Nat} (hx : x = nI p) (h : p < 60) : fc_CX g l yX6_over cX6_over 2 (some .int) 2 [.ref (fc_B g + tw0), .int x] (tv g M T w) (tv_ie g M (w (820 + 8 * p + 6) - w (820 + 8 * p + 0)) T w) := by
  refine fc_enter (by decide) (Nat.le_of_ble_eq_true rfl) rfl ?_
  subst hx
  refine x_aload_n dX6_over_0 rfl ?_
  refine x_iload_n dX6_over_1 rfl ?_
  refine x_bipush (v := nI 6) dX6_over_2 (by decide) ?_
  refine v_V2ie hM dX6_over_4 kG_X6_X6_own kP_X6_own rfl (by omega) (by decide) (Nat.le_of_ble_eq_true rfl) (c_own hM rfl rfl (by omega)) ?_
  refine x_aload_n dX6_over_7 rfl ?_
  refine x_iload_n dX6_over_8 rfl ?_
  refine x_ic0 dX6_over_9 ?_
  refine v_V2ie hM dX6_over_10 kG_X6_X6_own kP_X6_own rfl (by omega) (by decide) (Nat.le_of_ble_eq_true rfl) (c_own hM rfl rfl (by omega)) ?_
  refine x_isub dX6_over_13 ?_
  exact x_iret dX6_over_14 rfl rfl tv_i1
end T31
