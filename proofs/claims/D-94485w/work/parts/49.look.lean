set_option maxRecDepth 100000
section T49
variable {g : fc_G} {l : Launch} {M : fc_M} {T : tT} {w : Nat → Int32}
def coQ (w : Nat → Int32) (n : Nat) (x1 x2 x3 : Int32) : Int32 := if nI 0 ≤ x1 ∧ x1 ≤ w 2 - nI 1 then (if w (820 + 8 * x1.toNatClampNeg + 3) = nI 1 then (if nI 0 ≤ x2 ∧ x2 ≤ w 1 - nI 1 then (if nI 0 ≤ x3 ∧ x3 ≤ nI 2 then (match tlW w x1.toNatClampNeg x2.toNatClampNeg n x3.toNatClampNeg (nlW w x3.toNatClampNeg) with
    | none => -100000000
    | some v => v) else -100000000) else -100000000) else -100000000) else -100000000
def prQ (w : Nat → Int32) (x1 x2 : Int32) : Int32 := if nI 0 ≤ x1 ∧ x1 ≤ w 2 - nI 1 then (if nI 0 ≤ x2 ∧ x2 ≤ nI 6 then (if x2.toNatClampNeg < 5 then w (820 + 8 * x1.toNatClampNeg + x2.toNatClampNeg) else if x2.toNatClampNeg = 5 then (if w (820 + 8 * x1.toNatClampNeg + 5) = -1 then -1 else w (820 + 8 * x1.toNatClampNeg + 5) - w (820 + 8 * x1.toNatClampNeg + 0)) else (if w (820 + 8 * x1.toNatClampNeg + 6) = -1 then -1 else w (820 + 8 * x1.toNatClampNeg + 6) - w (820 + 8 * x1.toNatClampNeg + 5))) else -2) else -2
def crS (w : Nat → Int32) (c n : Nat) : Nat → Int32
  | 4 => nI (cnt (rdp w 2 (nI c)) n)
  | 5 => nI (cnt (rdp w 1 (nI c)) n)
  | 6 => w (10 + 20 * c + 4)
  | 7 => w (10 + 20 * c + 5)
  | 8 => w (10 + 20 * c + 6)
  | 9 => w (10 + 20 * c + 7)
  | 10 => w (10 + 20 * c + 8)
  | 11 => w (10 + 20 * c + 9)
  | j => w (10 + 20 * c + j)
def crQ (w : Nat → Int32) (n : Nat) (x1 x2 : Int32) : Int32 := if nI 0 ≤ x1 ∧ x1 ≤ w 1 - nI 1 then (if nI 100 ≤ x2 ∧ x2 ≤ nI 99 + w 0 then bI (w (100 + 80 * x1.toNatClampNeg + (x2.toNatClampNeg - 100)) = nI 1) else if inN x2 12 then crS w x1.toNatClampNeg n x2.toNatClampNeg else -2) else -2
def lkQ (w : Nat → Int32) (n : Nat) (x : Int32) : Int32 := if nI 0 ≤ x ∧ x ≤ nI 4 then w x.toNatClampNeg else if x = nI 5 then nI (cnt (stp w 1) n) else if x = nI 6 then nI (cnt (stp w 2) n) else if nI 10 ≤ x ∧ x ≤ nI 12 then w (1300 + x.toNatClampNeg - 10) else if x = nI 13 then w 5 else if nI 100 ≤ x ∧ x ≤ nI 99 + w 0 then w (740 + (x.toNatClampNeg - 100)) else -1
theorem GI.up99 {w : Nat → Int32} {n f nC : Nat} (h : GI w n f nC) {x : Int32} (hx : nI 100 ≤ x ∧ x ≤ nI 99 + w 0) : ∃ k, 100 ≤ k ∧ k ≤ 99 + f ∧ x = nI k := by
  rw [h.2.1, nI_add] at hx
  exact nI_between (by have := h.1.2.1; omega) hx (by decide)
theorem kG_X6_X6_isOne : GoodIn lw_all (wsV RX6 291 RX6 yX6_isOne (ws_ yX6_isOne cX6_isOne 2 (some .boolean))) := lw_V q1437 q1439 qs83 q124 q1440
theorem kP_X6_isOne : kPar yX6_isOne 1 := by decide +kernel
set_option maxHeartbeats 1000000 in
theorem c_person (hM : tw0 + 17 ≤ fc_nx M) {n f nC : Nat} (hG : GI w n f nC) {x1 x2 : Int32} : fc_CX g l yX6_person cX6_person 3 (some .int) 3 [.ref (fc_B g + tw0), .int x1, .int x2] (tv g M T w) (tv_ie g M (prQ w x1 x2) T w) := by
  refine fc_enter (by decide) (Nat.le_of_ble_eq_true rfl) rfl ?_
  have hC := hG.1.2.2
  have hF := hG.1.2.1
  have hN := hG.1.1
  refine x_aload_n dX6_person_0 rfl ?_
  refine x_iload_n dX6_person_1 rfl ?_
  refine v_V1ie hM dX6_person_2 kG_X6_X6_isOne kP_X6_isOne rfl (by omega) (by decide) (Nat.le_of_ble_eq_true rfl) (c_isOne hM) ?_
  refine x_ifB_eq (tgt := 18) dX6_person_5 (by decide) (fun hc5 => ?_) (fun hc5 => ?_)
  · refine x_bipush (v := -2) dX6_person_18 (by decide) ?_
    refine x_iret dX6_person_20 rfl rfl (tv_i2 ?_ rfl rfl)
    rw [prQ, if_neg hc5]
  · refine x_iload_n dX6_person_8 rfl ?_
    refine x_ic0 dX6_person_9 ?_
    refine x_bipush (v := nI 6) dX6_person_10 (by decide) ?_
    refine v_S3ie dX6_person_12 kG_X6_X6_isIn kP_X6_isIn (by omega) (by decide) (Nat.le_of_ble_eq_true rfl) c_isIn ?_
    refine x_ifB_ne (tgt := 21) dX6_person_15 (by decide) (fun hc15 => ?_) (fun hc15 => ?_)
    · obtain ⟨pp, hp, rfl⟩ := hG.one hc5
      obtain ⟨k, -, hk, rfl⟩ := nI_between (by decide) hc15 (by decide)
      have hcp : (nI pp).toNatClampNeg = pp := nI_clamp (by omega)
      have hck : (nI k).toNatClampNeg = k := nI_clamp (by omega)
      · refine x_iload_n dX6_person_21 rfl ?_
        refine x_ic5 dX6_person_22 ?_
        refine x_icmpN_ge (tgt := 33) dX6_person_23 (by decide) (by omega) (by omega) (fun hc23 => ?_) (fun hc23 => ?_)
        · refine x_iload_n dX6_person_33 rfl ?_
          refine x_ic5 dX6_person_34 ?_
          refine x_icmpN_ne (tgt := 66) dX6_person_35 (by decide) (by omega) (by omega) (fun hc35 => ?_) (fun hc35 => ?_)
          · refine x_aload_n dX6_person_66 rfl ?_
            refine x_iload_n dX6_person_67 rfl ?_
            refine x_bipush (v := nI 6) dX6_person_68 (by decide) ?_
            refine v_V2ie hM dX6_person_70 kG_X6_X6_own kP_X6_own rfl (by omega) (by decide) (Nat.le_of_ble_eq_true rfl) (c_own hM rfl rfl (by omega)) ?_
            refine x_icm1 dX6_person_73 ?_
            refine x_icmp_ne (tgt := 81) dX6_person_74 (by decide) (fun hc74 => ?_) (fun hc74 => ?_)
            · refine x_aload_n dX6_person_81 rfl ?_
              refine x_iload_n dX6_person_82 rfl ?_
              refine x_bipush (v := nI 6) dX6_person_83 (by decide) ?_
              refine v_V2ie hM dX6_person_85 kG_X6_X6_own kP_X6_own rfl (by omega) (by decide) (Nat.le_of_ble_eq_true rfl) (c_own hM rfl rfl (by omega)) ?_
              refine x_aload_n dX6_person_88 rfl ?_
              refine x_iload_n dX6_person_89 rfl ?_
              refine x_ic5 dX6_person_90 ?_
              refine v_V2ie hM dX6_person_91 kG_X6_X6_own kP_X6_own rfl (by omega) (by decide) (Nat.le_of_ble_eq_true rfl) (c_own hM rfl rfl (by omega)) ?_
              refine x_isub dX6_person_94 ?_
              refine x_iret dX6_person_95 rfl rfl (tv_i2 ?_ rfl rfl)
              rw [prQ, if_pos hc5, if_pos hc15, hcp, hck, if_neg (Nat.not_lt.mpr hc23), if_neg hc35, if_neg hc74]
            · refine x_icm1 dX6_person_77 ?_
              refine x_goto (tgt := 95) dX6_person_78 (by decide) ?_
              refine x_iret dX6_person_95 rfl rfl (tv_i2 ?_ rfl rfl)
              rw [prQ, if_pos hc5, if_pos hc15, hcp, hck, if_neg (Nat.not_lt.mpr hc23), if_neg hc35, if_pos hc74]
          · refine x_aload_n dX6_person_38 rfl ?_
            refine x_iload_n dX6_person_39 rfl ?_
            refine x_ic5 dX6_person_40 ?_
            refine v_V2ie hM dX6_person_41 kG_X6_X6_own kP_X6_own rfl (by omega) (by decide) (Nat.le_of_ble_eq_true rfl) (c_own hM rfl rfl (by omega)) ?_
            refine x_icm1 dX6_person_44 ?_
            refine x_icmp_ne (tgt := 52) dX6_person_45 (by decide) (fun hc45 => ?_) (fun hc45 => ?_)
            · refine x_aload_n dX6_person_52 rfl ?_
              refine x_iload_n dX6_person_53 rfl ?_
              refine x_ic5 dX6_person_54 ?_
              refine v_V2ie hM dX6_person_55 kG_X6_X6_own kP_X6_own rfl (by omega) (by decide) (Nat.le_of_ble_eq_true rfl) (c_own hM rfl rfl (by omega)) ?_
              refine x_aload_n dX6_person_58 rfl ?_
              refine x_iload_n dX6_person_59 rfl ?_
              refine x_ic0 dX6_person_60 ?_
              refine v_V2ie hM dX6_person_61 kG_X6_X6_own kP_X6_own rfl (by omega) (by decide) (Nat.le_of_ble_eq_true rfl) (c_own hM rfl rfl (by omega)) ?_
              refine x_isub dX6_person_64 ?_
              refine x_iret dX6_person_65 rfl rfl (tv_i2 ?_ rfl rfl)
              rw [prQ, if_pos hc5, if_pos hc15, hcp, hck, if_neg (Nat.not_lt.mpr hc23), if_pos hc35, if_neg hc45]
            · refine x_icm1 dX6_person_48 ?_
              refine x_goto (tgt := 65) dX6_person_49 (by decide) ?_
              refine x_iret dX6_person_65 rfl rfl (tv_i2 ?_ rfl rfl)
              rw [prQ, if_pos hc5, if_pos hc15, hcp, hck, if_neg (Nat.not_lt.mpr hc23), if_pos hc35, if_pos hc45]
        · refine x_aload_n dX6_person_26 rfl ?_
          refine x_iload_n dX6_person_27 rfl ?_
          refine x_iload_n dX6_person_28 rfl ?_
          refine v_V2ie hM dX6_person_29 kG_X6_X6_own kP_X6_own rfl (by omega) (by decide) (Nat.le_of_ble_eq_true rfl) (c_own hM rfl rfl (by omega)) ?_
          refine x_iret dX6_person_32 rfl rfl (tv_i2 ?_ rfl rfl)
          rw [prQ, if_pos hc5, if_pos hc15, hcp, hck, if_pos hc23]
    · refine x_bipush (v := -2) dX6_person_18 (by decide) ?_
      refine x_iret dX6_person_20 rfl rfl (tv_i2 ?_ rfl rfl)
      rw [prQ, if_pos hc5, if_neg hc15]
set_option maxHeartbeats 1000000 in
theorem c_car (hM : tw0 + 17 ≤ fc_nx M) {n f nC : Nat} (hG : GI w n f nC) {x1 x2 : Int32} : fc_CX g l yX6_car cX6_car 3 (some .int) 3 [.ref (fc_B g + tw0), .int x1, .int x2] (tv g M T w) (tv_ie g M (crQ w n x1 x2) T w) := by
  refine fc_enter (by decide) (Nat.le_of_ble_eq_true rfl) rfl ?_
  have hC := hG.1.2.2
  have hF := hG.1.2.1
  have hN := hG.1.1
  refine x_aload_n dX6_car_0 rfl ?_
  refine x_iload_n dX6_car_1 rfl ?_
  refine v_V1ie hM dX6_car_2 kG_X6_X6_isCar kP_X6_isCar rfl (by omega) (by decide) (Nat.le_of_ble_eq_true rfl) (c_isCar hM) ?_
  refine x_ifB_ne (tgt := 11) dX6_car_5 (by decide) (fun hc5 => ?_) (fun hc5 => ?_)
  · refine x_iload_n dX6_car_11 rfl ?_
    refine x_bipush (v := nI 100) dX6_car_12 (by decide) ?_
    refine x_bipush (v := nI 99) dX6_car_14 (by decide) ?_
    refine x_aload_n dX6_car_16 rfl ?_
    refine v_geta 0 hM dX6_car_17 (by decide) rfl q1130 ?_
    refine x_ic0 dX6_car_20 ?_
    refine v_wld hM dX6_car_21 rfl (by omega) ?_
    refine x_iadd dX6_car_22 ?_
    refine v_S3ie dX6_car_23 kG_X6_X6_isIn kP_X6_isIn (by omega) (by decide) (Nat.le_of_ble_eq_true rfl) c_isIn ?_
    refine x_ifB_eq (tgt := 47) dX6_car_26 (by decide) (fun hc26 => ?_) (fun hc26 => ?_)
    · refine x_iload_n dX6_car_47 rfl ?_
      obtain ⟨cc, hcc, rfl⟩ := hG.car hc5
      have hcp : (nI cc).toNatClampNeg = cc := nI_clamp (by omega)
      rcases sw12 x2 with rfl | rfl | rfl | rfl | rfl | rfl | rfl | rfl | rfl | rfl | rfl | rfl | hout
      · refine x_swIn (off := 64) (tgt := 112) dX6_car_48 (by decide) (by decide) rfl (by decide) ?_
        refine x_aload_n dX6_car_112 rfl ?_
        refine x_iload_n dX6_car_113 rfl ?_
        refine x_ic0 dX6_car_114 ?_
        refine x_iload_n dX6_car_115 rfl ?_
        refine x_iaddN dX6_car_116 ?_
        refine v_V2ie hM dX6_car_117 kG_X6_X6_ofCar kP_X6_ofCar rfl (by omega) (by decide) (Nat.le_of_ble_eq_true rfl) (c_ofCar hM rfl rfl (by omega)) ?_
        refine x_iret dX6_car_120 rfl rfl (tv_i2 ?_ rfl rfl)
        rw [crQ, if_pos hc5, if_neg hc26, if_pos (inN_of (by decide) (by decide)), hcp]
        rfl
      · refine x_swIn (off := 64) (tgt := 112) dX6_car_48 (by decide) (by decide) rfl (by decide) ?_
        refine x_aload_n dX6_car_112 rfl ?_
        refine x_iload_n dX6_car_113 rfl ?_
        refine x_ic0 dX6_car_114 ?_
        refine x_iload_n dX6_car_115 rfl ?_
        refine x_iaddN dX6_car_116 ?_
        refine v_V2ie hM dX6_car_117 kG_X6_X6_ofCar kP_X6_ofCar rfl (by omega) (by decide) (Nat.le_of_ble_eq_true rfl) (c_ofCar hM rfl rfl (by omega)) ?_
        refine x_iret dX6_car_120 rfl rfl (tv_i2 ?_ rfl rfl)
        rw [crQ, if_pos hc5, if_neg hc26, if_pos (inN_of (by decide) (by decide)), hcp]
        rfl
      · refine x_swIn (off := 64) (tgt := 112) dX6_car_48 (by decide) (by decide) rfl (by decide) ?_
        refine x_aload_n dX6_car_112 rfl ?_
        refine x_iload_n dX6_car_113 rfl ?_
        refine x_ic0 dX6_car_114 ?_
        refine x_iload_n dX6_car_115 rfl ?_
        refine x_iaddN dX6_car_116 ?_
        refine v_V2ie hM dX6_car_117 kG_X6_X6_ofCar kP_X6_ofCar rfl (by omega) (by decide) (Nat.le_of_ble_eq_true rfl) (c_ofCar hM rfl rfl (by omega)) ?_
        refine x_iret dX6_car_120 rfl rfl (tv_i2 ?_ rfl rfl)
        rw [crQ, if_pos hc5, if_neg hc26, if_pos (inN_of (by decide) (by decide)), hcp]
        rfl
      · refine x_swIn (off := 64) (tgt := 112) dX6_car_48 (by decide) (by decide) rfl (by decide) ?_
        refine x_aload_n dX6_car_112 rfl ?_
        refine x_iload_n dX6_car_113 rfl ?_
        refine x_ic0 dX6_car_114 ?_
        refine x_iload_n dX6_car_115 rfl ?_
        refine x_iaddN dX6_car_116 ?_
        refine v_V2ie hM dX6_car_117 kG_X6_X6_ofCar kP_X6_ofCar rfl (by omega) (by decide) (Nat.le_of_ble_eq_true rfl) (c_ofCar hM rfl rfl (by omega)) ?_
        refine x_iret dX6_car_120 rfl rfl (tv_i2 ?_ rfl rfl)
        rw [crQ, if_pos hc5, if_neg hc26, if_pos (inN_of (by decide) (by decide)), hcp]
        rfl
      · refine x_swIn (off := 73) (tgt := 121) dX6_car_48 (by decide) (by decide) rfl (by decide) ?_
        refine x_aload_n dX6_car_121 rfl ?_
        refine x_iload_n dX6_car_122 rfl ?_
        refine v_V1ie hM dX6_car_123 kG_X6_X6_riding kP_X6_riding rfl (by omega) (by decide) (Nat.le_of_ble_eq_true rfl) (c_riding hM hN hG.2.2.2.1) ?_
        refine x_iret dX6_car_126 rfl rfl (tv_i2 ?_ rfl rfl)
        rw [crQ, if_pos hc5, if_neg hc26, if_pos (inN_of (by decide) (by decide)), hcp]
        rfl
      · refine x_swIn (off := 79) (tgt := 127) dX6_car_48 (by decide) (by decide) rfl (by decide) ?_
        refine x_aload_n dX6_car_127 rfl ?_
        refine x_iload_n dX6_car_128 rfl ?_
        refine v_V1ie hM dX6_car_129 kG_X6_X6_given kP_X6_given rfl (by omega) (by decide) (Nat.le_of_ble_eq_true rfl) (c_given hM hN hG.2.2.2.1) ?_
        refine x_iret dX6_car_132 rfl rfl (tv_i2 ?_ rfl rfl)
        rw [crQ, if_pos hc5, if_neg hc26, if_pos (inN_of (by decide) (by decide)), hcp]
        rfl
      · refine x_swIn (off := 85) (tgt := 133) dX6_car_48 (by decide) (by decide) rfl (by decide) ?_
        refine x_aload_n dX6_car_133 rfl ?_
        refine x_iload_n dX6_car_134 rfl ?_
        refine x_ic4 dX6_car_135 ?_
        refine v_V2ie hM dX6_car_136 kG_X6_X6_ofCar kP_X6_ofCar rfl (by omega) (by decide) (Nat.le_of_ble_eq_true rfl) (c_ofCar hM rfl rfl (by omega)) ?_
        refine x_iret dX6_car_139 rfl rfl (tv_i2 ?_ rfl rfl)
        rw [crQ, if_pos hc5, if_neg hc26, if_pos (inN_of (by decide) (by decide)), hcp]
        rfl
      · refine x_swIn (off := 92) (tgt := 140) dX6_car_48 (by decide) (by decide) rfl (by decide) ?_
        refine x_aload_n dX6_car_140 rfl ?_
        refine x_iload_n dX6_car_141 rfl ?_
        refine x_ic5 dX6_car_142 ?_
        refine v_V2ie hM dX6_car_143 kG_X6_X6_ofCar kP_X6_ofCar rfl (by omega) (by decide) (Nat.le_of_ble_eq_true rfl) (c_ofCar hM rfl rfl (by omega)) ?_
        refine x_iret dX6_car_146 rfl rfl (tv_i2 ?_ rfl rfl)
        rw [crQ, if_pos hc5, if_neg hc26, if_pos (inN_of (by decide) (by decide)), hcp]
        rfl
      · refine x_swIn (off := 99) (tgt := 147) dX6_car_48 (by decide) (by decide) rfl (by decide) ?_
        refine x_aload_n dX6_car_147 rfl ?_
        refine x_iload_n dX6_car_148 rfl ?_
        refine x_bipush (v := nI 6) dX6_car_149 (by decide) ?_
        refine x_iload_n dX6_car_151 rfl ?_
        refine x_iaddN dX6_car_152 ?_
        refine x_bipush (v := nI 8) dX6_car_153 (by decide) ?_
        refine x_isubN dX6_car_155 (by omega) ?_
        refine v_V2ie hM dX6_car_156 kG_X6_X6_ofCar kP_X6_ofCar rfl (by omega) (by decide) (Nat.le_of_ble_eq_true rfl) (c_ofCar hM rfl rfl (by omega)) ?_
        refine x_iret dX6_car_159 rfl rfl (tv_i2 ?_ rfl rfl)
        rw [crQ, if_pos hc5, if_neg hc26, if_pos (inN_of (by decide) (by decide)), hcp]
        rfl
      · refine x_swIn (off := 99) (tgt := 147) dX6_car_48 (by decide) (by decide) rfl (by decide) ?_
        refine x_aload_n dX6_car_147 rfl ?_
        refine x_iload_n dX6_car_148 rfl ?_
        refine x_bipush (v := nI 6) dX6_car_149 (by decide) ?_
        refine x_iload_n dX6_car_151 rfl ?_
        refine x_iaddN dX6_car_152 ?_
        refine x_bipush (v := nI 8) dX6_car_153 (by decide) ?_
        refine x_isubN dX6_car_155 (by omega) ?_
        refine v_V2ie hM dX6_car_156 kG_X6_X6_ofCar kP_X6_ofCar rfl (by omega) (by decide) (Nat.le_of_ble_eq_true rfl) (c_ofCar hM rfl rfl (by omega)) ?_
        refine x_iret dX6_car_159 rfl rfl (tv_i2 ?_ rfl rfl)
        rw [crQ, if_pos hc5, if_neg hc26, if_pos (inN_of (by decide) (by decide)), hcp]
        rfl
      · refine x_swIn (off := 99) (tgt := 147) dX6_car_48 (by decide) (by decide) rfl (by decide) ?_
        refine x_aload_n dX6_car_147 rfl ?_
        refine x_iload_n dX6_car_148 rfl ?_
        refine x_bipush (v := nI 6) dX6_car_149 (by decide) ?_
        refine x_iload_n dX6_car_151 rfl ?_
        refine x_iaddN dX6_car_152 ?_
        refine x_bipush (v := nI 8) dX6_car_153 (by decide) ?_
        refine x_isubN dX6_car_155 (by omega) ?_
        refine v_V2ie hM dX6_car_156 kG_X6_X6_ofCar kP_X6_ofCar rfl (by omega) (by decide) (Nat.le_of_ble_eq_true rfl) (c_ofCar hM rfl rfl (by omega)) ?_
        refine x_iret dX6_car_159 rfl rfl (tv_i2 ?_ rfl rfl)
        rw [crQ, if_pos hc5, if_neg hc26, if_pos (inN_of (by decide) (by decide)), hcp]
        rfl
      · refine x_swIn (off := 99) (tgt := 147) dX6_car_48 (by decide) (by decide) rfl (by decide) ?_
        refine x_aload_n dX6_car_147 rfl ?_
        refine x_iload_n dX6_car_148 rfl ?_
        refine x_bipush (v := nI 6) dX6_car_149 (by decide) ?_
        refine x_iload_n dX6_car_151 rfl ?_
        refine x_iaddN dX6_car_152 ?_
        refine x_bipush (v := nI 8) dX6_car_153 (by decide) ?_
        refine x_isubN dX6_car_155 (by omega) ?_
        refine v_V2ie hM dX6_car_156 kG_X6_X6_ofCar kP_X6_ofCar rfl (by omega) (by decide) (Nat.le_of_ble_eq_true rfl) (c_ofCar hM rfl rfl (by omega)) ?_
        refine x_iret dX6_car_159 rfl rfl (tv_i2 ?_ rfl rfl)
        rw [crQ, if_pos hc5, if_neg hc26, if_pos (inN_of (by decide) (by decide)), hcp]
        rfl
      · refine x_swOut (tgt := 160) dX6_car_48 hout (by decide) ?_
        refine x_bipush (v := -2) dX6_car_160 (by decide) ?_
        refine x_iret dX6_car_162 rfl rfl (tv_i2 ?_ rfl rfl)
        rw [crQ, if_pos hc5, if_neg hc26, if_neg (fun z => by have h1 := z.1; have h2 := z.2; omega)]
    · obtain ⟨cc, hcc, rfl⟩ := hG.car hc5
      obtain ⟨k, hk0, hk, rfl⟩ := hG.up99 hc26
      have hcp : (nI cc).toNatClampNeg = cc := nI_clamp (by omega)
      have hck : (nI k).toNatClampNeg = k := nI_clamp (by omega)
      · refine x_aload_n dX6_car_29 rfl ?_
        refine x_iload_n dX6_car_30 rfl ?_
        refine x_iload_n dX6_car_31 rfl ?_
        refine x_bipush (v := nI 100) dX6_car_32 (by decide) ?_
        refine x_isubN dX6_car_34 (by omega) ?_
        refine v_V2ie hM dX6_car_35 kG_X6_X6_serves kP_X6_serves rfl (by omega) (by decide) (Nat.le_of_ble_eq_true rfl) (c_serves hM rfl rfl (by omega)) ?_
        refine x_ifB_eq (tgt := 45) dX6_car_38 (by decide) (fun hc38 => ?_) (fun hc38 => ?_)
        · refine x_ic0 dX6_car_45 ?_
          refine x_iret dX6_car_46 rfl rfl (tv_i2 ?_ rfl rfl)
          rw [crQ, if_pos hc5, if_pos hc26, hcp, hck]
          first | exact (bI_t hc38).symm | exact (bI_f hc38).symm
        · refine x_ic1 dX6_car_41 ?_
          refine x_goto (tgt := 46) dX6_car_42 (by decide) ?_
          refine x_iret dX6_car_46 rfl rfl (tv_i2 ?_ rfl rfl)
          rw [crQ, if_pos hc5, if_pos hc26, hcp, hck]
          first | exact (bI_t hc38).symm | exact (bI_f hc38).symm
  · refine x_bipush (v := -2) dX6_car_8 (by decide) ?_
    refine x_iret dX6_car_10 rfl rfl (tv_i2 ?_ rfl rfl)
    rw [crQ, if_neg hc5]
theorem kG_X6_X6_inState : GoodIn lw_all (wsV RX6 408 RX6 yX6_inState (ws_ yX6_inState cX6_inState 4 (some .int))) := lw_V q1632 q1634 qs116 q124 q1635
theorem kP_X6_inState : kPar yX6_inState 1 := by decide +kernel
theorem kG_X6_X6_weight : GoodIn lw_all (wsV RX6 383 RX6 yX6_weight (ws_ yX6_weight cX6_weight 2 (some .int))) := lw_V q1604 q1606 qs112 q124 q1607
theorem kP_X6_weight : kPar yX6_weight 1 := by decide +kernel
set_option maxHeartbeats 1000000 in
theorem c_look (hM : tw0 + 17 ≤ fc_nx M) {n f nC : Nat} (hG : GI w n f nC) {x : Int32} : fc_CX g l yX6_look cX6_look 2 (some .int) 3 [.ref (fc_B g + tw0), .int x] (tv g M T w) (tv_ie g M (lkQ w n x) T w) := by
  refine fc_enter (by decide) (Nat.le_of_ble_eq_true rfl) rfl ?_
  have hC := hG.1.2.2
  have hF := hG.1.2.1
  have hN := hG.1.1
  refine x_iload_n dX6_look_0 rfl ?_
  refine x_ic0 dX6_look_1 ?_
  refine x_ic4 dX6_look_2 ?_
  refine v_S3ie dX6_look_3 kG_X6_X6_isIn kP_X6_isIn (by omega) (by decide) (Nat.le_of_ble_eq_true rfl) c_isIn ?_
  refine x_ifB_eq (tgt := 16) dX6_look_6 (by decide) (fun hc6 => ?_) (fun hc6 => ?_)
  · refine x_iload_n dX6_look_16 rfl ?_
    refine x_ic5 dX6_look_17 ?_
    refine x_icmp_eq (tgt := 27) dX6_look_18 (by decide) (fun hc18 => ?_) (fun hc18 => ?_)
    · subst hc18
      · refine x_aload_n dX6_look_27 rfl ?_
        refine x_iload_n dX6_look_28 rfl ?_
        refine x_ic4 dX6_look_29 ?_
        refine x_isubN dX6_look_30 (by omega) ?_
        refine v_V1ie hM dX6_look_31 kG_X6_X6_inState kP_X6_inState rfl (by omega) (by decide) (Nat.le_of_ble_eq_true rfl) (c_inState hM hN hG.2.2.2.1) ?_
        refine x_iret dX6_look_34 rfl rfl (tv_i2 ?_ rfl rfl)
        rw [lkQ, if_neg hc6, if_pos rfl]
    · refine x_iload_n dX6_look_21 rfl ?_
      refine x_bipush (v := nI 6) dX6_look_22 (by decide) ?_
      refine x_icmp_ne (tgt := 35) dX6_look_24 (by decide) (fun hc24 => ?_) (fun hc24 => ?_)
      · refine x_iload_n dX6_look_35 rfl ?_
        refine x_bipush (v := nI 10) dX6_look_36 (by decide) ?_
        refine x_bipush (v := nI 12) dX6_look_38 (by decide) ?_
        refine v_S3ie dX6_look_40 kG_X6_X6_isIn kP_X6_isIn (by omega) (by decide) (Nat.le_of_ble_eq_true rfl) c_isIn ?_
        refine x_ifB_eq (tgt := 60) dX6_look_43 (by decide) (fun hc43 => ?_) (fun hc43 => ?_)
        · refine x_iload_n dX6_look_60 rfl ?_
          refine x_bipush (v := nI 13) dX6_look_61 (by decide) ?_
          refine x_icmp_ne (tgt := 73) dX6_look_63 (by decide) (fun hc63 => ?_) (fun hc63 => ?_)
          · refine x_iload_n dX6_look_73 rfl ?_
            refine x_bipush (v := nI 100) dX6_look_74 (by decide) ?_
            refine x_bipush (v := nI 99) dX6_look_76 (by decide) ?_
            refine x_aload_n dX6_look_78 rfl ?_
            refine v_geta 0 hM dX6_look_79 (by decide) rfl q1130 ?_
            refine x_ic0 dX6_look_82 ?_
            refine v_wld hM dX6_look_83 rfl (by omega) ?_
            refine x_iadd dX6_look_84 ?_
            refine v_S3ie dX6_look_85 kG_X6_X6_isIn kP_X6_isIn (by omega) (by decide) (Nat.le_of_ble_eq_true rfl) c_isIn ?_
            refine x_ifB_eq (tgt := 102) dX6_look_88 (by decide) (fun hc88 => ?_) (fun hc88 => ?_)
            · refine x_icm1 dX6_look_102 ?_
              refine x_iret dX6_look_103 rfl rfl (tv_i2 ?_ rfl rfl)
              rw [lkQ, if_neg hc6, if_neg hc18, if_neg hc24, if_neg hc43, if_neg hc63, if_neg hc88]
            · obtain ⟨k, hk0, hk, rfl⟩ := hG.up99 hc88
              have hck : (nI k).toNatClampNeg = k := nI_clamp (by omega)
              · refine x_aload_n dX6_look_91 rfl ?_
                refine x_iload_n dX6_look_92 rfl ?_
                refine x_bipush (v := nI 100) dX6_look_93 (by decide) ?_
                refine x_isubN dX6_look_95 (by omega) ?_
                refine v_V1ie hM dX6_look_96 kG_X6_X6_weight kP_X6_weight rfl (by omega) (by decide) (Nat.le_of_ble_eq_true rfl) (c_weight hM rfl (by omega)) ?_
                refine x_goto (tgt := 103) dX6_look_99 (by decide) ?_
                refine x_iret dX6_look_103 rfl rfl (tv_i2 ?_ rfl rfl)
                rw [lkQ, if_neg hc6, if_neg hc18, if_neg hc24, if_neg hc43, if_neg hc63, if_pos hc88, hck]
          · refine x_aload_n dX6_look_66 rfl ?_
            refine v_geta 0 hM dX6_look_67 (by decide) rfl q1130 ?_
            refine x_ic5 dX6_look_70 ?_
            refine v_wld hM dX6_look_71 rfl (by omega) ?_
            refine x_iret dX6_look_72 rfl rfl (tv_i2 ?_ rfl rfl)
            rw [lkQ, if_neg hc6, if_neg hc18, if_neg hc24, if_neg hc43, if_pos hc63]
        · obtain ⟨k, hk0, hk, rfl⟩ := nI_between (by decide) hc43 (by decide)
          have hck : (nI k).toNatClampNeg = k := nI_clamp (by omega)
          · refine x_aload_n dX6_look_46 rfl ?_
            refine v_geta 0 hM dX6_look_47 (by decide) rfl q1130 ?_
            refine x_sipush (v := nI 1300) dX6_look_50 (by decide) ?_
            refine x_iload_n dX6_look_53 rfl ?_
            refine x_iaddN dX6_look_54 ?_
            refine x_bipush (v := nI 10) dX6_look_55 (by decide) ?_
            refine x_isubN dX6_look_57 (by omega) ?_
            refine v_wld hM dX6_look_58 rfl (by omega) ?_
            refine x_iret dX6_look_59 rfl rfl (tv_i2 ?_ rfl rfl)
            rw [lkQ, if_neg hc6, if_neg hc18, if_neg hc24, if_pos hc43, hck]
      · subst hc24
        · refine x_aload_n dX6_look_27 rfl ?_
          refine x_iload_n dX6_look_28 rfl ?_
          refine x_ic4 dX6_look_29 ?_
          refine x_isubN dX6_look_30 (by omega) ?_
          refine v_V1ie hM dX6_look_31 kG_X6_X6_inState kP_X6_inState rfl (by omega) (by decide) (Nat.le_of_ble_eq_true rfl) (c_inState hM hN hG.2.2.2.1) ?_
          refine x_iret dX6_look_34 rfl rfl (tv_i2 ?_ rfl rfl)
          rw [lkQ, if_neg hc6, if_neg hc18, if_pos rfl]
  · obtain ⟨k, -, hk, rfl⟩ := nI_between (by decide) hc6 (by decide)
    have hck : (nI k).toNatClampNeg = k := nI_clamp (by omega)
    · refine x_aload_n dX6_look_9 rfl ?_
      refine v_geta 0 hM dX6_look_10 (by decide) rfl q1130 ?_
      refine x_iload_n dX6_look_13 rfl ?_
      refine v_wld hM dX6_look_14 rfl (by omega) ?_
      refine x_iret dX6_look_15 rfl rfl (tv_i2 ?_ rfl rfl)
      rw [lkQ, if_pos hc6, hck]
set_option maxHeartbeats 1000000 in
theorem c_cost (hM : tw0 + 17 ≤ fc_nx M) {n f nC : Nat} (hG : GI w n f nC) {x1 x2 x3 : Int32} : fc_CX g l yX6_cost cX6_cost 4 (some .int) 4 [.ref (fc_B g + tw0), .int x1, .int x2, .int x3] (tv g M T w) (tv_i g M (fun r T2 w2 => Sim T T2 ∧ w2 = w ∧ r = coQ w n x1 x2 x3)) := by
  refine fc_enter (by decide) (Nat.le_of_ble_eq_true rfl) rfl ?_
  have hC := hG.1.2.2
  have hF := hG.1.2.1
  have hN := hG.1.1
  refine x_aload_n dX6_cost_0 rfl ?_
  refine x_iload_n dX6_cost_1 rfl ?_
  refine v_V1ie hM dX6_cost_2 kG_X6_X6_isOne kP_X6_isOne rfl (by omega) (by decide) (Nat.le_of_ble_eq_true rfl) (c_isOne hM) ?_
  refine x_ifB_eq (tgt := 45) dX6_cost_5 (by decide) (fun hc5 => ?_) (fun hc5 => ?_)
  · refine x_ldcw dX6_cost_45 q1467 ?_
    refine x_goto (tgt := 55) dX6_cost_48 (by decide) ?_
    refine x_iret dX6_cost_55 rfl rfl (tv_ip ⟨Sim.rf, rfl, ?_⟩)
    rw [coQ, if_neg hc5]
  · obtain ⟨pq, hpq, hxq⟩ := hG.one hc5
    · refine x_aload_n dX6_cost_8 rfl ?_
      refine x_iload_n dX6_cost_9 rfl ?_
      refine x_ic3 dX6_cost_10 ?_
      refine v_V2ie hM dX6_cost_11 kG_X6_X6_own kP_X6_own rfl (by omega) (by decide) (Nat.le_of_ble_eq_true rfl) (c_own (p := pq) (k := 3) hM hxq rfl (by omega)) ?_
      rw [show pq = x1.toNatClampNeg by rw [hxq, nI_clamp (by omega)]]
      refine x_ic1 dX6_cost_14 ?_
      refine x_icmp_ne (tgt := 45) dX6_cost_15 (by decide) (fun hc15 => ?_) (fun hc15 => ?_)
      · refine x_ldcw dX6_cost_45 q1467 ?_
        refine x_goto (tgt := 55) dX6_cost_48 (by decide) ?_
        refine x_iret dX6_cost_55 rfl rfl (tv_ip ⟨Sim.rf, rfl, ?_⟩)
        rw [coQ, if_pos hc5, if_neg hc15]
      · refine x_aload_n dX6_cost_18 rfl ?_
        refine x_iload_n dX6_cost_19 rfl ?_
        refine v_V1ie hM dX6_cost_20 kG_X6_X6_isCar kP_X6_isCar rfl (by omega) (by decide) (Nat.le_of_ble_eq_true rfl) (c_isCar hM) ?_
        refine x_ifB_eq (tgt := 45) dX6_cost_23 (by decide) (fun hc23 => ?_) (fun hc23 => ?_)
        · refine x_ldcw dX6_cost_45 q1467 ?_
          refine x_goto (tgt := 55) dX6_cost_48 (by decide) ?_
          refine x_iret dX6_cost_55 rfl rfl (tv_ip ⟨Sim.rf, rfl, ?_⟩)
          rw [coQ, if_pos hc5, if_pos hc15, if_neg hc23]
        · refine x_iload_n dX6_cost_26 rfl ?_
          refine x_ic0 dX6_cost_27 ?_
          refine x_ic2 dX6_cost_28 ?_
          refine v_S3ie dX6_cost_29 kG_X6_X6_isIn kP_X6_isIn (by omega) (by decide) (Nat.le_of_ble_eq_true rfl) c_isIn ?_
          refine x_ifB_eq (tgt := 45) dX6_cost_32 (by decide) (fun hc32 => ?_) (fun hc32 => ?_)
          · refine x_ldcw dX6_cost_45 q1467 ?_
            refine x_goto (tgt := 55) dX6_cost_48 (by decide) ?_
            refine x_iret dX6_cost_55 rfl rfl (tv_ip ⟨Sim.rf, rfl, ?_⟩)
            rw [coQ, if_pos hc5, if_pos hc15, if_pos hc23, if_neg hc32]
          · refine x_aload_n dX6_cost_35 rfl ?_
            refine x_iload_n dX6_cost_36 rfl ?_
            refine x_iload_n dX6_cost_37 rfl ?_
            refine x_iload_n dX6_cost_38 rfl ?_
            obtain ⟨pp, hp, rfl⟩ := hG.one hc5
            obtain ⟨cc, hcc, rfl⟩ := hG.car hc23
            obtain ⟨rr, -, hrr, rfl⟩ := nI_between (by decide) hc32 (by decide)
            have hr : rr < 3 := by omega
            refine v_V3i hM dX6_cost_39 kG_X6_X6_tells kP_X6_tells rfl (by omega) (by decide) (Nat.le_of_ble_eq_true rfl) (c_tells hM hr (hG.2.2.2.2.2.2.2 rr hr) hN hG.2.2.2.1 (by omega) (by omega) rfl rfl rfl) (fun r1 T1 w1 q1 => ?_)
            obtain ⟨rfl, hS2, hq⟩ := q1
            have e : coQ w n (nI pp) (nI cc) (nI rr) = match tlW w pp cc n rr (nlW w rr) with | none => -100000000 | some v => v := by rw [coQ, if_pos hc5, if_pos hc15, if_pos hc23, if_pos hc32, nI_clamp (by omega), nI_clamp (by omega), nI_clamp (by omega)]
            rcases ht : tlW w pp cc n rr (nlW w rr) with _ | v <;> rw [ht] at hq e
            · subst hq
              refine x_ifN_ne (tgt := 51) dX6_cost_42 (by decide) (by omega) (fun hc42 => ?_) (fun hc42 => ?_)
              · exact absurd hc42 (by decide)
              · refine x_ldcw dX6_cost_45 q1467 ?_
                refine x_goto (tgt := 55) dX6_cost_48 (by decide) ?_
                exact x_iret dX6_cost_55 rfl rfl (tv_ip ⟨hS2, rfl, e.symm⟩)
            · obtain ⟨rfl, hv⟩ := hq
              refine x_ifN_ne (tgt := 51) dX6_cost_42 (by decide) (by omega) (fun hc42 => ?_) (fun hc42 => ?_)
              · refine x_aload_n dX6_cost_51 rfl ?_
                refine v_geti 26 hM dX6_cost_52 (by decide) rfl q1156 ?_
                exact x_iret dX6_cost_55 rfl rfl (tv_ip ⟨hS2, rfl, hv.trans e.symm⟩)
              · exact absurd hc42 (by decide)
end T49
