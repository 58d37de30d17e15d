set_option maxRecDepth 100000
section T48
variable {g : fc_G} {l : Launch} {M : fc_M} {T : tT} {w : Nat → Int32}
theorem GI.car {w : Nat → Int32} {n f nC : Nat} (h : GI w n f nC) {x : Int32} (hx : nI 0 ≤ x ∧ x ≤ w 1 - nI 1) : ∃ c, c < nC ∧ x = nI c := by
  rw [h.2.2.1] at hx
  exact (inN_iff (by have := h.1.2.2; omega)).mp ((inN_le (by have := h.1.2.2; omega)).mp hx)
theorem GI.flo {w : Nat → Int32} {n f nC : Nat} (h : GI w n f nC) {x : Int32} (hx : nI 0 ≤ x ∧ x ≤ w 0 - nI 1) : ∃ c, c < f ∧ x = nI c := by
  rw [h.2.1] at hx
  exact (inN_iff (by have := h.1.2.1; omega)).mp ((inN_le (by have := h.1.2.1; omega)).mp hx)
theorem GI.one {w : Nat → Int32} {n f nC : Nat} (h : GI w n f nC) {x : Int32} (hx : nI 0 ≤ x ∧ x ≤ w 2 - nI 1) : ∃ c, c < n ∧ x = nI c := by
  rw [h.2.2.2.1] at hx
  exact (inN_iff (by have := h.1.1; omega)).mp ((inN_le (by have := h.1.1; omega)).mp hx)
def stQ (w : Nat → Int32) (n : Nat) (x i v : Int32) : Int32 × (Nat → Int32) :=
  if x = nI 0 then (if nI 0 ≤ v ∧ v ≤ nI 2 then (nI 1, up w 4 v) else (nI 0, w)) else
  if x = nI 1 then (if nI 0 ≤ i ∧ i ≤ w 1 - nI 1 then (if nI 0 ≤ v ∧ v ≤ nI 1 then (nI 1, up (if v = nI 1 then tkW w i.toNatClampNeg n else w) (10 + 20 * i.toNatClampNeg + 4) v) else (nI 0, w)) else (nI 0, w)) else
  if x = nI 2 then (if nI 0 ≤ i ∧ i ≤ w 1 - nI 1 then (if v = -1 then (nI 1, up w (10 + 20 * i.toNatClampNeg + 5) v) else if nI 0 ≤ v ∧ v ≤ w 0 - nI 1 then (nI 1, up w (10 + 20 * i.toNatClampNeg + 5) v) else (nI 0, w)) else (nI 0, w)) else
  if x = nI 3 then (if nI 0 ≤ i ∧ i ≤ w 0 - nI 1 then (if nI 0 ≤ v ∧ v ≤ nI 99 then (nI 1, up w (740 + i.toNatClampNeg) v) else (nI 0, w)) else (nI 0, w)) else (nI 0, w)
theorem kG_X6_X6_isCar : GoodIn lw_all (wsV RX6 265 RX6 yX6_isCar (ws_ yX6_isCar cX6_isCar 2 (some .boolean))) := lw_V q1421 q1423 qs80 q124 q1424
theorem kP_X6_isCar : kPar yX6_isCar 1 := by decide +kernel
theorem kG_X6_X6_takesOut : GoodIn lw_all (wsV RX6 268 RX6 yX6_takesOut (ws_ yX6_takesOut cX6_takesOut 3 (none))) := lw_V q1425 q1427 qs81 q124 q1428
theorem kP_X6_takesOut : kPar yX6_takesOut 1 := by decide +kernel
set_option maxHeartbeats 1000000 in
theorem c_set (hM : tw0 + 17 ≤ fc_nx M) {n f nC : Nat} (hG : GI w n f nC) {x i v : Int32} : fc_CX g l yX6_set cX6_set 4 (some .boolean) 3 [.ref (fc_B g + tw0), .int x, .int i, .int v] (tv g M T w) (tv_ie g M (stQ w n x i v).1 T (stQ w n x i v).2) := by
  refine fc_enter (by decide) (Nat.le_of_ble_eq_true rfl) rfl ?_
  have hC := hG.1.2.2
  have hF := hG.1.2.1
  refine x_iload_n dX6_set_0 rfl ?_
  rcases sw4 x with rfl | rfl | rfl | rfl | hout
  · refine x_swIn (off := 31) (tgt := 32) dX6_set_1 (by decide) (by decide) rfl (by decide) ?_
    refine x_iload_n dX6_set_32 rfl ?_
    refine x_ic0 dX6_set_33 ?_
    refine x_ic2 dX6_set_34 ?_
    refine v_S3ie dX6_set_35 kG_X6_X6_isIn kP_X6_isIn (by omega) (by decide) (Nat.le_of_ble_eq_true rfl) c_isIn ?_
    refine x_ifB_ne (tgt := 43) dX6_set_38 (by decide) (fun hc38 => ?_) (fun hc38 => ?_)
    · refine x_aload_n dX6_set_43 rfl ?_
      refine v_geta 0 hM dX6_set_44 (by decide) rfl q1130 ?_
      refine x_ic4 dX6_set_47 ?_
      refine x_iload_n dX6_set_48 rfl ?_
      refine v_wst hM dX6_set_49 rfl (by omega) ?_
      refine x_ic1 dX6_set_50 ?_
      refine x_iret dX6_set_51 rfl (by rfl) (tv_i2 ?_ rfl ?_) <;> rw [stQ, if_pos rfl, if_pos hc38]
    · refine x_ic0 dX6_set_41 ?_
      refine x_iret dX6_set_42 rfl (by rfl) (tv_i2 ?_ rfl ?_) <;> rw [stQ, if_pos rfl, if_neg hc38]
  · refine x_swIn (off := 51) (tgt := 52) dX6_set_1 (by decide) (by decide) rfl (by decide) ?_
    refine x_aload_n dX6_set_52 rfl ?_
    refine x_iload_n dX6_set_53 rfl ?_
    refine v_V1ie hM dX6_set_54 kG_X6_X6_isCar kP_X6_isCar rfl (by omega) (by decide) (Nat.le_of_ble_eq_true rfl) (c_isCar hM) ?_
    refine x_ifB_eq (tgt := 69) dX6_set_57 (by decide) (fun hc57 => ?_) (fun hc57 => ?_)
    · refine x_ic0 dX6_set_69 ?_
      refine x_iret dX6_set_70 rfl (by rfl) (tv_i2 ?_ rfl ?_) <;> rw [stQ, if_neg (by decide), if_pos rfl, if_neg hc57]
    · refine x_iload_n dX6_set_60 rfl ?_
      refine x_ic0 dX6_set_61 ?_
      refine x_ic1 dX6_set_62 ?_
      refine v_S3ie dX6_set_63 kG_X6_X6_isIn kP_X6_isIn (by omega) (by decide) (Nat.le_of_ble_eq_true rfl) c_isIn ?_
      refine x_ifB_ne (tgt := 71) dX6_set_66 (by decide) (fun hc66 => ?_) (fun hc66 => ?_)
      · obtain ⟨i, hi, rfl⟩ := hG.car hc57
        · refine x_iload_n dX6_set_71 rfl ?_
          refine x_ic1 dX6_set_72 ?_
          refine x_icmp_ne (tgt := 81) dX6_set_73 (by decide) (fun hc73 => ?_) (fun hc73 => ?_)
          · refine x_aload_n dX6_set_81 rfl ?_
            refine x_iload_n dX6_set_82 rfl ?_
            refine x_ic4 dX6_set_83 ?_
            refine x_iload_n dX6_set_84 rfl ?_
            refine v_V3ve hM dX6_set_85 kG_X6_X6_sets kP_X6_sets rfl (by omega) (by decide) (Nat.le_of_ble_eq_true rfl) (c_sets hM rfl rfl (by omega)) ?_
            refine x_ic1 dX6_set_88 ?_
            refine x_iret dX6_set_89 rfl (by rfl) (tv_i2 ?_ rfl ?_) <;> rw [stQ, if_neg (by decide), if_pos rfl, if_pos hc57, if_pos hc66, nI_clamp (by omega), if_neg hc73]
          · refine x_aload_n dX6_set_76 rfl ?_
            refine x_iload_n dX6_set_77 rfl ?_
            refine v_V1ve hM dX6_set_78 kG_X6_X6_takesOut kP_X6_takesOut rfl (by omega) (by decide) (Nat.le_of_ble_eq_true rfl) (c_takesOut hM hG.1.1 hG.2.2.2.1 (by omega) rfl) ?_
            refine x_aload_n dX6_set_81 rfl ?_
            refine x_iload_n dX6_set_82 rfl ?_
            refine x_ic4 dX6_set_83 ?_
            refine x_iload_n dX6_set_84 rfl ?_
            refine v_V3ve hM dX6_set_85 kG_X6_X6_sets kP_X6_sets rfl (by omega) (by decide) (Nat.le_of_ble_eq_true rfl) (c_sets hM rfl rfl (by omega)) ?_
            refine x_ic1 dX6_set_88 ?_
            refine x_iret dX6_set_89 rfl (by rfl) (tv_i2 ?_ rfl ?_) <;> rw [stQ, if_neg (by decide), if_pos rfl, if_pos hc57, if_pos hc66, nI_clamp (by omega), if_pos hc73]
      · refine x_ic0 dX6_set_69 ?_
        refine x_iret dX6_set_70 rfl (by rfl) (tv_i2 ?_ rfl ?_) <;> rw [stQ, if_neg (by decide), if_pos rfl, if_pos hc57, if_neg hc66]
  · refine x_swIn (off := 89) (tgt := 90) dX6_set_1 (by decide) (by decide) rfl (by decide) ?_
    refine x_aload_n dX6_set_90 rfl ?_
    refine x_iload_n dX6_set_91 rfl ?_
    refine v_V1ie hM dX6_set_92 kG_X6_X6_isCar kP_X6_isCar rfl (by omega) (by decide) (Nat.le_of_ble_eq_true rfl) (c_isCar hM) ?_
    refine x_ifB_eq (tgt := 111) dX6_set_95 (by decide) (fun hc95 => ?_) (fun hc95 => ?_)
    · refine x_ic0 dX6_set_111 ?_
      refine x_iret dX6_set_112 rfl (by rfl) (tv_i2 ?_ rfl ?_) <;> rw [stQ, if_neg (by decide), if_neg (by decide), if_pos rfl, if_neg hc95]
    · refine x_iload_n dX6_set_98 rfl ?_
      refine x_icm1 dX6_set_99 ?_
      refine x_icmp_eq (tgt := 113) dX6_set_100 (by decide) (fun hc100 => ?_) (fun hc100 => ?_)
      · obtain ⟨i, hi, rfl⟩ := hG.car hc95
        · refine x_aload_n dX6_set_113 rfl ?_
          refine x_iload_n dX6_set_114 rfl ?_
          refine x_ic5 dX6_set_115 ?_
          refine x_iload_n dX6_set_116 rfl ?_
          refine v_V3ve hM dX6_set_117 kG_X6_X6_sets kP_X6_sets rfl (by omega) (by decide) (Nat.le_of_ble_eq_true rfl) (c_sets hM rfl rfl (by omega)) ?_
          refine x_ic1 dX6_set_120 ?_
          refine x_iret dX6_set_121 rfl (by rfl) (tv_i2 ?_ rfl ?_) <;> rw [stQ, if_neg (by decide), if_neg (by decide), if_pos rfl, if_pos hc95, if_pos hc100, nI_clamp (by omega)]
      · refine x_aload_n dX6_set_103 rfl ?_
        refine x_iload_n dX6_set_104 rfl ?_
        refine v_V1ie hM dX6_set_105 kG_X6_X6_isFloor kP_X6_isFloor rfl (by omega) (by decide) (Nat.le_of_ble_eq_true rfl) (c_isFloor hM) ?_
        refine x_ifB_ne (tgt := 113) dX6_set_108 (by decide) (fun hc108 => ?_) (fun hc108 => ?_)
        · obtain ⟨i, hi, rfl⟩ := hG.car hc95
          · refine x_aload_n dX6_set_113 rfl ?_
            refine x_iload_n dX6_set_114 rfl ?_
            refine x_ic5 dX6_set_115 ?_
            refine x_iload_n dX6_set_116 rfl ?_
            refine v_V3ve hM dX6_set_117 kG_X6_X6_sets kP_X6_sets rfl (by omega) (by decide) (Nat.le_of_ble_eq_true rfl) (c_sets hM rfl rfl (by omega)) ?_
            refine x_ic1 dX6_set_120 ?_
            refine x_iret dX6_set_121 rfl (by rfl) (tv_i2 ?_ rfl ?_) <;> rw [stQ, if_neg (by decide), if_neg (by decide), if_pos rfl, if_pos hc95, if_neg hc100, if_pos hc108, nI_clamp (by omega)]
        · refine x_ic0 dX6_set_111 ?_
          refine x_iret dX6_set_112 rfl (by rfl) (tv_i2 ?_ rfl ?_) <;> rw [stQ, if_neg (by decide), if_neg (by decide), if_pos rfl, if_pos hc95, if_neg hc100, if_neg hc108]
  · refine x_swIn (off := 121) (tgt := 122) dX6_set_1 (by decide) (by decide) rfl (by decide) ?_
    refine x_aload_n dX6_set_122 rfl ?_
    refine x_iload_n dX6_set_123 rfl ?_
    refine v_V1ie hM dX6_set_124 kG_X6_X6_isFloor kP_X6_isFloor rfl (by omega) (by decide) (Nat.le_of_ble_eq_true rfl) (c_isFloor hM) ?_
    refine x_ifB_eq (tgt := 140) dX6_set_127 (by decide) (fun hc127 => ?_) (fun hc127 => ?_)
    · refine x_ic0 dX6_set_140 ?_
      refine x_iret dX6_set_141 rfl (by rfl) (tv_i2 ?_ rfl ?_) <;> rw [stQ, if_neg (by decide), if_neg (by decide), if_neg (by decide), if_pos rfl, if_neg hc127]
    · refine x_iload_n dX6_set_130 rfl ?_
      refine x_ic0 dX6_set_131 ?_
      refine x_bipush (v := nI 99) dX6_set_132 (by decide) ?_
      refine v_S3ie dX6_set_134 kG_X6_X6_isIn kP_X6_isIn (by omega) (by decide) (Nat.le_of_ble_eq_true rfl) c_isIn ?_
      refine x_ifB_ne (tgt := 142) dX6_set_137 (by decide) (fun hc137 => ?_) (fun hc137 => ?_)
      · obtain ⟨i, hi, rfl⟩ := hG.flo hc127
        · refine x_aload_n dX6_set_142 rfl ?_
          refine v_geta 0 hM dX6_set_143 (by decide) rfl q1130 ?_
          refine x_sipush (v := nI 740) dX6_set_146 (by decide) ?_
          refine x_iload_n dX6_set_149 rfl ?_
          refine x_iaddN dX6_set_150 ?_
          refine x_iload_n dX6_set_151 rfl ?_
          refine v_wst hM dX6_set_152 rfl (by omega) ?_
          refine x_ic1 dX6_set_153 ?_
          refine x_iret dX6_set_154 rfl (by rfl) (tv_i2 ?_ rfl ?_) <;> rw [stQ, if_neg (by decide), if_neg (by decide), if_neg (by decide), if_pos rfl, if_pos hc127, if_pos hc137, nI_clamp (by omega)]
      · refine x_ic0 dX6_set_140 ?_
        refine x_iret dX6_set_141 rfl (by rfl) (tv_i2 ?_ rfl ?_) <;> rw [stQ, if_neg (by decide), if_neg (by decide), if_neg (by decide), if_pos rfl, if_pos hc127, if_neg hc137]
  · refine x_swOut (tgt := 155) dX6_set_1 hout (by decide) ?_
    refine x_ic0 dX6_set_155 ?_
    refine x_iret dX6_set_156 rfl (by rfl) (tv_i2 ?_ rfl ?_) <;> rw [stQ, if_neg (fun z => by subst z; revert hout; decide), if_neg (fun z => by subst z; revert hout; decide), if_neg (fun z => by subst z; revert hout; decide), if_neg (fun z => by subst z; revert hout; decide)]
end T48
