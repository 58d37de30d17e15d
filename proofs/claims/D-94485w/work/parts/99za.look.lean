set_option maxRecDepth 100000
section T99ZA
variable {g : fc_G} {l : Launch} {M : fc_M} {S : tT} {U : tU} {β : Nat} {w : Nat → Int32} {π f nC : Nat}
theorem kG_X0_X3_inCar : GoodIn lw_all (wsV RX0 407 RX3 yX3_inCar (ws_ yX3_inCar cX3_inCar 5 (some .int))) := lw_V q981 q900 q901 q121 q902
set_option maxHeartbeats 1000000 in
theorem d_car (hL : LT g M 32) (hO : PC g M S π 32 f nC w) {n : Nat} (hG : GI w n f nC) (ho : ∀ c, c < nC → w (10 + 20 * c + 4) = 0 ∨ w (10 + 20 * c + 4) = nI 1) {x1 x2 : Int32} : fc_CX g l yX0_car cX0_car 4 (some .int) 3 [.ref (fc_B g + 0), .int x1, .int x2] (cR M S U 32 w) (fc_re (crQ w n x1 x2) (cR M S U 32 w)) := by
  refine fc_enter (by decide) (Nat.le_of_ble_eq_true rfl) rfl ?_
  have hC := hG.1.2.2
  have hF := hG.1.2.1
  have hN := hG.1.1
  refine x_aload_n dX0_car_0 rfl ?_
  refine x_iload_n dX0_car_1 rfl ?_
  refine k_V1iF hO.1 dX0_car_2 kG_X0_X0_isCar kP_X0_isCar rfl (by omega) (by decide) (Nat.le_of_ble_eq_true rfl) (d_isCar hO) ?_
  refine x_ifB_ne (tgt := 11) dX0_car_5 (by decide) (fun hc5 => ?_) (fun hc5 => ?_)
  · obtain ⟨c, hc, rfl⟩ := inC (m := nC) (by omega) hc5
    have hcp : (nI c).toNatClampNeg = c := nI_clamp (by omega)
    · refine x_aload_n dX0_car_11 rfl ?_
      refine k_Fref 17 hO.1 rfl (by decide) rfl dX0_car_12 q415 ?_
      refine k_cars 1 rfl hL dX0_car_15 q350 ?_
      refine x_iload_n dX0_car_18 rfl ?_
      refine k_cald hL dX0_car_19 (by omega) ?_
      refine x_astore_n dX0_car_20 (by decide) rfl ?_
      refine x_iload_n dX0_car_21 rfl ?_
      rcases sw12 x2 with rfl | rfl | rfl | rfl | rfl | rfl | rfl | rfl | rfl | rfl | rfl | rfl | hout
      · refine x_swIn (off := 62) (tgt := 84) dX0_car_22 (by decide) (by decide) rfl (by decide) ?_
        refine x_aload_n dX0_car_84 rfl ?_
        refine k_cget 0 0 rfl hL dX0_car_85 (by decide) q310 (by omega) ?_
        have e9 : crQ w n (nI c) (nI 0) = w (10 + 20 * c + 0) := by rw [crQ, hG.2.2.1, hG.2.1, if_pos hc5, if_neg (fun z => absurd z.1 (by decide)), if_pos (inN_of (by decide) (by decide)), hcp]; rfl
        exact x_iret dX0_car_88 rfl rfl (fc_re.of2 e9.symm rfl)
      · refine x_swIn (off := 67) (tgt := 89) dX0_car_22 (by decide) (by decide) rfl (by decide) ?_
        refine x_aload_n dX0_car_89 rfl ?_
        refine k_cget 1 1 rfl hL dX0_car_90 (by decide) q313 (by omega) ?_
        have e9 : crQ w n (nI c) (nI 1) = w (10 + 20 * c + 1) := by rw [crQ, hG.2.2.1, hG.2.1, if_pos hc5, if_neg (fun z => absurd z.1 (by decide)), if_pos (inN_of (by decide) (by decide)), hcp]; rfl
        exact x_iret dX0_car_93 rfl rfl (fc_re.of2 e9.symm rfl)
      · refine x_swIn (off := 72) (tgt := 94) dX0_car_22 (by decide) (by decide) rfl (by decide) ?_
        refine x_aload_n dX0_car_94 rfl ?_
        refine k_cget 2 2 rfl hL dX0_car_95 (by decide) q316 (by omega) ?_
        have e9 : crQ w n (nI c) (nI 2) = w (10 + 20 * c + 2) := by rw [crQ, hG.2.2.1, hG.2.1, if_pos hc5, if_neg (fun z => absurd z.1 (by decide)), if_pos (inN_of (by decide) (by decide)), hcp]; rfl
        exact x_iret dX0_car_98 rfl rfl (fc_re.of2 e9.symm rfl)
      · refine x_swIn (off := 77) (tgt := 99) dX0_car_22 (by decide) (by decide) rfl (by decide) ?_
        refine x_aload_n dX0_car_99 rfl ?_
        refine k_cget 3 3 rfl hL dX0_car_100 (by decide) q319 (by omega) ?_
        have e9 : crQ w n (nI c) (nI 3) = w (10 + 20 * c + 3) := by rw [crQ, hG.2.2.1, hG.2.1, if_pos hc5, if_neg (fun z => absurd z.1 (by decide)), if_pos (inN_of (by decide) (by decide)), hcp]; rfl
        exact x_iret dX0_car_103 rfl rfl (fc_re.of2 e9.symm rfl)
      · refine x_swIn (off := 82) (tgt := 104) dX0_car_22 (by decide) (by decide) rfl (by decide) ?_
        refine x_aload_n dX0_car_104 rfl ?_
        refine k_Fref 17 hO.1 rfl (by decide) rfl dX0_car_105 q415 ?_
        refine x_iload_n dX0_car_108 rfl ?_
        refine x_ic2 dX0_car_109 ?_
        refine k_V2iT hL dX0_car_110 kG_X0_X3_inCar kP_X3_inCar rfl (by omega) (by decide) (Nat.le_of_ble_eq_true rfl) (d_inCar hL hN hG.2.2.2.1 rfl) ?_
        have e9 : crQ w n (nI c) (nI 4) = nI (cnt (rdp w 2 (nI c)) n) := by rw [crQ, hG.2.2.1, hG.2.1, if_pos hc5, if_neg (fun z => absurd z.1 (by decide)), if_pos (inN_of (by decide) (by decide)), hcp]; rfl
        exact x_iret dX0_car_113 rfl rfl (fc_re.of2 e9.symm rfl)
      · refine x_swIn (off := 92) (tgt := 114) dX0_car_22 (by decide) (by decide) rfl (by decide) ?_
        refine x_aload_n dX0_car_114 rfl ?_
        refine k_Fref 17 hO.1 rfl (by decide) rfl dX0_car_115 q415 ?_
        refine x_iload_n dX0_car_118 rfl ?_
        refine x_ic1 dX0_car_119 ?_
        refine k_V2iT hL dX0_car_120 kG_X0_X3_inCar kP_X3_inCar rfl (by omega) (by decide) (Nat.le_of_ble_eq_true rfl) (d_inCar hL hN hG.2.2.2.1 rfl) ?_
        have e9 : crQ w n (nI c) (nI 5) = nI (cnt (rdp w 1 (nI c)) n) := by rw [crQ, hG.2.2.1, hG.2.1, if_pos hc5, if_neg (fun z => absurd z.1 (by decide)), if_pos (inN_of (by decide) (by decide)), hcp]; rfl
        exact x_iret dX0_car_123 rfl rfl (fc_re.of2 e9.symm rfl)
      · refine x_swIn (off := 102) (tgt := 124) dX0_car_22 (by decide) (by decide) rfl (by decide) ?_
        refine x_aload_n dX0_car_124 rfl ?_
        refine k_cget 5 4 rfl hL dX0_car_125 (by decide) q325 (by omega) ?_
        refine x_if_eq (tgt := 135) dX0_car_128 (by decide) (fun hc128 => ?_) (fun hc128 => ?_)
        · refine x_ic0 dX0_car_135 ?_
          have e9 : crQ w n (nI c) (nI 6) = nI 0 := by rw [crQ, hG.2.2.1, hG.2.1, if_pos hc5, if_neg (fun z => absurd z.1 (by decide)), if_pos (inN_of (by decide) (by decide)), hcp]; exact hc128
          exact x_iret dX0_car_136 rfl rfl (fc_re.of2 e9.symm rfl)
        · refine x_ic1 dX0_car_131 ?_
          refine x_goto (tgt := 136) dX0_car_132 (by decide) ?_
          have e9 : crQ w n (nI c) (nI 6) = nI 1 := by rw [crQ, hG.2.2.1, hG.2.1, if_pos hc5, if_neg (fun z => absurd z.1 (by decide)), if_pos (inN_of (by decide) (by decide)), hcp]; exact (ho c hc).resolve_left hc128
          exact x_iret dX0_car_136 rfl rfl (fc_re.of2 e9.symm rfl)
      · refine x_swIn (off := 115) (tgt := 137) dX0_car_22 (by decide) (by decide) rfl (by decide) ?_
        refine x_aload_n dX0_car_137 rfl ?_
        refine k_cget 4 5 rfl hL dX0_car_138 (by decide) q322 (by omega) ?_
        have e9 : crQ w n (nI c) (nI 7) = w (10 + 20 * c + 5) := by rw [crQ, hG.2.2.1, hG.2.1, if_pos hc5, if_neg (fun z => absurd z.1 (by decide)), if_pos (inN_of (by decide) (by decide)), hcp]; rfl
        exact x_iret dX0_car_141 rfl rfl (fc_re.of2 e9.symm rfl)
      · refine x_swIn (off := 120) (tgt := 142) dX0_car_22 (by decide) (by decide) rfl (by decide) ?_
        refine x_aload_n dX0_car_142 rfl ?_
        refine k_plan hO dX0_car_143 q410 ?_
        refine k_plA 3 0 hO rfl (by decide) dX0_car_146 q217 ?_
        refine x_iload_n dX0_car_149 rfl ?_
        refine k_plL 0 6 rfl hO (by decide) dX0_car_150 (by omega) ?_
        have e9 : crQ w n (nI c) (nI 8) = w (10 + 20 * c + 6) := by rw [crQ, hG.2.2.1, hG.2.1, if_pos hc5, if_neg (fun z => absurd z.1 (by decide)), if_pos (inN_of (by decide) (by decide)), hcp]; rfl
        exact x_iret dX0_car_151 rfl rfl (fc_re.of2 e9.symm rfl)
      · refine x_swIn (off := 130) (tgt := 152) dX0_car_22 (by decide) (by decide) rfl (by decide) ?_
        refine x_aload_n dX0_car_152 rfl ?_
        refine k_plan hO dX0_car_153 q410 ?_
        refine k_plA 4 1 hO rfl (by decide) dX0_car_156 q220 ?_
        refine x_iload_n dX0_car_159 rfl ?_
        refine k_plL 1 7 rfl hO (by decide) dX0_car_160 (by omega) ?_
        have e9 : crQ w n (nI c) (nI 9) = w (10 + 20 * c + 7) := by rw [crQ, hG.2.2.1, hG.2.1, if_pos hc5, if_neg (fun z => absurd z.1 (by decide)), if_pos (inN_of (by decide) (by decide)), hcp]; rfl
        exact x_iret dX0_car_161 rfl rfl (fc_re.of2 e9.symm rfl)
      · refine x_swIn (off := 140) (tgt := 162) dX0_car_22 (by decide) (by decide) rfl (by decide) ?_
        refine x_aload_n dX0_car_162 rfl ?_
        refine k_plan hO dX0_car_163 q410 ?_
        refine k_plA 5 2 hO rfl (by decide) dX0_car_166 q223 ?_
        refine x_iload_n dX0_car_169 rfl ?_
        refine k_plL 2 8 rfl hO (by decide) dX0_car_170 (by omega) ?_
        have e9 : crQ w n (nI c) (nI 10) = w (10 + 20 * c + 8) := by rw [crQ, hG.2.2.1, hG.2.1, if_pos hc5, if_neg (fun z => absurd z.1 (by decide)), if_pos (inN_of (by decide) (by decide)), hcp]; rfl
        exact x_iret dX0_car_171 rfl rfl (fc_re.of2 e9.symm rfl)
      · refine x_swIn (off := 150) (tgt := 172) dX0_car_22 (by decide) (by decide) rfl (by decide) ?_
        refine x_aload_n dX0_car_172 rfl ?_
        refine k_plan hO dX0_car_173 q410 ?_
        refine k_plA 6 3 hO rfl (by decide) dX0_car_176 q226 ?_
        refine x_iload_n dX0_car_179 rfl ?_
        refine k_plL 3 9 rfl hO (by decide) dX0_car_180 (by omega) ?_
        have e9 : crQ w n (nI c) (nI 11) = w (10 + 20 * c + 9) := by rw [crQ, hG.2.2.1, hG.2.1, if_pos hc5, if_neg (fun z => absurd z.1 (by decide)), if_pos (inN_of (by decide) (by decide)), hcp]; rfl
        exact x_iret dX0_car_181 rfl rfl (fc_re.of2 e9.symm rfl)
      · refine x_swOut (tgt := 182) dX0_car_22 hout (by decide) ?_
        refine x_iload_n dX0_car_182 rfl ?_
        refine x_bipush (v := nI 100) dX0_car_183 (by decide) ?_
        refine x_icmp_lt (tgt := 224) dX0_car_185 (by decide) (fun hc185 => ?_) (fun hc185 => ?_)
        · refine x_bipush (v := -2) dX0_car_224 (by decide) ?_
          have e9 : crQ w n (nI c) x2 = -2 := by rw [crQ, hG.2.2.1, hG.2.1, if_pos hc5, if_neg (fun z => absurd hc185 (Int32.not_lt.mpr z.1)), if_neg (fun z => by have h1 := z.1; have h2 := z.2; omega)]
          exact x_iret dX0_car_226 rfl rfl (fc_re.of2 e9.symm rfl)
        · obtain ⟨k, hk, hk2, rfl⟩ := ge100 hc185
          · refine x_aload_n dX0_car_188 rfl ?_
            refine x_iload_n dX0_car_189 rfl ?_
            refine x_bipush (v := nI 100) dX0_car_190 (by decide) ?_
            refine x_isubN dX0_car_192 (by omega) ?_
            refine k_V1iF hO.1 dX0_car_193 kG_X0_X0_isFloor kP_X0_isFloor rfl (by omega) (by decide) (Nat.le_of_ble_eq_true rfl) (d_isFloor hO) ?_
            refine x_ifB_eq (tgt := 224) dX0_car_196 (by decide) (fun hc196 => ?_) (fun hc196 => ?_)
            · refine x_bipush (v := -2) dX0_car_224 (by decide) ?_
              have e9 : crQ w n (nI c) (nI k) = -2 := by rw [crQ, hG.2.2.1, hG.2.1, if_pos hc5, if_neg (fun z => hc196 ((fl100 hk hk2 hF).mpr z)), if_neg (fun z => by have h1 := z.1; have h2 := z.2; omega)]
              exact x_iret dX0_car_226 rfl rfl (fc_re.of2 e9.symm rfl)
            · have hkf : k - 100 < f := by have := (inN_le (n := f) (by omega)).mp hc196; have := this.2; rw [nI_toInt (by omega)] at this; omega
              · refine x_aload_n dX0_car_199 rfl ?_
                refine k_plan hO dX0_car_200 q410 ?_
                refine k_plS hO dX0_car_203 q231 ?_
                refine x_iload_n dX0_car_206 rfl ?_
                refine k_plR hO dX0_car_207 (by omega) ?_
                refine x_iload_n dX0_car_208 rfl ?_
                refine x_bipush (v := nI 100) dX0_car_209 (by decide) ?_
                refine x_isubN dX0_car_211 (by omega) ?_
                refine k_plZ hO dX0_car_212 (by omega) (by omega) ?_
                refine x_ifB_eq (tgt := 220) dX0_car_213 (by decide) (fun hc213 => ?_) (fun hc213 => ?_)
                · refine x_ic1 dX0_car_220 ?_
                  refine x_goto (tgt := 226) dX0_car_221 (by decide) ?_
                  have e9 : crQ w n (nI c) (nI k) = nI 1 := by rw [crQ, hG.2.2.1, hG.2.1, if_pos hc5, if_pos ((fl100 hk hk2 hF).mp hc196), hcp, nI_clamp hk2]; exact bI_t (Classical.byContradiction hc213)
                  exact x_iret dX0_car_226 rfl rfl (fc_re.of2 e9.symm rfl)
                · refine x_ic0 dX0_car_216 ?_
                  refine x_goto (tgt := 226) dX0_car_217 (by decide) ?_
                  have e9 : crQ w n (nI c) (nI k) = nI 0 := by rw [crQ, hG.2.2.1, hG.2.1, if_pos hc5, if_pos ((fl100 hk hk2 hF).mp hc196), hcp, nI_clamp hk2]; exact bI_f hc213
                  exact x_iret dX0_car_226 rfl rfl (fc_re.of2 e9.symm rfl)
  · refine x_bipush (v := -2) dX0_car_8 (by decide) ?_
    have e9 : crQ w n x1 x2 = -2 := by rw [crQ, hG.2.2.1, if_neg hc5]
    exact x_iret dX0_car_10 rfl rfl (fc_re.of2 e9.symm rfl)
def pnC (w : Nat → Int32) (x1 x2 : Int32) : Int32 := if nI 0 ≤ x1 ∧ x1 ≤ w 2 - nI 1 then (if nI 0 ≤ x2 ∧ x2 ≤ nI 6 then (if x2.toNatClampNeg < 5 then w (820 + 8 * x1.toNatClampNeg + x2.toNatClampNeg) else if x2.toNatClampNeg = 5 then (if w (820 + 8 * x1.toNatClampNeg + 3) < nI 2 then -1 else w (820 + 8 * x1.toNatClampNeg + 5) - w (820 + 8 * x1.toNatClampNeg + 0)) else (if w (820 + 8 * x1.toNatClampNeg + 3) = nI 3 then w (820 + 8 * x1.toNatClampNeg + 6) - w (820 + 8 * x1.toNatClampNeg + 5) else -1)) else -2) else -2
theorem kG_X0_X0_isOne : GoodIn lw_all (wsV RX0 410 RX0 yX0_isOne (ws_ yX0_isOne cX0_isOne 2 (some .boolean))) := lw_V q986 q988 qs36 q118 q989
theorem kP_X0_isOne : kPar yX0_isOne 1 := by decide +kernel
set_option maxHeartbeats 1000000 in
theorem d_person (hL : LT g M 32) (hO : PC g M S π 32 f nC w) {n : Nat} (hG : GI w n f nC) {x1 x2 : Int32} : fc_CX g l yX0_person cX0_person 4 (some .int) 3 [.ref (fc_B g + 0), .int x1, .int x2] (cR M S U 32 w) (fc_re (pnC w x1 x2) (cR M S U 32 w)) := by
  refine fc_enter (by decide) (Nat.le_of_ble_eq_true rfl) rfl ?_
  have hC := hG.1.2.2
  have hF := hG.1.2.1
  have hN := hG.1.1
  refine x_aload_n dX0_person_0 rfl ?_
  refine x_iload_n dX0_person_1 rfl ?_
  refine k_V1iF hO.1 dX0_person_2 kG_X0_X0_isOne kP_X0_isOne rfl (by omega) (by decide) (Nat.le_of_ble_eq_true rfl) (d_isOne hL hO) ?_
  refine x_ifB_ne (tgt := 11) dX0_person_5 (by decide) (fun hc5 => ?_) (fun hc5 => ?_)
  · obtain ⟨pp, hp, rfl⟩ := hG.one hc5
    have hcp : (nI pp).toNatClampNeg = pp := nI_clamp (by omega)
    · refine x_aload_n dX0_person_11 rfl ?_
      refine k_Fref 17 hO.1 rfl (by decide) rfl dX0_person_12 q415 ?_
      refine k_people 0 rfl hL dX0_person_15 q348 ?_
      refine x_iload_n dX0_person_18 rfl ?_
      refine k_pald hL dX0_person_19 (by omega) ?_
      refine x_astore_n dX0_person_20 (by decide) rfl ?_
      refine x_iload_n dX0_person_21 rfl ?_
      rcases sw7 x2 with rfl | rfl | rfl | rfl | rfl | rfl | rfl | hout
      · refine x_swIn (off := 42) (tgt := 64) dX0_person_22 (by decide) (by decide) rfl (by decide) ?_
        refine x_aload_n dX0_person_64 rfl ?_
        refine k_pget 0 hL dX0_person_65 (by decide) q269 (by omega) ?_
        have e9 : pnC w (nI pp) (nI 0) = w (820 + 8 * pp + 0) := by rw [pnC, if_pos hc5, if_pos ⟨by decide, by decide⟩, hcp, nI_clamp (n := 0) (by decide), if_pos (by decide)]
        exact x_iret dX0_person_68 rfl rfl (fc_re.of2 e9.symm rfl)
      · refine x_swIn (off := 47) (tgt := 69) dX0_person_22 (by decide) (by decide) rfl (by decide) ?_
        refine x_aload_n dX0_person_69 rfl ?_
        refine k_pget 1 hL dX0_person_70 (by decide) q272 (by omega) ?_
        have e9 : pnC w (nI pp) (nI 1) = w (820 + 8 * pp + 1) := by rw [pnC, if_pos hc5, if_pos ⟨by decide, by decide⟩, hcp, nI_clamp (n := 1) (by decide), if_pos (by decide)]
        exact x_iret dX0_person_73 rfl rfl (fc_re.of2 e9.symm rfl)
      · refine x_swIn (off := 52) (tgt := 74) dX0_person_22 (by decide) (by decide) rfl (by decide) ?_
        refine x_aload_n dX0_person_74 rfl ?_
        refine k_pget 2 hL dX0_person_75 (by decide) q275 (by omega) ?_
        have e9 : pnC w (nI pp) (nI 2) = w (820 + 8 * pp + 2) := by rw [pnC, if_pos hc5, if_pos ⟨by decide, by decide⟩, hcp, nI_clamp (n := 2) (by decide), if_pos (by decide)]
        exact x_iret dX0_person_78 rfl rfl (fc_re.of2 e9.symm rfl)
      · refine x_swIn (off := 57) (tgt := 79) dX0_person_22 (by decide) (by decide) rfl (by decide) ?_
        refine x_aload_n dX0_person_79 rfl ?_
        refine k_pget 3 hL dX0_person_80 (by decide) q278 (by omega) ?_
        have e9 : pnC w (nI pp) (nI 3) = w (820 + 8 * pp + 3) := by rw [pnC, if_pos hc5, if_pos ⟨by decide, by decide⟩, hcp, nI_clamp (n := 3) (by decide), if_pos (by decide)]
        exact x_iret dX0_person_83 rfl rfl (fc_re.of2 e9.symm rfl)
      · refine x_swIn (off := 62) (tgt := 84) dX0_person_22 (by decide) (by decide) rfl (by decide) ?_
        refine x_aload_n dX0_person_84 rfl ?_
        refine k_pget 4 hL dX0_person_85 (by decide) q281 (by omega) ?_
        have e9 : pnC w (nI pp) (nI 4) = w (820 + 8 * pp + 4) := by rw [pnC, if_pos hc5, if_pos ⟨by decide, by decide⟩, hcp, nI_clamp (n := 4) (by decide), if_pos (by decide)]
        exact x_iret dX0_person_88 rfl rfl (fc_re.of2 e9.symm rfl)
      · refine x_swIn (off := 67) (tgt := 89) dX0_person_22 (by decide) (by decide) rfl (by decide) ?_
        refine x_aload_n dX0_person_89 rfl ?_
        refine k_pget 3 hL dX0_person_90 (by decide) q278 (by omega) ?_
        refine x_ic2 dX0_person_93 ?_
        refine x_icmp_lt (tgt := 109) dX0_person_94 (by decide) (fun hc94 => ?_) (fun hc94 => ?_)
        · refine x_icm1 dX0_person_109 ?_
          have e9 : pnC w (nI pp) (nI 5) = -1 := by rw [pnC, if_pos hc5, if_pos ⟨by decide, by decide⟩, hcp, nI_clamp (n := 5) (by decide), if_neg (by decide), if_pos rfl, if_pos hc94]
          exact x_iret dX0_person_110 rfl rfl (fc_re.of2 e9.symm rfl)
        · refine x_aload_n dX0_person_97 rfl ?_
          refine k_pget 5 hL dX0_person_98 (by decide) q284 (by omega) ?_
          refine x_aload_n dX0_person_101 rfl ?_
          refine k_pget 0 hL dX0_person_102 (by decide) q269 (by omega) ?_
          refine x_isub dX0_person_105 ?_
          refine x_goto (tgt := 110) dX0_person_106 (by decide) ?_
          have e9 : pnC w (nI pp) (nI 5) = w (820 + 8 * pp + 5) - w (820 + 8 * pp + 0) := by rw [pnC, if_pos hc5, if_pos ⟨by decide, by decide⟩, hcp, nI_clamp (n := 5) (by decide), if_neg (by decide), if_pos rfl, if_neg hc94]
          exact x_iret dX0_person_110 rfl rfl (fc_re.of2 e9.symm rfl)
      · refine x_swIn (off := 89) (tgt := 111) dX0_person_22 (by decide) (by decide) rfl (by decide) ?_
        refine x_aload_n dX0_person_111 rfl ?_
        refine k_pget 3 hL dX0_person_112 (by decide) q278 (by omega) ?_
        refine x_ic3 dX0_person_115 ?_
        refine x_icmp_ne (tgt := 131) dX0_person_116 (by decide) (fun hc116 => ?_) (fun hc116 => ?_)
        · refine x_icm1 dX0_person_131 ?_
          have e9 : pnC w (nI pp) (nI 6) = -1 := by rw [pnC, if_pos hc5, if_pos ⟨by decide, by decide⟩, hcp, nI_clamp (n := 6) (by decide), if_neg (by decide), if_neg (by decide), if_neg hc116]
          exact x_iret dX0_person_132 rfl rfl (fc_re.of2 e9.symm rfl)
        · refine x_aload_n dX0_person_119 rfl ?_
          refine k_pget 6 hL dX0_person_120 (by decide) q287 (by omega) ?_
          refine x_aload_n dX0_person_123 rfl ?_
          refine k_pget 5 hL dX0_person_124 (by decide) q284 (by omega) ?_
          refine x_isub dX0_person_127 ?_
          refine x_goto (tgt := 132) dX0_person_128 (by decide) ?_
          have e9 : pnC w (nI pp) (nI 6) = w (820 + 8 * pp + 6) - w (820 + 8 * pp + 5) := by rw [pnC, if_pos hc5, if_pos ⟨by decide, by decide⟩, hcp, nI_clamp (n := 6) (by decide), if_neg (by decide), if_neg (by decide), if_pos hc116]
          exact x_iret dX0_person_132 rfl rfl (fc_re.of2 e9.symm rfl)
      · refine x_swOut (tgt := 133) dX0_person_22 hout (by decide) ?_
        refine x_bipush (v := -2) dX0_person_133 (by decide) ?_
        have e9 : pnC w (nI pp) x2 = -2 := (if_pos hc5).trans (if_neg (fun z => by obtain ⟨k9, -, hk9, rfl⟩ := nI_between (a := 0) (b := 6) (by decide) z (by decide); rw [nI_toInt (by omega)] at hout; omega))
        exact x_iret dX0_person_135 rfl rfl (fc_re.of2 e9.symm rfl)
  · refine x_bipush (v := -2) dX0_person_8 (by decide) ?_
    have e9 : pnC w x1 x2 = -2 := if_neg hc5
    exact x_iret dX0_person_10 rfl rfl (fc_re.of2 e9.symm rfl)
set_option maxHeartbeats 1000000 in
theorem d_look (hL : LT g M 32) (hO : PC g M S π 32 f nC w) {n : Nat} (hG : GI w n f nC) (hW : ∀ i, i < f → S 30 i = w (740 + i)) {τ : Nat → Nat} (hR : ∀ r, r < 3 → fc_ct M 6 r = .ref (fc_B g + τ r) ∧ TX g M S (τ r) w r (nlW w r)) {x : Int32} : fc_CX g l yX0_look cX0_look 2 (some .int) 3 [.ref (fc_B g + 0), .int x] (cR M S U 32 w) (fc_re (lkQ w n x) (cR M S U 32 w)) := by
  refine fc_enter (by decide) (Nat.le_of_ble_eq_true rfl) rfl ?_
  have hC := hG.1.2.2
  have hF := hG.1.2.1
  have hN := hG.1.1
  refine x_iload_n dX0_look_0 rfl ?_
  refine x_bipush (v := nI 100) dX0_look_1 (by decide) ?_
  refine x_icmp_lt (tgt := 31) dX0_look_3 (by decide) (fun hc3 => ?_) (fun hc3 => ?_)
  · refine x_iload_n dX0_look_31 rfl ?_
    rcases sw14 x with rfl | rfl | rfl | rfl | rfl | rfl | rfl | rfl | rfl | rfl | rfl | rfl | rfl | rfl | hout
    · refine x_swIn (off := 72) (tgt := 104) dX0_look_32 (by decide) (by decide) rfl (by decide) ?_
      refine x_aload_n dX0_look_104 rfl ?_
      refine k_plan hO dX0_look_105 q410 ?_
      refine k_plF 0 (nI f) hO (Or.inl ⟨rfl, rfl⟩) dX0_look_108 q211 ?_
      have e9 : lkQ w n (nI 0) = nI f := by rw [lkQ, if_pos (by decide), nI_clamp (by decide)]; exact hG.2.1
      exact x_iret dX0_look_111 rfl rfl (fc_re.of2 e9.symm rfl)
    · refine x_swIn (off := 80) (tgt := 112) dX0_look_32 (by decide) (by decide) rfl (by decide) ?_
      refine x_aload_n dX0_look_112 rfl ?_
      refine k_plan hO dX0_look_113 q410 ?_
      refine k_plF 1 (nI nC) hO (Or.inr (Or.inl ⟨rfl, rfl⟩)) dX0_look_116 q213 ?_
      have e9 : lkQ w n (nI 1) = nI nC := by rw [lkQ, if_pos (by decide), nI_clamp (by decide)]; exact hG.2.2.1
      exact x_iret dX0_look_119 rfl rfl (fc_re.of2 e9.symm rfl)
    · refine x_swIn (off := 88) (tgt := 120) dX0_look_32 (by decide) (by decide) rfl (by decide) ?_
      refine x_aload_n dX0_look_120 rfl ?_
      refine k_Fref 17 hO.1 rfl (by decide) rfl dX0_look_121 q415 ?_
      refine k_tget 2 hL dX0_look_124 (by decide) q352 ?_
      have e9 : lkQ w n (nI 2) = w 2 := by rw [lkQ, if_pos (by decide), nI_clamp (by decide)]
      exact x_iret dX0_look_127 rfl rfl (fc_re.of2 e9.symm rfl)
    · refine x_swIn (off := 96) (tgt := 128) dX0_look_32 (by decide) (by decide) rfl (by decide) ?_
      refine x_aload_n dX0_look_128 rfl ?_
      refine k_Fref 17 hO.1 rfl (by decide) rfl dX0_look_129 q415 ?_
      refine k_tget 3 hL dX0_look_132 (by decide) q354 ?_
      have e9 : lkQ w n (nI 3) = w 3 := by rw [lkQ, if_pos (by decide), nI_clamp (by decide)]
      exact x_iret dX0_look_135 rfl rfl (fc_re.of2 e9.symm rfl)
    · refine x_swIn (off := 104) (tgt := 136) dX0_look_32 (by decide) (by decide) rfl (by decide) ?_
      refine x_aload_n dX0_look_136 rfl ?_
      refine k_Fref 17 hO.1 rfl (by decide) rfl dX0_look_137 q415 ?_
      refine k_tget 4 hL dX0_look_140 (by decide) q356 ?_
      have e9 : lkQ w n (nI 4) = w 4 := by rw [lkQ, if_pos (by decide), nI_clamp (by decide)]
      exact x_iret dX0_look_143 rfl rfl (fc_re.of2 e9.symm rfl)
    · refine x_swIn (off := 112) (tgt := 144) dX0_look_32 (by decide) (by decide) rfl (by decide) ?_
      refine x_aload_n dX0_look_144 rfl ?_
      refine k_Fref 17 hO.1 rfl (by decide) rfl dX0_look_145 q415 ?_
      refine x_ic1 dX0_look_148 ?_
      refine k_V1iT hL dX0_look_149 kG_X0_X3_inState kP_X3_inState rfl (by omega) (by decide) (Nat.le_of_ble_eq_true rfl) (d_inState hL hN hG.2.2.2.1 rfl) ?_
      have e9 : lkQ w n (nI 5) = nI (cnt (stp w 1) n) := by rw [lkQ, if_neg (by decide), if_pos rfl]
      exact x_iret dX0_look_152 rfl rfl (fc_re.of2 e9.symm rfl)
    · refine x_swIn (off := 121) (tgt := 153) dX0_look_32 (by decide) (by decide) rfl (by decide) ?_
      refine x_aload_n dX0_look_153 rfl ?_
      refine k_Fref 17 hO.1 rfl (by decide) rfl dX0_look_154 q415 ?_
      refine x_ic2 dX0_look_157 ?_
      refine k_V1iT hL dX0_look_158 kG_X0_X3_inState kP_X3_inState rfl (by omega) (by decide) (Nat.le_of_ble_eq_true rfl) (d_inState hL hN hG.2.2.2.1 rfl) ?_
      have e9 : lkQ w n (nI 6) = nI (cnt (stp w 2) n) := by rw [lkQ, if_neg (by decide), if_neg (by decide), if_pos rfl]
      exact x_iret dX0_look_161 rfl rfl (fc_re.of2 e9.symm rfl)
    · refine x_swIn (off := 151) (tgt := 183) dX0_look_32 (by decide) (by decide) rfl (by decide) ?_
      refine x_icm1 dX0_look_183 ?_
      have e9 : lkQ w n (nI 7) = -1 := by rw [lkQ, if_neg (by decide), if_neg (by decide), if_neg (by decide), if_neg (by decide), if_neg (by decide), if_neg (fun z => absurd z.1 (by decide))]
      exact x_iret dX0_look_184 rfl rfl (fc_re.of2 e9.symm rfl)
    · refine x_swIn (off := 151) (tgt := 183) dX0_look_32 (by decide) (by decide) rfl (by decide) ?_
      refine x_icm1 dX0_look_183 ?_
      have e9 : lkQ w n (nI 8) = -1 := by rw [lkQ, if_neg (by decide), if_neg (by decide), if_neg (by decide), if_neg (by decide), if_neg (by decide), if_neg (fun z => absurd z.1 (by decide))]
      exact x_iret dX0_look_184 rfl rfl (fc_re.of2 e9.symm rfl)
    · refine x_swIn (off := 151) (tgt := 183) dX0_look_32 (by decide) (by decide) rfl (by decide) ?_
      refine x_icm1 dX0_look_183 ?_
      have e9 : lkQ w n (nI 9) = -1 := by rw [lkQ, if_neg (by decide), if_neg (by decide), if_neg (by decide), if_neg (by decide), if_neg (by decide), if_neg (fun z => absurd z.1 (by decide))]
      exact x_iret dX0_look_184 rfl rfl (fc_re.of2 e9.symm rfl)
    · refine x_swIn (off := 130) (tgt := 162) dX0_look_32 (by decide) (by decide) rfl (by decide) ?_
      refine x_aload_n dX0_look_162 rfl ?_
      refine k_Fref 13 hO.1 rfl (by decide) rfl dX0_look_163 q408 ?_
      refine x_iload_n dX0_look_166 rfl ?_
      refine x_bipush (v := nI 10) dX0_look_167 (by decide) ?_
      refine x_isubN dX0_look_169 (by omega) ?_
      refine x_aald dX0_look_170 (show 6 < fc_nx M by have := hO.1.1; omega) (hO.1.2.2 6 _ rfl) rfl (by decide) (show 0 < 3 by decide) ((cl_r (by rw [hO.1.2.2 6 _ rfl]; rfl)).trans (hR 0 (by decide)).1) ?_
      refine q_geti 1 3 dX0_look_171 (C := RX1) (T := TX1) (N := 4) rfl (by decide) q190 (show τ 0 < fc_nx M by have := (hR 0 (by decide)).2.1.1; omega) (hR 0 (by decide)).2.1.2.1 rfl ((clr_off hL (by simp [(hR 0 (by decide)).2.1.2.1])).trans ((hR 0 (by decide)).2.2.2.1.1.trans (show nI (nlW w 0) = w (1300 + 0) from (hG.2.2.2.2.2.2.2 0 (by decide)).1.symm))) ?_
      have e9 : lkQ w n (nI 10) = w (1300 + 0) := by rw [lkQ, if_neg (by decide), if_neg (by decide), if_neg (by decide), if_pos (by decide), nI_clamp (by decide)]
      exact x_iret dX0_look_174 rfl rfl (fc_re.of2 e9.symm rfl)
    · refine x_swIn (off := 130) (tgt := 162) dX0_look_32 (by decide) (by decide) rfl (by decide) ?_
      refine x_aload_n dX0_look_162 rfl ?_
      refine k_Fref 13 hO.1 rfl (by decide) rfl dX0_look_163 q408 ?_
      refine x_iload_n dX0_look_166 rfl ?_
      refine x_bipush (v := nI 10) dX0_look_167 (by decide) ?_
      refine x_isubN dX0_look_169 (by omega) ?_
      refine x_aald dX0_look_170 (show 6 < fc_nx M by have := hO.1.1; omega) (hO.1.2.2 6 _ rfl) rfl (by decide) (show 1 < 3 by decide) ((cl_r (by rw [hO.1.2.2 6 _ rfl]; rfl)).trans (hR 1 (by decide)).1) ?_
      refine q_geti 1 3 dX0_look_171 (C := RX1) (T := TX1) (N := 4) rfl (by decide) q190 (show τ 1 < fc_nx M by have := (hR 1 (by decide)).2.1.1; omega) (hR 1 (by decide)).2.1.2.1 rfl ((clr_off hL (by simp [(hR 1 (by decide)).2.1.2.1])).trans ((hR 1 (by decide)).2.2.2.1.1.trans (show nI (nlW w 1) = w (1300 + 1) from (hG.2.2.2.2.2.2.2 1 (by decide)).1.symm))) ?_
      have e9 : lkQ w n (nI 11) = w (1300 + 1) := by rw [lkQ, if_neg (by decide), if_neg (by decide), if_neg (by decide), if_pos (by decide), nI_clamp (by decide)]
      exact x_iret dX0_look_174 rfl rfl (fc_re.of2 e9.symm rfl)
    · refine x_swIn (off := 130) (tgt := 162) dX0_look_32 (by decide) (by decide) rfl (by decide) ?_
      refine x_aload_n dX0_look_162 rfl ?_
      refine k_Fref 13 hO.1 rfl (by decide) rfl dX0_look_163 q408 ?_
      refine x_iload_n dX0_look_166 rfl ?_
      refine x_bipush (v := nI 10) dX0_look_167 (by decide) ?_
      refine x_isubN dX0_look_169 (by omega) ?_
      refine x_aald dX0_look_170 (show 6 < fc_nx M by have := hO.1.1; omega) (hO.1.2.2 6 _ rfl) rfl (by decide) (show 2 < 3 by decide) ((cl_r (by rw [hO.1.2.2 6 _ rfl]; rfl)).trans (hR 2 (by decide)).1) ?_
      refine q_geti 1 3 dX0_look_171 (C := RX1) (T := TX1) (N := 4) rfl (by decide) q190 (show τ 2 < fc_nx M by have := (hR 2 (by decide)).2.1.1; omega) (hR 2 (by decide)).2.1.2.1 rfl ((clr_off hL (by simp [(hR 2 (by decide)).2.1.2.1])).trans ((hR 2 (by decide)).2.2.2.1.1.trans (show nI (nlW w 2) = w (1300 + 2) from (hG.2.2.2.2.2.2.2 2 (by decide)).1.symm))) ?_
      have e9 : lkQ w n (nI 12) = w (1300 + 2) := by rw [lkQ, if_neg (by decide), if_neg (by decide), if_neg (by decide), if_pos (by decide), nI_clamp (by decide)]
      exact x_iret dX0_look_174 rfl rfl (fc_re.of2 e9.symm rfl)
    · refine x_swIn (off := 143) (tgt := 175) dX0_look_32 (by decide) (by decide) rfl (by decide) ?_
      refine x_aload_n dX0_look_175 rfl ?_
      refine k_plan hO dX0_look_176 q410 ?_
      refine k_plF 2 _ hO (Or.inr (Or.inr ⟨rfl, rfl⟩)) dX0_look_179 q214 ?_
      have e9 : lkQ w n (nI 13) = w 5 := by rw [lkQ, if_neg (by decide), if_neg (by decide), if_neg (by decide), if_neg (by decide), if_pos rfl]
      exact x_iret dX0_look_182 rfl rfl (fc_re.of2 e9.symm rfl)
    · refine x_swOut (tgt := 183) dX0_look_32 hout (by decide) ?_
      refine x_icm1 dX0_look_183 ?_
      have e9 : lkQ w n x = -1 := by rw [lkQ, if_neg (fun z => by obtain ⟨k9, -, hk9, rfl⟩ := nI_between (a := 0) (b := 4) (by decide) z (by decide); rw [nI_toInt (by omega)] at hout; omega), if_neg (fun z => by subst z; revert hout; decide), if_neg (fun z => by subst z; revert hout; decide), if_neg (fun z => by obtain ⟨k9, -, hk9, rfl⟩ := nI_between (a := 10) (b := 12) (by decide) z (by decide); rw [nI_toInt (by omega)] at hout; omega), if_neg (fun z => by subst z; revert hout; decide), if_neg (fun z => absurd hc3 (Int32.not_lt.mpr z.1))]
      exact x_iret dX0_look_184 rfl rfl (fc_re.of2 e9.symm rfl)
  · obtain ⟨k, hk, hk2, rfl⟩ := ge100 hc3
    · refine x_aload_n dX0_look_6 rfl ?_
      refine x_iload_n dX0_look_7 rfl ?_
      refine x_bipush (v := nI 100) dX0_look_8 (by decide) ?_
      refine x_isubN dX0_look_10 (by omega) ?_
      refine k_V1iF hO.1 dX0_look_11 kG_X0_X0_isFloor kP_X0_isFloor rfl (by omega) (by decide) (Nat.le_of_ble_eq_true rfl) (d_isFloor hO) ?_
      refine x_ifB_eq (tgt := 29) dX0_look_14 (by decide) (fun hc14 => ?_) (fun hc14 => ?_)
      · refine x_icm1 dX0_look_29 ?_
        have e9 : lkQ w n (nI k) = -1 := by rw [lkQ, hG.2.1, if_neg (fun z => absurd ((nI_leI hk2 (by decide)).mp z.2) (by omega)), if_neg (fun z => absurd ((nI_eq hk2 (by decide)).mp z) (by omega)), if_neg (fun z => absurd ((nI_eq hk2 (by decide)).mp z) (by omega)), if_neg (fun z => absurd ((nI_leI hk2 (by decide)).mp z.2) (by omega)), if_neg (fun z => absurd ((nI_eq hk2 (by decide)).mp z) (by omega)), if_neg (fun z => hc14 ((fl100 hk hk2 hF).mpr z))]
        exact x_iret dX0_look_30 rfl rfl (fc_re.of2 e9.symm rfl)
      · have hkf : k - 100 < f := by have := (inN_le (n := f) (by omega)).mp hc14; have := this.2; rw [nI_toInt (by omega)] at this; omega
        · refine x_aload_n dX0_look_17 rfl ?_
          refine k_Fref 15 hO.1 rfl (by decide) rfl dX0_look_18 q412 ?_
          refine x_iload_n dX0_look_21 rfl ?_
          refine x_bipush (v := nI 100) dX0_look_22 (by decide) ?_
          refine x_isubN dX0_look_24 (by omega) ?_
          refine k_ald (a := 30) dX0_look_25 (show 30 < fc_nx M by have := hO.1.1; omega) (hO.1.2.2 30 _ rfl) (by decide) (by omega) (by omega) ?_
          refine x_top (hW _ hkf) ?_
          refine x_goto (tgt := 30) dX0_look_26 (by decide) ?_
          have e9 : lkQ w n (nI k) = w (740 + (k - 100)) := by rw [lkQ, hG.2.1, if_neg (fun z => absurd ((nI_leI hk2 (by decide)).mp z.2) (by omega)), if_neg (fun z => absurd ((nI_eq hk2 (by decide)).mp z) (by omega)), if_neg (fun z => absurd ((nI_eq hk2 (by decide)).mp z) (by omega)), if_neg (fun z => absurd ((nI_leI hk2 (by decide)).mp z.2) (by omega)), if_neg (fun z => absurd ((nI_eq hk2 (by decide)).mp z) (by omega)), if_pos ((fl100 hk hk2 hF).mp hc14), nI_clamp hk2]
          exact x_iret dX0_look_30 rfl rfl (fc_re.of2 e9.symm rfl)
end T99ZA
