set_option maxRecDepth 100000
section T36
variable {g : fc_G} {l : Launch} {M : fc_M} {T : tT} {w : Nat → Int32}
def flW (w : Nat → Int32) (c : Nat) : Nat := (w (10 + 20 * c + 0)).toNatClampNeg
def csW (pr : Int32) (ps c n f : Nat) (w : Nat → Int32) : Nat → Int32 :=
  if w (10 + 20 * c + 4) = nI 1 then w else
  if w (10 + 20 * c + 2) = 0 then lkW pr ps c n (flW w c) f w else
  if 0 < w (10 + 20 * c + 3) - nI 1 then up w (10 + 20 * c + 3) (w (10 + 20 * c + 3) - nI 1) else
  if w (10 + 20 * c + 2) = nI 1 then lkW pr ps c n (w (10 + 20 * c + 0) + w (10 + 20 * c + 1)).toNatClampNeg f (up (up w (10 + 20 * c + 3) (w (10 + 20 * c + 3) - nI 1)) (10 + 20 * c + 0) (w (10 + 20 * c + 0) + w (10 + 20 * c + 1))) else
  lkW pr ps c n (flW w c) f (up w (10 + 20 * c + 3) (w (10 + 20 * c + 3) - nI 1))
/-- a car's numbers are in order -/
def CV (w : Nat → Int32) (c f : Nat) : Prop := (∃ a, a < f ∧ w (10 + 20 * c + 0) = nI a) ∧ (w (10 + 20 * c + 1) = 0 ∨ w (10 + 20 * c + 1) = nI 1 ∨ w (10 + 20 * c + 1) = -1) ∧ (w (10 + 20 * c + 2) = nI 1 → ∃ a, a < f ∧ w (10 + 20 * c + 0) + w (10 + 20 * c + 1) = nI a) ∧ (w (10 + 20 * c + 5) = -1 ∨ ∃ h, h < f ∧ w (10 + 20 * c + 5) = nI h)
theorem kG_X6_X6_looks : GoodIn lw_all (wsV RX6 326 RX6 yX6_looks (ws_ yX6_looks cX6_looks 6 (none))) := lw_V q1492 q1494 qs94 q124 q1495
theorem kP_X6_looks : kPar yX6_looks 1 := by decide +kernel
set_option maxHeartbeats 1000000 in
theorem b_acs73 {n0 s0 : Nat} (hM : tw0 + 17 ≤ fc_nx M) {n ps f : Nat} (hn : n ≤ 60) (hw : w 2 = nI n) {c : Nat} (hc : c < 4) (hps : T 0 30 = nI ps) (hpl : ps < 80) (hw0 : w 0 = nI f) (hPI : PI w n f) (hf : f ≤ 80) {a : Nat} (ha : a < f) (hfl : w (10 + 20 * c + 0) = nI a) (hwy : w (10 + 20 * c + 1) = 0 ∨ w (10 + 20 * c + 1) = nI 1 ∨ w (10 + 20 * c + 1) = -1) : fc_X g l yX6_aCarsSecond cX6_aCarsSecond 2 (none) 9 n0 s0 (tv g M T w) 73 [some (.ref (fc_B g + tw0)), some (.int (nI c))] [] (tv_ve g M T (lkW (T 0 29) ps c n a f w)) := by
  refine x_aload_n dX6_aCarsSecond_73 rfl ?_
  refine x_iload_n dX6_aCarsSecond_74 rfl ?_
  refine v_V1ve hM dX6_aCarsSecond_75 kG_X6_X6_looks kP_X6_looks rfl (by omega) (by decide) (Nat.le_of_ble_eq_true rfl) (c_looks hM hn hw hc hps hpl hw0 hPI hf ha hfl hwy) ?_
  exact x_vret dX6_aCarsSecond_78 rfl tv_v1
set_option maxHeartbeats 1000000 in
theorem c_acs (hM : tw0 + 17 ≤ fc_nx M) {n ps f : Nat} (hn : n ≤ 60) (hw : w 2 = nI n) {c : Nat} (hc : c < 4) (hps : T 0 30 = nI ps) (hpl : ps < 80) (hw0 : w 0 = nI f) (hPI : PI w n f) (hf : f ≤ 80) (hcv : CV w c f) : fc_CX g l yX6_aCarsSecond cX6_aCarsSecond 2 (none) 9 [.ref (fc_B g + tw0), .int (nI c)] (tv g M T w) (tv_ve g M T (csW (T 0 29) ps c n f w)) := by
  refine fc_enter (by decide) (Nat.le_of_ble_eq_true rfl) rfl ?_
  obtain ⟨⟨a, ha, hfl⟩, hwy, hgo, -⟩ := hcv
  refine x_aload_n dX6_aCarsSecond_0 rfl ?_
  refine x_iload_n dX6_aCarsSecond_1 rfl ?_
  refine x_ic4 dX6_aCarsSecond_2 ?_
  refine v_V2ie hM dX6_aCarsSecond_3 kG_X6_X6_ofCar kP_X6_ofCar rfl (by omega) (by decide) (Nat.le_of_ble_eq_true rfl) (c_ofCar hM rfl rfl (by omega)) ?_
  refine x_ic1 dX6_aCarsSecond_6 ?_
  refine x_icmp_ne (tgt := 11) dX6_aCarsSecond_7 (by decide) (fun hc7 => ?_) (fun hc7 => ?_)
  · refine x_aload_n dX6_aCarsSecond_11 rfl ?_
    refine x_iload_n dX6_aCarsSecond_12 rfl ?_
    refine x_ic2 dX6_aCarsSecond_13 ?_
    refine v_V2ie hM dX6_aCarsSecond_14 kG_X6_X6_ofCar kP_X6_ofCar rfl (by omega) (by decide) (Nat.le_of_ble_eq_true rfl) (c_ofCar hM rfl rfl (by omega)) ?_
    refine x_if_eq (tgt := 73) dX6_aCarsSecond_17 (by decide) (fun hc17 => ?_) (fun hc17 => ?_)
    · rw [csW, if_neg hc7, if_pos hc17, show flW w c = a by rw [flW, hfl, nI_clamp (by omega)]]
      exact b_acs73 hM hn hw hc hps hpl hw0 hPI hf ha hfl hwy
    · refine x_aload_n dX6_aCarsSecond_20 rfl ?_
      refine x_iload_n dX6_aCarsSecond_21 rfl ?_
      refine x_ic3 dX6_aCarsSecond_22 ?_
      refine x_aload_n dX6_aCarsSecond_23 rfl ?_
      refine x_iload_n dX6_aCarsSecond_24 rfl ?_
      refine x_ic3 dX6_aCarsSecond_25 ?_
      refine v_V2ie hM dX6_aCarsSecond_26 kG_X6_X6_ofCar kP_X6_ofCar rfl (by omega) (by decide) (Nat.le_of_ble_eq_true rfl) (c_ofCar hM rfl rfl (by omega)) ?_
      refine x_ic1 dX6_aCarsSecond_29 ?_
      refine x_isub dX6_aCarsSecond_30 ?_
      refine v_V3ve hM dX6_aCarsSecond_31 kG_X6_X6_sets kP_X6_sets rfl (by omega) (by decide) (Nat.le_of_ble_eq_true rfl) (c_sets hM rfl rfl (by omega)) ?_
      refine x_aload_n dX6_aCarsSecond_34 rfl ?_
      refine x_iload_n dX6_aCarsSecond_35 rfl ?_
      refine x_ic3 dX6_aCarsSecond_36 ?_
      refine v_V2ie hM dX6_aCarsSecond_37 kG_X6_X6_ofCar kP_X6_ofCar rfl (by omega) (by decide) (Nat.le_of_ble_eq_true rfl) (c_ofCar hM rfl rfl (by omega)) ?_
      refine x_top up_s ?_
      refine x_if_le (tgt := 44) dX6_aCarsSecond_40 (by decide) (fun hc40 => ?_) (fun hc40 => ?_)
      · refine x_aload_n dX6_aCarsSecond_44 rfl ?_
        refine x_iload_n dX6_aCarsSecond_45 rfl ?_
        refine x_ic2 dX6_aCarsSecond_46 ?_
        refine v_V2ie hM dX6_aCarsSecond_47 kG_X6_X6_ofCar kP_X6_ofCar rfl (by omega) (by decide) (Nat.le_of_ble_eq_true rfl) (c_ofCar hM rfl rfl (by omega)) ?_
        refine x_top (up_n (by omega)) ?_
        refine x_ic1 dX6_aCarsSecond_50 ?_
        refine x_icmp_ne (tgt := 73) dX6_aCarsSecond_51 (by decide) (fun hc51 => ?_) (fun hc51 => ?_)
        · rw [csW, if_neg hc7, if_neg hc17, if_neg (Int32.not_lt.mpr hc40), if_neg hc51, show flW w c = a by rw [flW, hfl, nI_clamp (by omega)]]
          exact b_acs73 hM hn (by rw [up_n (by omega)]; exact hw) hc hps hpl (by rw [up_n (by omega)]; exact hw0) (PI_fr hPI (fun p _ => ⟨up_n (by omega), up_n (by omega)⟩)) hf ha (by rw [up_n (by omega)]; exact hfl) (by rw [up_n (by omega)]; exact hwy)
        · refine x_aload_n dX6_aCarsSecond_54 rfl ?_
          refine x_iload_n dX6_aCarsSecond_55 rfl ?_
          refine x_ic0 dX6_aCarsSecond_56 ?_
          refine x_aload_n dX6_aCarsSecond_57 rfl ?_
          refine x_iload_n dX6_aCarsSecond_58 rfl ?_
          refine x_ic0 dX6_aCarsSecond_59 ?_
          refine v_V2ie hM dX6_aCarsSecond_60 kG_X6_X6_ofCar kP_X6_ofCar rfl (by omega) (by decide) (Nat.le_of_ble_eq_true rfl) (c_ofCar hM rfl rfl (by omega)) ?_
          refine x_top (up_n (by omega)) ?_
          refine x_aload_n dX6_aCarsSecond_63 rfl ?_
          refine x_iload_n dX6_aCarsSecond_64 rfl ?_
          refine x_ic1 dX6_aCarsSecond_65 ?_
          refine v_V2ie hM dX6_aCarsSecond_66 kG_X6_X6_ofCar kP_X6_ofCar rfl (by omega) (by decide) (Nat.le_of_ble_eq_true rfl) (c_ofCar hM rfl rfl (by omega)) ?_
          refine x_top (up_n (by omega)) ?_
          refine x_iadd dX6_aCarsSecond_69 ?_
          refine v_V3ve hM dX6_aCarsSecond_70 kG_X6_X6_sets kP_X6_sets rfl (by omega) (by decide) (Nat.le_of_ble_eq_true rfl) (c_sets hM rfl rfl (by omega)) ?_
          obtain ⟨a2, ha2, hfl2⟩ := hgo hc51
          rw [csW, if_neg hc7, if_neg hc17, if_neg (Int32.not_lt.mpr hc40), if_pos hc51, hfl2, nI_clamp (by omega)]
          exact b_acs73 hM hn (by rw [up_n (by omega), up_n (by omega)]; exact hw) hc hps hpl (by rw [up_n (by omega), up_n (by omega)]; exact hw0) (PI_fr hPI (fun p _ => ⟨by rw [up_n (by omega), up_n (by omega)], by rw [up_n (by omega), up_n (by omega)]⟩)) hf ha2 up_s (by rw [up_n (by omega), up_n (by omega)]; exact hwy)
      · exact x_vret dX6_aCarsSecond_43 rfl (tv_v2 rfl (by rw [csW, if_neg hc7, if_neg hc17, if_pos (Int32.not_le.mp hc40)]))
  · exact x_vret dX6_aCarsSecond_10 rfl (tv_v2 rfl (by rw [csW, if_pos hc7]))
end T36
