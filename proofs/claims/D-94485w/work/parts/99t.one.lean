set_option maxRecDepth 100000
section T99T
variable {g : fc_G} {l : Launch} {M : fc_M} {S : tT} {U : tU} {β : Nat} {w : Nat → Int32} {π f nC : Nat}
def isR (w : Nat → Int32) (n : Nat) (a b c : Int32) : Nat → Int32 := up (up (up (up (up w (820 + 8 * n + 0) a) (820 + 8 * n + 1) b) (820 + 8 * n + 2) c) (820 + 8 * n + 3) (nI 0)) (820 + 8 * n + 4) (-1)
def onC (w : Nat → Int32) (n f : Nat) (a b c : Int32) : Int32 × (Nat → Int32) := if (w 3 ≤ a ∧ a ≤ nI 9999) ∧ (nI 0 ≤ b ∧ b ≤ nI f - nI 1) ∧ (nI 0 ≤ c ∧ c ≤ nI f - nI 1) ∧ ¬ b = c ∧ ¬ n = 60 then (nI n, up (isR w n a b c) 2 (nI (n + 1))) else (-1, w)
theorem kG_X0_X0_isFloor : GoodIn lw_all (wsV RX0 349 RX0 yX0_isFloor (ws_ yX0_isFloor cX0_isFloor 2 (some .boolean))) := lw_V q841 q843 qs21 q118 q844
theorem kP_X0_isFloor : kPar yX0_isFloor 1 := by decide +kernel
theorem kG_X0_X4_is : GoodIn lw_all (wsV RX0 356 RX4 yX4_is (ws_ yX4_is cX4_is 4 (none))) := lw_V q845 q846 q847 q122 q848
theorem kP_X4_is : kPar yX4_is 3 := by decide +kernel
set_option maxHeartbeats 1000000 in
theorem d_one (hL : LT g M 32) (hO : PC g M S π 32 f nC w) {n : Nat} (hn : n ≤ 60) (hw : w 2 = nI n) {a b c : Int32} : fc_CX g l yX0_one cX0_one 4 (some .int) 3 [.ref (fc_B g + 0), .int a, .int b, .int c] (cR M S U 32 w) (fc_re (onC w n f a b c).1 (cR M S U 32 (onC w n f a b c).2)) := by
  refine fc_enter (by decide) (Nat.le_of_ble_eq_true rfl) rfl ?_
  refine x_iload_n dX0_one_0 rfl ?_
  refine x_aload_n dX0_one_1 rfl ?_
  refine k_Fref 17 hO.1 rfl (by decide) rfl dX0_one_2 q415 ?_
  refine k_tget 3 hL dX0_one_5 (by decide) q354 ?_
  refine x_sipush (v := nI 9999) dX0_one_8 (by decide) ?_
  refine k_S3i dX0_one_11 kG_X0_X0_isIn kP_X0_isIn (by omega) (by decide) (Nat.le_of_ble_eq_true rfl) d_isIn ?_
  refine x_ifB_eq (tgt := 50) dX0_one_14 (by decide) (fun hc14 => ?_) (fun hc14 => ?_)
  · refine x_icm1 dX0_one_50 ?_
    have e9 : onC w n f a b c = (-1, w) := if_neg (fun z => hc14 z.1)
    rw [e9]
    exact x_iret dX0_one_51 rfl rfl fc_re.of
  · refine x_aload_n dX0_one_17 rfl ?_
    refine x_iload_n dX0_one_18 rfl ?_
    refine k_V1iF hO.1 dX0_one_19 kG_X0_X0_isFloor kP_X0_isFloor rfl (by omega) (by decide) (Nat.le_of_ble_eq_true rfl) (d_isFloor hO) ?_
    refine x_ifB_eq (tgt := 50) dX0_one_22 (by decide) (fun hc22 => ?_) (fun hc22 => ?_)
    · refine x_icm1 dX0_one_50 ?_
      have e9 : onC w n f a b c = (-1, w) := if_neg (fun z => hc22 z.2.1)
      rw [e9]
      exact x_iret dX0_one_51 rfl rfl fc_re.of
    · refine x_aload_n dX0_one_25 rfl ?_
      refine x_iload_n dX0_one_26 rfl ?_
      refine k_V1iF hO.1 dX0_one_27 kG_X0_X0_isFloor kP_X0_isFloor rfl (by omega) (by decide) (Nat.le_of_ble_eq_true rfl) (d_isFloor hO) ?_
      refine x_ifB_eq (tgt := 50) dX0_one_30 (by decide) (fun hc30 => ?_) (fun hc30 => ?_)
      · refine x_icm1 dX0_one_50 ?_
        have e9 : onC w n f a b c = (-1, w) := if_neg (fun z => hc30 z.2.2.1)
        rw [e9]
        exact x_iret dX0_one_51 rfl rfl fc_re.of
      · refine x_iload_n dX0_one_33 rfl ?_
        refine x_iload_n dX0_one_34 rfl ?_
        refine x_icmp_eq (tgt := 50) dX0_one_35 (by decide) (fun hc35 => ?_) (fun hc35 => ?_)
        · refine x_icm1 dX0_one_50 ?_
          have e9 : onC w n f a b c = (-1, w) := if_neg (fun z => z.2.2.2.1 hc35)
          rw [e9]
          exact x_iret dX0_one_51 rfl rfl fc_re.of
        · refine x_aload_n dX0_one_38 rfl ?_
          refine k_Fref 17 hO.1 rfl (by decide) rfl dX0_one_39 q415 ?_
          refine k_tget 2 hL dX0_one_42 (by decide) q352 ?_
          refine x_top hw ?_
          refine x_bipush (v := nI 60) dX0_one_45 (by decide) ?_
          refine x_icmpN_ne (tgt := 52) dX0_one_47 (by decide) (by omega) (by omega) (fun hc47 => ?_) (fun hc47 => ?_)
          · refine x_aload_n dX0_one_52 rfl ?_
            refine k_Fref 17 hO.1 rfl (by decide) rfl dX0_one_53 q415 ?_
            refine k_people 0 rfl hL dX0_one_56 q348 ?_
            refine x_aload_n dX0_one_59 rfl ?_
            refine k_Fref 17 hO.1 rfl (by decide) rfl dX0_one_60 q415 ?_
            refine k_tget 2 hL dX0_one_63 (by decide) q352 ?_
            refine x_top hw ?_
            refine k_pald hL dX0_one_66 (by omega) ?_
            refine x_iload_n dX0_one_67 rfl ?_
            refine x_iload_n dX0_one_68 rfl ?_
            refine x_iload_n dX0_one_69 rfl ?_
            refine k_V3vP hL (by omega) dX0_one_70 kG_X0_X4_is kP_X4_is rfl (by omega) (by decide) (Nat.le_of_ble_eq_true rfl) (d_is hL (by omega)) ?_
            refine x_aload_n dX0_one_73 rfl ?_
            refine k_Fref 17 hO.1 rfl (by decide) rfl dX0_one_74 q415 ?_
            refine x_dup dX0_one_77 rfl ?_
            refine k_tget 2 hL dX0_one_78 (by decide) q352 ?_
            refine x_top (w := nI n) (by rw [up_n (by omega), up_n (by omega), up_n (by omega), up_n (by omega), up_n (by omega)]; exact hw) ?_
            refine x_ic1 dX0_one_81 ?_
            refine x_iaddN dX0_one_82 ?_
            refine k_tput 2 hL dX0_one_83 (by decide) q352 rfl ?_
            refine x_aload_n dX0_one_86 rfl ?_
            refine k_Fref 17 hO.1 rfl (by decide) rfl dX0_one_87 q415 ?_
            refine k_tget 2 hL dX0_one_90 (by decide) q352 ?_
            refine x_top (w := nI (n + 1)) up_s ?_
            refine x_ic1 dX0_one_93 ?_
            refine x_isubN dX0_one_94 (by omega) ?_
            refine x_top (w := nI n) rfl ?_
            have e9 : onC w n f a b c = (nI n, up (isR w n a b c) 2 (nI (n + 1))) := if_pos ⟨hc14, hc22, hc30, hc35, hc47⟩
            rw [e9]
            exact x_iret dX0_one_95 rfl rfl fc_re.of
          · refine x_icm1 dX0_one_50 ?_
            have e9 : onC w n f a b c = (-1, w) := if_neg (fun z => z.2.2.2.2 hc47)
            rw [e9]
            exact x_iret dX0_one_51 rfl rfl fc_re.of
end T99T
