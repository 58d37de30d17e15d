set_option maxRecDepth 100000
section T99ZG
variable {g : fc_G} {l : Launch} {M : fc_M} {S : tT} {U : tU} {w v : Nat → Int32} {π f nC n : Nat} {τ : Nat → Nat}
theorem kG_X0_X4_over : GoodIn lw_all (wsV RX0 437 RX4 yX4_over (ws_ yX4_over cX4_over 1 (some .int))) := lw_V q1035 q1028 q1029 q122 q1030
set_option maxHeartbeats 1000000 in
theorem m_greatest {n0 s0 : Nat} (hL : LT g M 99) (hF : LF g M) (hn : n ≤ 60) (hw : w 2 = nI n) : ∀ (k i : Nat) (x : Int32), i ≤ n → n < i + k → fc_X g l yX0_greatestOver cX0_greatestOver 3 (some .int) 2 n0 s0 (cR M S U 99 w) 4 [some (.ref (fc_B g + 0)), some (.int x), some (.int (nI i))] [] (fc_re (mxW w n k i x) (cR M S U 99 w)) := by
  intro k
  induction k with
  | zero => intro i x h1 h2; omega
  | succ k ih =>
    intro i x h1 h2
    have hO : LF g M ∧ True := ⟨hF, trivial⟩
    refine x_iload_n dX0_greatestOver_4 rfl ?_
    refine x_aload_n dX0_greatestOver_5 rfl ?_
    refine k_Fref 18 hO.1 rfl (by decide) rfl dX0_greatestOver_6 q416 ?_
    refine k_tget 2 hL dX0_greatestOver_9 (by decide) q352 ?_
    refine x_top hw ?_
    refine x_icmpN_ge (tgt := 38) dX0_greatestOver_12 (by decide) (by omega) (by omega) (fun hc12 => ?_) (fun hc12 => ?_)
    · refine x_iload_n dX0_greatestOver_38 rfl ?_
      rw [mxW, if_neg (Nat.not_lt.mpr hc12)]
      exact x_iret dX0_greatestOver_39 rfl rfl fc_re.of
    · refine x_iload_n dX0_greatestOver_15 rfl ?_
      refine x_aload_n dX0_greatestOver_16 rfl ?_
      refine k_Fref 18 hO.1 rfl (by decide) rfl dX0_greatestOver_17 q416 ?_
      refine k_people 0 rfl hL dX0_greatestOver_20 q348 ?_
      refine x_iload_n dX0_greatestOver_23 rfl ?_
      refine k_pald hL dX0_greatestOver_24 (by omega) ?_
      refine k_V0iP hL (by omega) dX0_greatestOver_25 kG_X0_X4_over kP_X4_over rfl (by omega) (by decide) (Nat.le_of_ble_eq_true rfl) (d_over hL (by omega)) ?_
      refine x_mmax dX0_greatestOver_28 q1000 (by omega) (Nat.le_of_ble_eq_true rfl) ?_
      refine x_istore_n dX0_greatestOver_31 (by decide) rfl ?_
      refine x_iincN (n := 1) dX0_greatestOver_32 (by decide) rfl (by decide) rfl ?_
      refine x_goto (tgt := 4) dX0_greatestOver_35 (by decide) ?_
      rw [mxW, if_pos hc12]
      exact ih (i + 1) _ (by omega) (by omega)
set_option maxHeartbeats 1000000 in
theorem d_greatest (hL : LT g M 99) (hF : LF g M) (hn : n ≤ 60) (hw : w 2 = nI n) : fc_CX g l yX0_greatestOver cX0_greatestOver 3 (some .int) 2 [.ref (fc_B g + 0)] (cR M S U 99 w) (fc_re (mxW w n (n + 1) 0 (nI 0)) (cR M S U 99 w)) := by
  refine fc_enter (by decide) (Nat.le_of_ble_eq_true rfl) rfl ?_
  refine x_ic0 dX0_greatestOver_0 ?_
  refine x_istore_n dX0_greatestOver_1 (by decide) rfl ?_
  refine x_ic0 dX0_greatestOver_2 ?_
  refine x_istore_n dX0_greatestOver_3 (by decide) rfl ?_
  exact m_greatest hL hF hn hw (n + 1) 0 (nI 0) (by omega) (by omega)
def thC (v : Nat → Int32) (n f nC : Nat) (x1 x2 : Int32) : Int32 := if nI 0 ≤ x1 ∧ x1 ≤ nI 2 then (if nI 0 ≤ x2 ∧ x2 ≤ nI 2 then thE id n x2.toNatClampNeg (thP v n f nC x1.toNatClampNeg 3000) else -1) else -1
theorem kG_X0_X3_become : GoodIn lw_all (wsV RX0 440 RX3 yX3_become (ws_ yX3_become cX3_become 3 (none))) := lw_V q1005 q1006 q1007 q121 q1008
theorem kP_X3_become : kPar yX3_become 1 := by decide +kernel
theorem kG_X0_X3_toTheEnd : GoodIn lw_all (wsV RX0 444 RX3 yX3_toTheEnd (ws_ yX3_toTheEnd cX3_toTheEnd 3 (some .int))) := lw_V q1017 q1018 q1019 q121 q1020
theorem kP_X3_toTheEnd : kPar yX3_toTheEnd 1 := by decide +kernel
theorem kG_X0_X0_greatestOver : GoodIn lw_all (wsV RX0 450 RX0 yX0_greatestOver (ws_ yX0_greatestOver cX0_greatestOver 3 (some .int))) := lw_V q1031 q1033 qs37 q118 q1034
theorem kP_X0_greatestOver : kPar yX0_greatestOver 0 := by decide +kernel
theorem kG_X0_X3_overOf : GoodIn lw_all (wsV RX0 447 RX3 yX3_overOf (ws_ yX3_overOf cX3_overOf 4 (some .int))) := lw_V q1023 q1024 q1025 q121 q1026
theorem kP_X3_overOf : kPar yX3_overOf 1 := by decide +kernel
set_option maxHeartbeats 1000000 in
theorem d_thought (h : TI g M S U π f nC n v) (hR : RT g M S τ v) (hv : clr S 32 v = S) {x1 x2 : Int32} : fc_CX g l yX0_thought cX0_thought 4 (some .int) 408 [.ref (fc_B g + 0), .int x1, .int x2] (cl M S U) (th_i M S U (thC v n f nC x1 x2)) := by
  refine fc_enter (by decide) (Nat.le_of_ble_eq_true rfl) rfl ?_
  have hn := h.2.2.2.1.1.1
  have hC4 := h.2.2.2.1.1.2.2
  have hf8 := h.2.2.2.1.1.2.1
  have hw := h.2.2.2.1.2.2.2.1
  have hL := h.1.1
  have hO := h.2.1
  refine x_eqM (congrArg (fun z => cl M z U) hv.symm) ?_
  refine x_iload_n dX0_thought_0 rfl ?_
  refine k_S1i dX0_thought_1 kG_X0_X0_isRule kP_X0_isRule (by omega) (by decide) (Nat.le_of_ble_eq_true rfl) d_isRule ?_
  refine x_ifB_eq (tgt := 16) dX0_thought_4 (by decide) (fun hc4 => ?_) (fun hc4 => ?_)
  · refine x_icm1 dX0_thought_16 ?_
    have e9 : thC v n f nC x1 x2 = -1 := if_neg hc4
    rw [e9, hv]
    exact x_iret dX0_thought_17 rfl rfl th_same
  · refine x_iload_n dX0_thought_7 rfl ?_
    refine x_ic0 dX0_thought_8 ?_
    refine x_ic2 dX0_thought_9 ?_
    refine k_S3i dX0_thought_10 kG_X0_X0_isIn kP_X0_isIn (by omega) (by decide) (Nat.le_of_ble_eq_true rfl) d_isIn ?_
    refine x_ifB_ne (tgt := 18) dX0_thought_13 (by decide) (fun hc13 => ?_) (fun hc13 => ?_)
    · obtain ⟨r, -, hr2, rfl⟩ := nI_between (by decide) hc4 (by decide)
      obtain ⟨wh, -, hwh, rfl⟩ := nI_between (by decide) hc13 (by decide)
      have hr : r < 3 := by omega
      have e0 : thC v n f nC (nI r) (nI wh) = thE id n wh (thX S v n f nC r 3000) := by rw [thC, if_pos hc4, if_pos hc13, nI_clamp (by omega), nI_clamp (by omega)]; exact (thE_Rl (thX_P h.2.2.2.1 hr).1 (thX_P h.2.2.2.1 hr).2).symm
      rw [e0]
      · refine x_aload_n dX0_thought_18 rfl ?_
        refine k_Fref 18 hO.1 rfl (by decide) rfl dX0_thought_19 q416 ?_
        refine x_aload_n dX0_thought_22 rfl ?_
        refine k_Fref 17 hO.1 rfl (by decide) rfl dX0_thought_23 q415 ?_
        refine x_V1v (P := fun M3 => M3 = cR (fc_put M 99 5 .null) (tu (clr S 32 v) 99 6 (-1)) (bcU U 99 32) 99 (vtW S 99 n v)) 3 dX0_thought_26 kG_X0_X3_become kP_X3_become (T := TX3) (N := 12) rfl (show 99 < fc_nx M by have := h.1.2.1; omega) h.1.2.sh0 (by omega) (by decide) (Nat.le_of_ble_eq_true rfl) (fc_rn_v (d_becomeT h.1.2 h.1.1 (Or.inl (by decide)) h.2.2.2.2.2 hn hw)) (fun M3 e9 => ?_)
        subst e9
        have hL := LT_put (v := .null) h.1.2
        have hO : LF g (fc_put M 99 5 .null) ∧ True := ⟨LF_put (by decide) h.2.1.1, trivial⟩
        refine x_aload_n dX0_thought_29 rfl ?_
        refine k_Fref 18 hO.1 rfl (by decide) rfl dX0_thought_30 q416 ?_
        refine x_iload_n dX0_thought_33 rfl ?_
        refine k_tput 4 hL dX0_thought_34 (by decide) q356 rfl ?_
        refine x_aload_n dX0_thought_37 rfl ?_
        refine k_Fref 18 hO.1 rfl (by decide) rfl dX0_thought_38 q416 ?_
        refine x_sipush (v := nI 3000) dX0_thought_41 (by decide) ?_
        refine k_V1qi hL dX0_thought_44 kG_X0_X3_toTheEnd kP_X3_toTheEnd rfl (by omega) (by decide) (Nat.le_of_ble_eq_true rfl) (th_run h hR hr (by decide)) (fun S2 U2 e3 e4 e5 => ?_)
        have hWE := th_WS (wi := 3000) h hr
        have hle : (thX S v n f nC r 3000).2 ≤ 3000 := edW_le _ _ _ (by decide)
        generalize thX S v n f nC r 3000 = E at hWE hle ⊢
        by_cases hce : cnt (stp E.1 3) n = n
        · refine x_top (if_pos hce : teR E.1 n E.2 = nI E.2) ?_
          refine x_istore_n dX0_thought_47 (by decide) rfl ?_
          refine x_iload_n dX0_thought_48 rfl ?_
          refine x_icm1 dX0_thought_49 ?_
          refine x_icmp_eq (tgt := 58) dX0_thought_50 (by decide) (fun hc50 => ?_) (fun hc50 => ?_)
          · exact absurd hc50 (nI_nm2 (by omega))
          · refine x_iload_n dX0_thought_53 rfl ?_
            refine x_ic2 dX0_thought_54 ?_
            refine x_icmpN_ne (tgt := 62) dX0_thought_55 (by decide) (by omega) (by omega) (fun hc55 => ?_) (fun hc55 => ?_)
            · refine x_iload_n dX0_thought_62 rfl ?_
              refine x_ifN_ne (tgt := 77) dX0_thought_63 (by decide) (by omega) (fun hc63 => ?_) (fun hc63 => ?_)
              · refine x_aload_n dX0_thought_77 rfl ?_
                refine k_V0iF hO.1 dX0_thought_78 kG_X0_X0_greatestOver kP_X0_greatestOver rfl (by omega) (by decide) (Nat.le_of_ble_eq_true rfl) (d_greatest hL hO.1 hn hWE.1.2.2.1) ?_
                have e9 : thE id n wh E = mxW E.1 n (n + 1) 0 (nI 0) := (if_pos hce).trans ((if_neg (by omega)).trans (if_neg (by omega)))
                rw [e9]
                exact x_iret dX0_thought_81 rfl rfl (th_fin e4 e5 hv)
              · refine x_aload_n dX0_thought_66 rfl ?_
                refine k_Fref 18 hO.1 rfl (by decide) rfl dX0_thought_67 q416 ?_
                refine x_icm1 dX0_thought_70 ?_
                refine k_V1iT hL dX0_thought_71 kG_X0_X3_overOf kP_X3_overOf rfl (by omega) (by decide) (Nat.le_of_ble_eq_true rfl) (d_overOf hL hn hWE.1.2.2.1) ?_
                refine x_goto (tgt := 81) dX0_thought_74 (by decide) ?_
                have e9 : thE id n wh E = ovW E.1 (-1) n (n + 1) 0 (nI 0) := (if_pos hce).trans (if_pos hc63)
                rw [e9]
                exact x_iret dX0_thought_81 rfl rfl (th_fin e4 e5 hv)
            · refine x_iload_n dX0_thought_58 rfl ?_
              refine x_goto (tgt := 81) dX0_thought_59 (by decide) ?_
              have e9 : thE id n wh E = nI E.2 := (if_pos hce).trans ((if_neg (by omega)).trans (if_pos hc55))
              rw [e9]
              exact x_iret dX0_thought_81 rfl rfl (th_fin e4 e5 hv)
        · refine x_top (if_neg hce : teR E.1 n E.2 = -1) ?_
          refine x_istore_n dX0_thought_47 (by decide) rfl ?_
          refine x_iload_n dX0_thought_48 rfl ?_
          refine x_icm1 dX0_thought_49 ?_
          refine x_icmp_eq (tgt := 58) dX0_thought_50 (by decide) (fun hc50 => ?_) (fun hc50 => ?_)
          · refine x_iload_n dX0_thought_58 rfl ?_
            refine x_goto (tgt := 81) dX0_thought_59 (by decide) ?_
            have e9 : thE id n wh E = -1 := if_neg hce
            rw [e9]
            exact x_iret dX0_thought_81 rfl rfl (th_fin e4 e5 hv)
          · exact absurd rfl hc50
    · refine x_icm1 dX0_thought_16 ?_
      have e9 : thC v n f nC x1 x2 = -1 := (if_pos hc4).trans (if_neg hc13)
      rw [e9, hv]
      exact x_iret dX0_thought_17 rfl rfl th_same
def obV (n : Nat) (E : (Nat → Int32) × Nat) : Int64 := if cnt (stp E.1 3) n = n then (ovW E.1 (-1) n (n + 1) 0 (nI 0)).toInt64 else 9223372036854775807
theorem obV_Rl {E E' : (Nat → Int32) × Nat} (h : Rl n nC E.1 E'.1) : obV n E = obV n E' := by
  unfold obV
  rw [h.cs1 3]
  by_cases hc : cnt (stp E'.1 3) n = n
  · rw [if_pos hc, if_pos hc, ovW_Rl h hc]
  · rw [if_neg hc, if_neg hc]
def th_l (M : fc_M) (S : tT) (U : tU) (r : Int64) : Outcome → fc_M → Prop := fc_rl (fun q M2 => q = r ∧ ∃ gv S' U', M2 = cl (fc_put M 99 5 gv) S' U' ∧ thS S S' ∧ thU U U')
set_option maxHeartbeats 1000000 in
theorem d_overBy (h : TI g M S U π f nC n v) (hR : RT g M S τ v) (hv : clr S 32 v = S) {r : Nat} (hr : r < 3) : fc_CX g l yX0_overBy cX0_overBy 2 (some .long) 408 [.ref (fc_B g + 0), .int (nI r)] (cl M S U) (th_l M S U (obV n (thP v n f nC r 3000))) := by
  refine fc_enter (by decide) (Nat.le_of_ble_eq_true rfl) rfl ?_
  rw [← obV_Rl (thX_P (S := S) h.2.2.2.1 hr).1]
  have hn := h.2.2.2.1.1.1
  have hC4 := h.2.2.2.1.1.2.2
  have hf8 := h.2.2.2.1.1.2.1
  have hw := h.2.2.2.1.2.2.2.1
  have hL := h.1.1
  have hO := h.2.1
  refine x_eqM (congrArg (fun z => cl M z U) hv.symm) ?_
  refine x_aload_n dX0_overBy_0 rfl ?_
  refine k_Fref 18 hO.1 rfl (by decide) rfl dX0_overBy_1 q416 ?_
  refine x_aload_n dX0_overBy_4 rfl ?_
  refine k_Fref 17 hO.1 rfl (by decide) rfl dX0_overBy_5 q415 ?_
  refine x_V1v (P := fun M3 => M3 = cR (fc_put M 99 5 .null) (tu (clr S 32 v) 99 6 (-1)) (bcU U 99 32) 99 (vtW S 99 n v)) 3 dX0_overBy_8 kG_X0_X3_become kP_X3_become (T := TX3) (N := 12) rfl (show 99 < fc_nx M by have := h.1.2.1; omega) h.1.2.sh0 (by omega) (by decide) (Nat.le_of_ble_eq_true rfl) (fc_rn_v (d_becomeT h.1.2 h.1.1 (Or.inl (by decide)) h.2.2.2.2.2 hn hw)) (fun M3 e9 => ?_)
  subst e9
  have hL := LT_put (v := .null) h.1.2
  have hO : LF g (fc_put M 99 5 .null) ∧ True := ⟨LF_put (by decide) h.2.1.1, trivial⟩
  refine x_aload_n dX0_overBy_11 rfl ?_
  refine k_Fref 18 hO.1 rfl (by decide) rfl dX0_overBy_12 q416 ?_
  refine x_iload_n dX0_overBy_15 rfl ?_
  refine k_tput 4 hL dX0_overBy_16 (by decide) q356 rfl ?_
  refine x_aload_n dX0_overBy_19 rfl ?_
  refine k_Fref 18 hO.1 rfl (by decide) rfl dX0_overBy_20 q416 ?_
  refine x_sipush (v := nI 3000) dX0_overBy_23 (by decide) ?_
  refine k_V1qi hL dX0_overBy_26 kG_X0_X3_toTheEnd kP_X3_toTheEnd rfl (by omega) (by decide) (Nat.le_of_ble_eq_true rfl) (th_run h hR hr (by decide)) (fun S2 U2 e3 e4 e5 => ?_)
  have hWE := th_WS (wi := 3000) h hr
  have hle : (thX S v n f nC r 3000).2 ≤ 3000 := edW_le _ _ _ (by decide)
  generalize thX S v n f nC r 3000 = E at hWE hle ⊢
  by_cases hce : cnt (stp E.1 3) n = n
  · refine x_top (if_pos hce : teR E.1 n E.2 = nI E.2) ?_
    refine x_icm1 dX0_overBy_29 ?_
    refine x_icmp_ne (tgt := 39) dX0_overBy_30 (by decide) (fun hc30 => ?_) (fun hc30 => ?_)
    · refine x_aload_n dX0_overBy_39 rfl ?_
      refine k_Fref 18 hO.1 rfl (by decide) rfl dX0_overBy_40 q416 ?_
      refine x_icm1 dX0_overBy_43 ?_
      refine k_V1iT hL dX0_overBy_44 kG_X0_X3_overOf kP_X3_overOf rfl (by omega) (by decide) (Nat.le_of_ble_eq_true rfl) (d_overOf hL hn hWE.1.2.2.1) ?_
      refine x_i2l dX0_overBy_47 rfl ?_
      have e9 : obV n E = (ovW E.1 (-1) n (n + 1) 0 (nI 0)).toInt64 := if_pos hce
      rw [e9]
      obtain ⟨-, q⟩ := th_fin (r := 0) (w2 := E.1) e4 e5 hv
      exact x_lret dX0_overBy_48 rfl ⟨_, rfl, rfl, q⟩
    · exact absurd hc30 (nI_nm2 (by omega))
  · refine x_top (if_neg hce : teR E.1 n E.2 = -1) ?_
    refine x_icm1 dX0_overBy_29 ?_
    refine x_icmp_ne (tgt := 39) dX0_overBy_30 (by decide) (fun hc30 => ?_) (fun hc30 => ?_)
    · exact absurd rfl hc30
    · refine x_ldc2 dX0_overBy_33 q1044 ?_
      refine x_goto (tgt := 48) dX0_overBy_36 (by decide) ?_
      have e9 : obV n E = 9223372036854775807 := if_neg hce
      rw [e9]
      obtain ⟨-, q⟩ := th_fin (r := 0) (w2 := E.1) e4 e5 hv
      exact x_lret dX0_overBy_48 rfl ⟨_, rfl, rfl, q⟩
def btC (v : Nat → Int32) (n f nC : Nat) (x1 x2 : Int32) : Int32 := if nI 0 ≤ x1 ∧ x1 ≤ nI 2 then (if nI 0 ≤ x2 ∧ x2 ≤ nI 2 then (if obV n (thP v n f nC x1.toNatClampNeg 3000) < obV n (thP v n f nC x2.toNatClampNeg 3000) then x1 else if obV n (thP v n f nC x2.toNatClampNeg 3000) < obV n (thP v n f nC x1.toNatClampNeg 3000) then x2 else if x2 < x1 then x2 else x1) else -1) else -1
end T99ZG
