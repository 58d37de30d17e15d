set_option maxRecDepth 100000
section T99ZN
variable {g : fc_G} {l : Launch} {M : fc_M} {S : tT} {U : tU} {w v : Nat → Int32} {π f nC n : Nat} {τ : Nat → Nat}
set_option maxHeartbeats 1000000 in
theorem d_comes (hL : LT g M 99) (hO : PC g M S π 99 f nC w) (hf2 : 2 ≤ f) (hf8 : f ≤ 8) {pp q : Nat} (hp : pp < 60) (hq : q < 10000) : fc_CX g l yX0_comes cX0_comes 5 (none) 2 [.ref (fc_B g + 0), .int (nI pp), .int (nI q)] (cR M S U 99 w) (fc_rn (cR M S U 99 (lcC f pp q w))) := by
  refine fc_enter (by decide) (Nat.le_of_ble_eq_true rfl) rfl ?_
  have hdv : q / (f - 1) ≤ q := Nat.div_le_self _ _
  have hmd : q % (f - 1) ≤ q := Nat.mod_le _ _
  refine x_iload_n dX0_comes_0 rfl ?_
  refine x_aload_n dX0_comes_1 rfl ?_
  refine k_plan hO dX0_comes_2 q410 ?_
  refine k_plF 0 (nI f) hO (Or.inl ⟨rfl, rfl⟩) dX0_comes_5 q211 ?_
  refine x_ic1 dX0_comes_8 ?_
  refine x_isubN dX0_comes_9 (by omega) ?_
  refine x_idivN dX0_comes_10 (by omega) (by omega) (by omega) ?_
  refine x_istore_n dX0_comes_11 (by decide) rfl ?_
  refine x_iload_n dX0_comes_12 rfl ?_
  refine x_aload_n dX0_comes_13 rfl ?_
  refine k_plan hO dX0_comes_14 q410 ?_
  refine k_plF 0 (nI f) hO (Or.inl ⟨rfl, rfl⟩) dX0_comes_17 q211 ?_
  refine x_ic1 dX0_comes_20 ?_
  refine x_isubN dX0_comes_21 (by omega) ?_
  refine x_iremN dX0_comes_22 (by omega) (by omega) (by omega) ?_
  refine x_istore dX0_comes_23 (by decide) rfl ?_
  refine x_aload_n dX0_comes_25 rfl ?_
  refine k_Fref 18 hO.1 rfl (by decide) rfl dX0_comes_26 q416 ?_
  refine k_people 0 rfl hL dX0_comes_29 q348 ?_
  refine x_iload_n dX0_comes_32 rfl ?_
  refine k_pald hL dX0_comes_33 (by omega) ?_
  refine x_ic0 dX0_comes_34 ?_
  refine x_iload_n dX0_comes_35 rfl ?_
  refine x_iload dX0_comes_36 rfl ?_
  refine x_iload_n dX0_comes_38 rfl ?_
  refine x_icmpN_ge (tgt := 47) dX0_comes_39 (by decide) (by omega) (by omega) (fun hc39 => ?_) (fun hc39 => ?_)
  · refine x_iload dX0_comes_47 rfl ?_
    refine x_ic1 dX0_comes_49 ?_
    refine x_iaddN dX0_comes_50 ?_
    refine k_V3vP hL (by omega) dX0_comes_51 kG_X0_X4_is kP_X4_is rfl (by omega) (by decide) (Nat.le_of_ble_eq_true rfl) (d_is hL (by omega)) ?_
    refine x_aload_n dX0_comes_54 rfl ?_
    refine k_Fref 18 hO.1 rfl (by decide) rfl dX0_comes_55 q416 ?_
    refine x_iload_n dX0_comes_58 rfl ?_
    refine x_ic1 dX0_comes_59 ?_
    refine x_iaddN dX0_comes_60 ?_
    refine k_tput 2 hL dX0_comes_61 (by decide) q352 rfl ?_
    have e9 : lcC f pp q w = up (isR w pp (nI 0) (nI (q / (f - 1))) (nI (q % (f - 1) + 1))) 2 (nI (pp + 1)) := by rw [lcC, if_neg (Nat.not_lt.mpr hc39)]
    rw [e9]
    exact x_vret dX0_comes_64 rfl fc_rn.of
  · refine x_iload dX0_comes_42 rfl ?_
    refine x_goto (tgt := 51) dX0_comes_44 (by decide) ?_
    refine k_V3vP hL (by omega) dX0_comes_51 kG_X0_X4_is kP_X4_is rfl (by omega) (by decide) (Nat.le_of_ble_eq_true rfl) (d_is hL (by omega)) ?_
    refine x_aload_n dX0_comes_54 rfl ?_
    refine k_Fref 18 hO.1 rfl (by decide) rfl dX0_comes_55 q416 ?_
    refine x_iload_n dX0_comes_58 rfl ?_
    refine x_ic1 dX0_comes_59 ?_
    refine x_iaddN dX0_comes_60 ?_
    refine k_tput 2 hL dX0_comes_61 (by decide) q352 rfl ?_
    have e9 : lcC f pp q w = up (isR w pp (nI 0) (nI (q / (f - 1))) (nI (q % (f - 1)))) 2 (nI (pp + 1)) := by rw [lcC, if_pos hc39]
    rw [e9]
    exact x_vret dX0_comes_64 rfl fc_rn.of
theorem kG_X0_X3_begins : GoodIn lw_all (wsV RX0 330 RX3 yX3_begins (ws_ yX3_begins cX3_begins 3 (none))) := lw_V q826 q827 q828 q121 q829
theorem kP_X3_begins : kPar yX3_begins 0 := by decide +kernel
theorem kG_X0_X0_comes : GoodIn lw_all (wsV RX0 481 RX0 yX0_comes (ws_ yX0_comes cX0_comes 5 (none))) := lw_V q1073 q1075 qs43 q118 q1076
theorem kP_X0_comes : kPar yX0_comes 2 := by decide +kernel
set_option maxHeartbeats 2000000 in
theorem d_overOfM (h : TI g M S U π f nC n v) (hR : RT g M S τ v) (hv : clr S 32 v = S) {r m q kk : Nat} (hB : BI v f nC) (hfun : ∀ i, 420 ≤ i → i < 740 → v i = 0) (hr : r < 3) (hf2 : 2 ≤ f) (hfe : f ≤ 8) (hm : m = 1 ∨ m = 2) (hq1 : m = 1 → q < f * (f - 1)) (hq2 : m = 2 → q < f * (f - 1) * (f * (f - 1))) (hkk : kk = f * (f - 1)) (hkb : kk < 100) (hk0 : 0 < kk) (hqb : q < 10000) : fc_CX g l yX0_overOf cX0_overOf 5 (some .int) 408 [.ref (fc_B g + 0), .int (nI r), .int (nI q), .int (nI m), .int (nI kk)] (cl M S U) (th_i M S U (moR v f nC m q r)) := by
  refine fc_enter (by decide) (Nat.le_of_ble_eq_true rfl) rfl ?_
  have hn := h.2.2.2.1.1.1
  have hC4 := h.2.2.2.1.1.2.2
  have hf8 := h.2.2.2.1.1.2.1
  have hw := h.2.2.2.1.2.2.2.1
  have hL := h.1.1
  have hO := h.2.1
  refine x_eqM (congrArg (fun z => cl M z U) hv.symm) ?_
  refine x_aload_n dX0_overOf_0 rfl ?_
  refine k_Fref 18 hO.1 rfl (by decide) rfl dX0_overOf_1 q416 ?_
  refine x_aload_n dX0_overOf_4 rfl ?_
  refine k_Fref 17 hO.1 rfl (by decide) rfl dX0_overOf_5 q415 ?_
  refine x_V1v (P := fun M3 => M3 = cR (fc_put M 99 5 .null) (tu (clr S 32 v) 99 6 (-1)) (bcU U 99 32) 99 (vtW S 99 n v)) 3 dX0_overOf_8 kG_X0_X3_become kP_X3_become (T := TX3) (N := 12) rfl (show 99 < fc_nx M by have := h.1.2.1; omega) h.1.2.sh0 (by omega) (by decide) (Nat.le_of_ble_eq_true rfl) (fc_rn_v (d_becomeT h.1.2 h.1.1 (Or.inl (by decide)) h.2.2.2.2.2 hn hw)) (fun M3 e9 => ?_)
  subst e9
  have hL := LT_put (v := .null) h.1.2
  have hO : LF g (fc_put M 99 5 .null) ∧ True := ⟨LF_put (by decide) h.2.1.1, trivial⟩
  have hP1 : PC g (fc_put M 99 5 .null) (tu (clr S 32 v) 99 6 (-1)) π 99 f nC (vtW S 99 n v) := PC_bec h (fun a k e => tS_lo (by omega)) (fun i hi => vt_n (by rcases hi with e | e | ⟨c9, j9, g1, g2, e⟩ <;> omega))
  refine x_aload_n dX0_overOf_11 rfl ?_
  refine k_Fref 18 hO.1 rfl (by decide) rfl dX0_overOf_12 q416 ?_
  refine k_V0vT hL dX0_overOf_15 kG_X0_X3_begins kP_X3_begins rfl (by omega) (by decide) (Nat.le_of_ble_eq_true rfl) (d_begins hL hP1) ?_
  rw [show (fun c => (tu (clr S 32 v) 99 6 (-1)) (π + 5) c) = (fun c => S (π + 5) c) from funext fun c => tS_lo (by rcases h.2.2.1 with e | e <;> omega)]
  refine x_aload_n dX0_overOf_18 rfl ?_
  refine k_Fref 18 hO.1 rfl (by decide) rfl dX0_overOf_19 q416 ?_
  refine x_iload_n dX0_overOf_22 rfl ?_
  refine k_tput 4 hL dX0_overOf_23 (by decide) q356 rfl ?_
  have hP2 : PC g (fc_put M 99 5 .null) (tu (clr S 32 v) 99 6 (-1)) π 99 f nC (m0C S π n r v) := PC_bec h (fun a k e => tS_lo (by omega)) (fun i hi => by rw [m0C_at (by rcases hi with e | e | ⟨c9, j9, g1, g2, e⟩ <;> omega), if_neg (by rcases hi with e | e | ⟨c9, j9, g1, g2, e⟩ <;> omega), if_neg (by rcases hi with e | e | ⟨c9, j9, g1, g2, e⟩ <;> omega), if_neg (by rcases hi with e | e | ⟨c9, j9, g1, g2, e⟩ <;> omega), if_neg (by rcases hi with e | e | ⟨c9, j9, g1, g2, e⟩ <;> omega)])
  change fc_X g l yX0_overOf cX0_overOf _ _ _ _ _ (cR (fc_put M 99 5 .null) (tu (clr S 32 v) 99 6 (-1)) (bgU 99 5 0 (bcU U 99 32)) 99 (m0C S π n r v)) _ _ _ _
  refine x_aload_n dX0_overOf_26 rfl ?_
  refine x_ic0 dX0_overOf_27 ?_
  refine x_iload_n dX0_overOf_28 rfl ?_
  refine x_ic1 dX0_overOf_29 ?_
  refine x_icmpN_ne (tgt := 37) dX0_overOf_30 (by decide) (by omega) (by omega) (fun hc30 => ?_) (fun hc30 => ?_)
  · refine x_iload_n dX0_overOf_37 rfl ?_
    refine x_iload dX0_overOf_38 rfl ?_
    refine x_idivN dX0_overOf_40 (by omega) (by omega) (by omega) ?_
    have hdv : q / kk ≤ q := Nat.div_le_self _ _
    have hmd : q % kk ≤ q := Nat.mod_le _ _
    refine k_V2vF hO.1 dX0_overOf_41 kG_X0_X0_comes kP_X0_comes rfl (by omega) (by decide) (Nat.le_of_ble_eq_true rfl) (d_comes hL hP2 hf2 hfe (pp := 0) (q := (q / kk)) (by decide) (by omega)) ?_
    refine x_iload_n dX0_overOf_44 rfl ?_
    refine x_ic2 dX0_overOf_45 ?_
    refine x_icmpN_ne (tgt := 58) dX0_overOf_46 (by decide) (by omega) (by omega) (fun hc46 => ?_) (fun hc46 => ?_)
    · exact absurd (show m = 2 by omega) hc46
    · refine x_aload_n dX0_overOf_49 rfl ?_
      refine x_ic1 dX0_overOf_50 ?_
      refine x_iload_n dX0_overOf_51 rfl ?_
      refine x_iload dX0_overOf_52 rfl ?_
      refine x_iremN dX0_overOf_54 (by omega) (by omega) (by omega) ?_
      refine k_V2vF hO.1 dX0_overOf_55 kG_X0_X0_comes kP_X0_comes rfl (by omega) (by decide) (Nat.le_of_ble_eq_true rfl) (d_comes hL (hP2.fr (v' := lcC f 0 (q / kk) (m0C S π n r v)) (fun i hi => lcC_fr (by rcases hi with e | e | ⟨c9, j9, g1, g2, e⟩ <;> omega) (fun k hk => by rcases hi with e | e | ⟨c9, j9, g1, g2, e⟩ <;> omega))) hf2 hfe (pp := 1) (q := q % kk) (by decide) (by omega)) ?_
      refine x_aload_n dX0_overOf_58 rfl ?_
      refine k_Fref 18 hO.1 rfl (by decide) rfl dX0_overOf_59 q416 ?_
      refine x_sipush (v := nI 1000) dX0_overOf_62 (by decide) ?_
      have hrow : lcC f 1 (q % kk) (lcC f 0 (q / kk) (m0C S π n r v)) = mcW S π n f r m q kk v := by rw [mcW, if_pos hc46]
      rw [hrow]
      subst hkk
      refine k_V1qi hL dX0_overOf_65 kG_X0_X3_toTheEnd kP_X3_toTheEnd rfl (by omega) (by decide) (Nat.le_of_ble_eq_true rfl) (mo_run h hR hB hfun hr hf2 hm hq1 hq2) (fun S2 U2 e3 e4 e5 => ?_)
      obtain ⟨hX1, hX2, hX3⟩ := moX_P h hB hfun hr hf2 hm hq1 hq2
      have hWE : WS (moX S π n v f nC m q r (f * (f - 1))).1 (moN m) f r (nlW v r) nC := edW_WSg hX3 (by decide) _ _ _ hX2
      have hle : (moX S π n v f nC m q r (f * (f - 1))).2 ≤ 1000 := edW_le _ _ _ (by decide)
      generalize moX S π n v f nC m q r (f * (f - 1)) = E at hWE hle hX1 ⊢
      by_cases hce : cnt (stp E.1 3) (moN m) = moN m
      · refine x_top (if_pos hce : teR E.1 (moN m) E.2 = nI E.2) ?_
        refine x_icm1 dX0_overOf_68 ?_
        refine x_icmp_ne (tgt := 78) dX0_overOf_69 (by decide) (fun hc69 => ?_) (fun hc69 => ?_)
        · refine x_aload_n dX0_overOf_78 rfl ?_
          refine k_Fref 18 hO.1 rfl (by decide) rfl dX0_overOf_79 q416 ?_
          refine x_icm1 dX0_overOf_82 ?_
          refine k_V1iT hL dX0_overOf_83 kG_X0_X3_overOf kP_X3_overOf rfl (by omega) (by decide) (Nat.le_of_ble_eq_true rfl) (d_overOf hL hX3.1 hWE.1.2.2.1) ?_
          have e9 : moR v f nC m q r = ovW E.1 (-1) (moN m) (moN m + 1) 0 (nI 0) := (if_pos (by rw [← hX1.cs1 3]; exact hce)).trans (ovW_Rl hX1 (by rw [← hX1.cs1 3]; exact hce) _ _ _).symm
          rw [e9]
          exact x_iret dX0_overOf_86 rfl rfl (mo_fin e4 e5 hv)
        · exact absurd hc69 (nI_nm2 (by omega))
      · refine x_top (if_neg hce : teR E.1 (moN m) E.2 = -1) ?_
        refine x_icm1 dX0_overOf_68 ?_
        refine x_icmp_ne (tgt := 78) dX0_overOf_69 (by decide) (fun hc69 => ?_) (fun hc69 => ?_)
        · exact absurd rfl hc69
        · refine x_ldcw dX0_overOf_72 q1077 ?_
          refine x_goto (tgt := 86) dX0_overOf_75 (by decide) ?_
          have e9 : moR v f nC m q r = 999999 := if_neg (by rw [← hX1.cs1 3]; exact hce)
          rw [e9]
          exact x_iret dX0_overOf_86 rfl rfl (mo_fin e4 e5 hv)
  · refine x_iload_n dX0_overOf_33 rfl ?_
    refine x_goto (tgt := 41) dX0_overOf_34 (by decide) ?_
    have hdv : q / kk ≤ q := Nat.div_le_self _ _
    have hmd : q % kk ≤ q := Nat.mod_le _ _
    refine k_V2vF hO.1 dX0_overOf_41 kG_X0_X0_comes kP_X0_comes rfl (by omega) (by decide) (Nat.le_of_ble_eq_true rfl) (d_comes hL hP2 hf2 hfe (pp := 0) (q := q) (by decide) (by omega)) ?_
    refine x_iload_n dX0_overOf_44 rfl ?_
    refine x_ic2 dX0_overOf_45 ?_
    refine x_icmpN_ne (tgt := 58) dX0_overOf_46 (by decide) (by omega) (by omega) (fun hc46 => ?_) (fun hc46 => ?_)
    · refine x_aload_n dX0_overOf_58 rfl ?_
      refine k_Fref 18 hO.1 rfl (by decide) rfl dX0_overOf_59 q416 ?_
      refine x_sipush (v := nI 1000) dX0_overOf_62 (by decide) ?_
      have hrow : lcC f 0 q (m0C S π n r v) = mcW S π n f r m q kk v := by rw [mcW, if_neg hc46]
      rw [hrow]
      subst hkk
      refine k_V1qi hL dX0_overOf_65 kG_X0_X3_toTheEnd kP_X3_toTheEnd rfl (by omega) (by decide) (Nat.le_of_ble_eq_true rfl) (mo_run h hR hB hfun hr hf2 hm hq1 hq2) (fun S2 U2 e3 e4 e5 => ?_)
      obtain ⟨hX1, hX2, hX3⟩ := moX_P h hB hfun hr hf2 hm hq1 hq2
      have hWE : WS (moX S π n v f nC m q r (f * (f - 1))).1 (moN m) f r (nlW v r) nC := edW_WSg hX3 (by decide) _ _ _ hX2
      have hle : (moX S π n v f nC m q r (f * (f - 1))).2 ≤ 1000 := edW_le _ _ _ (by decide)
      generalize moX S π n v f nC m q r (f * (f - 1)) = E at hWE hle hX1 ⊢
      by_cases hce : cnt (stp E.1 3) (moN m) = moN m
      · refine x_top (if_pos hce : teR E.1 (moN m) E.2 = nI E.2) ?_
        refine x_icm1 dX0_overOf_68 ?_
        refine x_icmp_ne (tgt := 78) dX0_overOf_69 (by decide) (fun hc69 => ?_) (fun hc69 => ?_)
        · refine x_aload_n dX0_overOf_78 rfl ?_
          refine k_Fref 18 hO.1 rfl (by decide) rfl dX0_overOf_79 q416 ?_
          refine x_icm1 dX0_overOf_82 ?_
          refine k_V1iT hL dX0_overOf_83 kG_X0_X3_overOf kP_X3_overOf rfl (by omega) (by decide) (Nat.le_of_ble_eq_true rfl) (d_overOf hL hX3.1 hWE.1.2.2.1) ?_
          have e9 : moR v f nC m q r = ovW E.1 (-1) (moN m) (moN m + 1) 0 (nI 0) := (if_pos (by rw [← hX1.cs1 3]; exact hce)).trans (ovW_Rl hX1 (by rw [← hX1.cs1 3]; exact hce) _ _ _).symm
          rw [e9]
          exact x_iret dX0_overOf_86 rfl rfl (mo_fin e4 e5 hv)
        · exact absurd hc69 (nI_nm2 (by omega))
      · refine x_top (if_neg hce : teR E.1 (moN m) E.2 = -1) ?_
        refine x_icm1 dX0_overOf_68 ?_
        refine x_icmp_ne (tgt := 78) dX0_overOf_69 (by decide) (fun hc69 => ?_) (fun hc69 => ?_)
        · exact absurd rfl hc69
        · refine x_ldcw dX0_overOf_72 q1077 ?_
          refine x_goto (tgt := 86) dX0_overOf_75 (by decide) ?_
          have e9 : moR v f nC m q r = 999999 := if_neg (by rw [← hX1.cs1 3]; exact hce)
          rw [e9]
          exact x_iret dX0_overOf_86 rfl rfl (mo_fin e4 e5 hv)
    · exact absurd hc46 (by omega)
end T99ZN
