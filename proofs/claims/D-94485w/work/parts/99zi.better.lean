set_option maxRecDepth 100000
section T99ZI
variable {g : fc_G} {l : Launch} {M : fc_M} {S : tT} {U : tU} {w v : Nat → Int32} {π f nC n : Nat} {τ : Nat → Nat}
theorem kG_X0_X0_overBy : GoodIn lw_all (wsV RX0 457 RX0 yX0_overBy (ws_ yX0_overBy cX0_overBy 2 (some .long))) := lw_V q1040 q1042 qs38 q118 q1043
theorem kP_X0_overBy : kPar yX0_overBy 1 := by decide +kernel
set_option maxHeartbeats 1000000 in
theorem d_better (h : TI g M S U π f nC n v) (hR : RT g M S τ v) (hv : clr S 32 v = S) {x1 x2 : Int32} : fc_CX g l yX0_better cX0_better 7 (some .int) 409 [.ref (fc_B g + 0), .int x1, .int x2] (cl M S U) (th_i M S U (btC v n f nC x1 x2)) := by
  refine fc_enter (by decide) (Nat.le_of_ble_eq_true rfl) rfl ?_
  refine x_iload_n dX0_better_0 rfl ?_
  refine k_S1i dX0_better_1 kG_X0_X0_isRule kP_X0_isRule (by omega) (by decide) (Nat.le_of_ble_eq_true rfl) d_isRule ?_
  refine x_ifB_eq (tgt := 14) dX0_better_4 (by decide) (fun hc4 => ?_) (fun hc4 => ?_)
  · refine x_icm1 dX0_better_14 ?_
    have e9 : btC v n f nC x1 x2 = -1 := if_neg hc4
    rw [e9]
    exact x_iret dX0_better_15 rfl rfl th_same
  · refine x_iload_n dX0_better_7 rfl ?_
    refine k_S1i dX0_better_8 kG_X0_X0_isRule kP_X0_isRule (by omega) (by decide) (Nat.le_of_ble_eq_true rfl) d_isRule ?_
    refine x_ifB_ne (tgt := 16) dX0_better_11 (by decide) (fun hc11 => ?_) (fun hc11 => ?_)
    · obtain ⟨r1, -, hr1a, rfl⟩ := nI_between (by decide) hc4 (by decide)
      obtain ⟨r2, -, hr2a, rfl⟩ := nI_between (by decide) hc11 (by decide)
      have hr1 : r1 < 3 := by omega
      have hr2 : r2 < 3 := by omega
      · refine x_aload_n dX0_better_16 rfl ?_
        refine x_iload_n dX0_better_17 rfl ?_
        refine x_V1l (P := fun q M2 => q = obV n (thP v n f nC r1 3000) ∧ ∃ gv S2 U2, M2 = cl (fc_put (M) 99 5 gv) S2 U2 ∧ thS S S2 ∧ thU U U2) 0 dX0_better_18 kG_X0_X0_overBy kP_X0_overBy (T := TX0) (N := 30) rfl (show 0 < fc_nx (M) by have := h.2.1.1.1; omega) (h.2.1.1.2.2 0 _ rfl) (by omega) (by decide) (Nat.le_of_ble_eq_true rfl) (d_overBy h hR hv hr1) (fun q1 M1 e1 => ?_)
        obtain ⟨e9, gv1, S1, U1, e8, hS1, hU1⟩ := e1
        subst e9
        subst e8
        have h1 := TI_th (gv := gv1) h hS1 hU1
        have hR1 := RT_th (gv := gv1) h hS1 hR
        have hv1 := tel_th hv hS1
        refine x_lstore_n dX0_better_21 (by decide) rfl ?_
        refine x_aload_n dX0_better_22 rfl ?_
        refine x_iload_n dX0_better_23 rfl ?_
        refine x_V1l (P := fun q M2 => q = obV n (thP v n f nC r2 3000) ∧ ∃ gv S2 U2, M2 = cl (fc_put (fc_put M 99 5 gv1) 99 5 gv) S2 U2 ∧ thS S1 S2 ∧ thU U1 U2) 0 dX0_better_24 kG_X0_X0_overBy kP_X0_overBy (T := TX0) (N := 30) rfl (show 0 < fc_nx (fc_put M 99 5 gv1) by have := h1.2.1.1.1; omega) (h1.2.1.1.2.2 0 _ rfl) (by omega) (by decide) (Nat.le_of_ble_eq_true rfl) (d_overBy h1 hR1 hv1 hr2) (fun q1 M1 e1 => ?_)
        obtain ⟨e9, gv2, S2, U2, e8, hS2, hU2⟩ := e1
        subst e9
        subst e8
        have h2 := TI_th (gv := gv2) h1 hS2 hU2
        have hR2 := RT_th (gv := gv2) h1 hS2 hR1
        have hv2 := tel_th hv1 hS2
        refine x_lstore dX0_better_27 (by decide) rfl ?_
        refine x_lload_n dX0_better_29 rfl ?_
        refine x_lload dX0_better_30 rfl ?_
        refine x_lcmp dX0_better_32 rfl ?_
        refine x_if_ge (tgt := 40) dX0_better_33 (by decide) (fun hc33 => ?_) (fun hc33 => ?_)
        · refine x_lload dX0_better_40 rfl ?_
          refine x_lload_n dX0_better_42 rfl ?_
          refine x_lcmp dX0_better_43 rfl ?_
          refine x_if_ge (tgt := 51) dX0_better_44 (by decide) (fun hc44 => ?_) (fun hc44 => ?_)
          · refine x_iload_n dX0_better_51 rfl ?_
            refine x_iload_n dX0_better_52 rfl ?_
            refine x_mmin dX0_better_53 q590 (by omega) (Nat.le_of_ble_eq_true rfl) ?_
            have e9 : btC v n f nC (nI r1) (nI r2) = if nI r2 < nI r1 then nI r2 else nI r1 := by rw [btC, if_pos hc4, if_pos hc11, nI_clamp (by omega), nI_clamp (by omega), if_neg (fun z => absurd (lcm_lt.mpr z) (Int32.not_lt.mpr hc33)), if_neg (fun z => absurd (lcm_lt.mpr z) (Int32.not_lt.mpr hc44))]
            exact x_iret dX0_better_56 rfl rfl ⟨by rw [e9], gv2, S2, U2, by rw [put_put], fun a k z1 z2 => (hS2 a k z1 z2).trans (hS1 a k z1 z2), fun a k z => (hU2 a k z).trans (hU1 a k z)⟩
          · refine x_iload_n dX0_better_47 rfl ?_
            refine x_goto (tgt := 56) dX0_better_48 (by decide) ?_
            have e9 : btC v n f nC (nI r1) (nI r2) = nI r2 := by rw [btC, if_pos hc4, if_pos hc11, nI_clamp (by omega), nI_clamp (by omega), if_neg (fun z => absurd (lcm_lt.mpr z) (Int32.not_lt.mpr hc33)), if_pos (lcm_lt.mp (Int32.not_le.mp hc44))]
            exact x_iret dX0_better_56 rfl rfl ⟨by rw [e9], gv2, S2, U2, by rw [put_put], fun a k z1 z2 => (hS2 a k z1 z2).trans (hS1 a k z1 z2), fun a k z => (hU2 a k z).trans (hU1 a k z)⟩
        · refine x_iload_n dX0_better_36 rfl ?_
          refine x_goto (tgt := 56) dX0_better_37 (by decide) ?_
          have e9 : btC v n f nC (nI r1) (nI r2) = nI r1 := by rw [btC, if_pos hc4, if_pos hc11, nI_clamp (by omega), nI_clamp (by omega), if_pos (lcm_lt.mp (Int32.not_le.mp hc33))]
          exact x_iret dX0_better_56 rfl rfl ⟨by rw [e9], gv2, S2, U2, by rw [put_put], fun a k z1 z2 => (hS2 a k z1 z2).trans (hS1 a k z1 z2), fun a k z => (hU2 a k z).trans (hU1 a k z)⟩
    · refine x_icm1 dX0_better_14 ?_
      have e9 : btC v n f nC x1 x2 = -1 := (if_pos hc4).trans (if_neg hc11)
      rw [e9]
      exact x_iret dX0_better_15 rfl rfl th_same
end T99ZI
