set_option maxRecDepth 100000
section T46
variable {g : fc_G} {l : Launch} {M : fc_M} {T : tT} {w : Nat → Int32}
theorem kG_X6_X6_comesBack : GoodIn lw_all (wsV RX6 359 RX6 yX6_comesBack (ws_ yX6_comesBack cX6_comesBack 2 (none))) := lw_V q1553 q1555 qs105 q124 q1556
theorem kP_X6_comesBack : kPar yX6_comesBack 0 := by decide +kernel
set_option maxHeartbeats 1000000 in
theorem b_th115 {n0 s0 : Nat} (hM : tw0 + 17 ≤ fc_nx M) {T0 : tT} {w0 B : Nat → Int32} (hS : SimB T0 T) (h3 : T 3 = mixW 1300 w0 B) (hF : HF w0 w) {v : Int32} {v1 v2 v4 : Option Value} : fc_X g l yX6_thought cX6_thought 5 (some .int) 12 n0 s0 (tv g M T w) 115 [some (.ref (fc_B g + tw0)), v1, v2, some (.int v), v4] [] (tv_i g M (fun r T2 w2 => SimB T0 T2 ∧ w2 = w0 ∧ r = v)) := by
  refine x_aload_n dX6_thought_115 rfl ?_
  refine v_V0ve hM dX6_thought_116 kG_X6_X6_comesBack kP_X6_comesBack rfl (by omega) (by decide) (Nat.le_of_ble_eq_true rfl) (c_comesBack hM) ?_
  refine x_iload_n dX6_thought_119 rfl ?_
  exact x_iret dX6_thought_120 rfl rfl (tv_ip ⟨hS, by rw [h3]; exact mixW_back hF, rfl⟩)
set_option maxHeartbeats 1000000 in
theorem b_th69 {n0 s0 : Nat} (hM : tw0 + 17 ≤ fc_nx M) {T0 : tT} {w0 B : Nat → Int32} (hS : SimB T0 T) (h3 : T 3 = mixW 1300 w0 B) (hF : HF w0 w) {n wt : Nat} (hn : n ≤ 60) (hw : w 2 = nI n) (hwt : wt < 3) {v : Int32} {v1 v4 : Option Value} : fc_X g l yX6_thought cX6_thought 5 (some .int) 12 n0 s0 (tv g M T w) 69 [some (.ref (fc_B g + tw0)), v1, some (.int (nI wt)), some (.int v), v4] [] (tv_i g M (fun r T2 w2 => SimB T0 T2 ∧ w2 = w0 ∧ r = if wt = 1 then mxW w n (n + 1) 0 v else v)) := by
  refine x_ic0 dX6_thought_69 ?_
  refine x_istore dX6_thought_70 (by decide) rfl ?_
  by_cases hq : wt = 1
  · rw [if_pos hq]
    exact l_thought hM hn hw hq (fun v4 => b_th115 hM hS h3 hF) (n + 1) 0 v (by omega) (by omega) rfl
  · refine x_iload dX6_thought_72 rfl ?_
    refine x_aload_n dX6_thought_74 rfl ?_
    refine v_geta 0 hM dX6_thought_75 (by decide) rfl q1130 ?_
    refine x_ic2 dX6_thought_78 ?_
    refine v_wld hM dX6_thought_79 rfl (by omega) ?_
    refine x_top hw ?_
    refine x_icmpN_ge (tgt := 115) dX6_thought_80 (by decide) (by omega) (by omega) (fun hc80 => ?_) (fun hc80 => ?_)
    · rw [if_neg hq]
      exact b_th115 hM hS h3 hF
    · refine x_iload_n dX6_thought_83 rfl ?_
      refine x_ic1 dX6_thought_84 ?_
      refine x_icmpN_ne (tgt := 115) dX6_thought_85 (by decide) (by omega) (by omega) (fun hc85 => ?_) (fun hc85 => ?_)
      · rw [if_neg hq]
        exact b_th115 hM hS h3 hF
      · exact absurd hc85 hq
def thQ (T : tT) (ps n f nC : Nat) (x1 x2 : Int32) (w : Nat → Int32) : Int32 := if nI 0 ≤ x1 ∧ x1 ≤ nI 2 then (if nI 0 ≤ x2 ∧ x2 ≤ nI 2 then thE (sdW T ps n f x1.toNatClampNeg (nlW w x1.toNatClampNeg) nC) n x2.toNatClampNeg (edW (sdW T ps n f x1.toNatClampNeg (nlW w x1.toNatClampNeg) nC) n 3000 3001 0 (up w 4 x1)) else -1) else -1
theorem kG_X6_X6_setsOut : GoodIn lw_all (wsV RX6 350 RX6 yX6_setsOut (ws_ yX6_setsOut cX6_setsOut 2 (none))) := lw_V q1537 q1539 qs101 q124 q1540
theorem kP_X6_setsOut : kPar yX6_setsOut 0 := by decide +kernel
theorem kG_X6_X6_ends : GoodIn lw_all (wsV RX6 353 RX6 yX6_ends (ws_ yX6_ends cX6_ends 2 (some .boolean))) := lw_V q1541 q1543 qs102 q124 q1544
theorem kP_X6_ends : kPar yX6_ends 1 := by decide +kernel
theorem kG_X6_X6_overAll : GoodIn lw_all (wsV RX6 356 RX6 yX6_overAll (ws_ yX6_overAll cX6_overAll 4 (some .int))) := lw_V q1545 q1547 qs103 q124 q1548
theorem kP_X6_overAll : kPar yX6_overAll 1 := by decide +kernel
set_option maxHeartbeats 1000000 in
theorem c_thought (hM : tw0 + 17 ≤ fc_nx M) {n f nC ps : Nat} (hG : GI w n f nC) (hps : T 0 30 = nI ps) (hpl : ps < 80) {x1 x2 : Int32} : fc_CX g l yX6_thought cX6_thought 5 (some .int) 12 [.ref (fc_B g + tw0), .int x1, .int x2] (tv g M T w) (tv_i g M (fun r T2 w2 => SimB T T2 ∧ w2 = w ∧ r = thQ T ps n f nC x1 x2 w)) := by
  refine fc_enter (by decide) (Nat.le_of_ble_eq_true rfl) rfl ?_
  refine x_iload_n dX6_thought_0 rfl ?_
  refine x_ic0 dX6_thought_1 ?_
  refine x_ic2 dX6_thought_2 ?_
  refine v_S3ie dX6_thought_3 kG_X6_X6_isIn kP_X6_isIn (by omega) (by decide) (Nat.le_of_ble_eq_true rfl) c_isIn ?_
  refine x_ifB_eq (tgt := 18) dX6_thought_6 (by decide) (fun hc6 => ?_) (fun hc6 => ?_)
  · refine x_icm1 dX6_thought_18 ?_
    refine x_iret dX6_thought_19 rfl rfl (tv_ip ⟨SimB.rf, rfl, ?_⟩)
    rw [thQ, if_neg hc6]
  · refine x_iload_n dX6_thought_9 rfl ?_
    refine x_ic0 dX6_thought_10 ?_
    refine x_ic2 dX6_thought_11 ?_
    refine v_S3ie dX6_thought_12 kG_X6_X6_isIn kP_X6_isIn (by omega) (by decide) (Nat.le_of_ble_eq_true rfl) c_isIn ?_
    refine x_ifB_ne (tgt := 20) dX6_thought_15 (by decide) (fun hc15 => ?_) (fun hc15 => ?_)
    · obtain ⟨r, -, hr, rfl⟩ := nI_between (by decide) hc6 (by decide)
      obtain ⟨wt, -, hwt, rfl⟩ := nI_between (by decide) hc15 (by decide)
      have hr : r < 3 := by omega
      · refine x_aload_n dX6_thought_20 rfl ?_
        refine v_V0ve hM dX6_thought_21 kG_X6_X6_setsOut kP_X6_setsOut rfl (by omega) (by decide) (Nat.le_of_ble_eq_true rfl) (c_setsOut hM) ?_
        refine x_aload_n dX6_thought_24 rfl ?_
        refine v_geta 0 hM dX6_thought_25 (by decide) rfl q1130 ?_
        refine x_ic4 dX6_thought_28 ?_
        refine x_iload_n dX6_thought_29 rfl ?_
        refine v_wst hM dX6_thought_30 rfl (by omega) ?_
        refine x_icm1 dX6_thought_31 ?_
        refine x_istore_n dX6_thought_32 (by decide) rfl ?_
        refine x_aload_n dX6_thought_33 rfl ?_
        refine x_sipush (v := nI 3000) dX6_thought_34 (by decide) ?_
        have hT1 : SimB T (t3 T (mixW 1300 w (T 3))) := SimB.t3 SimB.rf
        have hb := hG.bd hr
        refine v_V1i hM dX6_thought_37 kG_X6_X6_ends kP_X6_ends rfl (by omega) (by decide) (Nat.le_of_ble_eq_true rfl) (c_ends (wi := 3000) (T := t3 T (mixW 1300 w (T 3))) (w := up w 4 (nI r)) hM hb hpl hps (hG.ws4 hr) (by omega) rfl) (fun r1 T1 w1 q1 => ?_)
        obtain ⟨hS1, rfl, hnd, rfl⟩ := q1
        have hsd : sdW (t3 T (mixW 1300 w (T 3))) = sdW T := rfl
        rw [hsd] at hnd ⊢
        have hW2 := edW_WS (T := T) (wi := 3000) hb hpl 3001 0 _ (hG.ws4 hr)
        have hF2 : HF w (edW (sdW T ps n f r (nlW w r) nC) n 3000 3001 0 (up w 4 (nI r))).1 := (HF.rf.up (by decide)).tr (edW_HF hb hpl 3001 0 _ (hG.ws4 hr))
        generalize hEE : (edW (sdW T ps n f r (nlW w r) nC) n 3000 3001 0 (up w 4 (nI r))) = E at hnd hW2 hF2 ⊢
        have h3 : T1 3 = mixW 1300 w (T 3) := funext fun k => hS1 3 k (by decide) (by decide) (fun z => absurd z.1 (by decide)) (fun z => absurd z.1 (by decide))
        have hS2 : SimB T T1 := hT1.tr hS1.b
        refine x_ifB_eq (tgt := 115) dX6_thought_40 (by decide) (fun hc40 => ?_) (fun hc40 => ?_)
        · have hte : thQ T ps n f nC (nI r) (nI wt) w = thE (sdW T ps n f r (nlW w r) nC) n wt E := by rw [thQ, if_pos hc6, if_pos hc15, nI_clamp (by omega), nI_clamp (by omega), hEE]
          rw [hte, thE, if_neg hc40]
          exact b_th115 hM hS2 h3 hF2
        · refine x_iload_n dX6_thought_43 rfl ?_
          refine x_ifN_ne (tgt := 55) dX6_thought_44 (by decide) (by omega) (fun hc44 => ?_) (fun hc44 => ?_)
          · refine x_iload_n dX6_thought_55 rfl ?_
            refine x_ic2 dX6_thought_56 ?_
            refine x_icmpN_ne (tgt := 67) dX6_thought_57 (by decide) (by omega) (by omega) (fun hc57 => ?_) (fun hc57 => ?_)
            · refine x_ic0 dX6_thought_67 ?_
              refine x_istore_n dX6_thought_68 (by decide) rfl ?_
              have hte : thQ T ps n f nC (nI r) (nI wt) w = thE (sdW T ps n f r (nlW w r) nC) n wt E := by rw [thQ, if_pos hc6, if_pos hc15, nI_clamp (by omega), nI_clamp (by omega), hEE]
              rw [hte, thE, if_pos hc40, if_neg (Nat.ne_of_gt hc44), if_neg hc57]
              have hw1 : wt = 1 := by omega
              have k0 := b_th69 (g := g) (l := l) (n0 := fc_nx (tv g M T w)) (s0 := fc_sl (tv g M T w)) (v := nI 0) (v1 := some (.int (nI r))) (v4 := none) hM hS2 h3 hF2 hG.1.1 hW2.1.2.2.1 (show wt < 3 by omega)
              rw [if_pos hw1] at k0
              exact k0
            · refine x_aload_n dX6_thought_60 rfl ?_
              refine v_geti 31 hM dX6_thought_61 (by decide) rfl q1161 ?_
              refine x_top hnd ?_
              refine x_goto (tgt := 68) dX6_thought_64 (by decide) ?_
              refine x_istore_n dX6_thought_68 (by decide) rfl ?_
              have hte : thQ T ps n f nC (nI r) (nI wt) w = thE (sdW T ps n f r (nlW w r) nC) n wt E := by rw [thQ, if_pos hc6, if_pos hc15, nI_clamp (by omega), nI_clamp (by omega), hEE]
              rw [hte, thE, if_pos hc40, if_neg (Nat.ne_of_gt hc44), if_pos hc57]
              have hw1 : ¬ wt = 1 := by omega
              have k0 := b_th69 (g := g) (l := l) (n0 := fc_nx (tv g M T w)) (s0 := fc_sl (tv g M T w)) (v := nI E.2) (v1 := some (.int (nI r))) (v4 := none) hM hS2 h3 hF2 hG.1.1 hW2.1.2.2.1 (show wt < 3 by omega)
              rw [if_neg hw1] at k0
              exact k0
          · refine x_aload_n dX6_thought_47 rfl ?_
            refine x_icm1 dX6_thought_48 ?_
            refine v_V1ie hM dX6_thought_49 kG_X6_X6_overAll kP_X6_overAll rfl (by omega) (by decide) (Nat.le_of_ble_eq_true rfl) (c_overAll hM hG.1.1 hW2.1.2.2.1) ?_
            refine x_goto (tgt := 68) dX6_thought_52 (by decide) ?_
            refine x_istore_n dX6_thought_68 (by decide) rfl ?_
            have hte : thQ T ps n f nC (nI r) (nI wt) w = thE (sdW T ps n f r (nlW w r) nC) n wt E := by rw [thQ, if_pos hc6, if_pos hc15, nI_clamp (by omega), nI_clamp (by omega), hEE]
            rw [hte, thE, if_pos hc40, if_pos hc44]
            have hw1 : ¬ wt = 1 := by omega
            have k0 := b_th69 (g := g) (l := l) (n0 := fc_nx (tv g M T w)) (s0 := fc_sl (tv g M T w)) (v := ovW E.1 (-1) n (n + 1) 0 (nI 0)) (v1 := some (.int (nI r))) (v4 := none) hM hS2 h3 hF2 hG.1.1 hW2.1.2.2.1 (show wt < 3 by omega)
            rw [if_neg hw1] at k0
            exact k0
    · refine x_icm1 dX6_thought_18 ?_
      refine x_iret dX6_thought_19 rfl rfl (tv_ip ⟨SimB.rf, rfl, ?_⟩)
      rw [thQ, if_pos hc6, if_neg hc15]
def btQ (T : tT) (ps n f nC : Nat) (a b : Int32) (w : Nat → Int32) : Int32 := if nI 0 ≤ a ∧ a ≤ nI 2 then (if nI 0 ≤ b ∧ b ≤ nI 2 then (if thQ T ps n f nC a (nI 0) w = thQ T ps n f nC b (nI 0) w then (if a < b then a else b) else if thQ T ps n f nC b (nI 0) w = -1 then a else if thQ T ps n f nC a (nI 0) w = -1 then b else if thQ T ps n f nC a (nI 0) w < thQ T ps n f nC b (nI 0) w then a else b) else -1) else -1
theorem sdW_simB {T T2 : tT} (h : SimB T T2) : sdW T2 = sdW T := by
  unfold sdW trO
  rw [h 0 28 (by decide) (by decide) (by decide) (by decide) (by decide), h 0 29 (by decide) (by decide) (by decide) (by decide) (by decide), show T2 11 = T 11 from funext fun k => h 11 k (by decide) (by decide) (by decide) (fun z => absurd z.1 (by decide)) (fun z => absurd z.1 (by decide))]
theorem thQ_simB {T T2 : tT} (h : SimB T T2) : thQ T2 = thQ T := by
  unfold thQ
  rw [sdW_simB h]
theorem kG_X6_X6_thought : GoodIn lw_all (wsV RX6 362 RX6 yX6_thought (ws_ yX6_thought cX6_thought 5 (some .int))) := lw_V q1561 q1534 q1535 q124 q1536
theorem kP_X6_thought : kPar yX6_thought 2 := by decide +kernel
set_option maxHeartbeats 1000000 in
theorem c_better (hM : tw0 + 17 ≤ fc_nx M) {n f nC ps : Nat} (hG : GI w n f nC) (hps : T 0 30 = nI ps) (hpl : ps < 80) {x1 x2 : Int32} : fc_CX g l yX6_better cX6_better 5 (some .int) 13 [.ref (fc_B g + tw0), .int x1, .int x2] (tv g M T w) (tv_i g M (fun r T2 w2 => SimB T T2 ∧ w2 = w ∧ r = btQ T ps n f nC x1 x2 w)) := by
  refine fc_enter (by decide) (Nat.le_of_ble_eq_true rfl) rfl ?_
  refine x_iload_n dX6_better_0 rfl ?_
  refine x_ic0 dX6_better_1 ?_
  refine x_ic2 dX6_better_2 ?_
  refine v_S3ie dX6_better_3 kG_X6_X6_isIn kP_X6_isIn (by omega) (by decide) (Nat.le_of_ble_eq_true rfl) c_isIn ?_
  refine x_ifB_eq (tgt := 18) dX6_better_6 (by decide) (fun hc6 => ?_) (fun hc6 => ?_)
  · refine x_icm1 dX6_better_18 ?_
    refine x_iret dX6_better_19 rfl rfl (tv_ip ⟨SimB.rf, rfl, ?_⟩)
    rw [btQ, if_neg hc6]
  · refine x_iload_n dX6_better_9 rfl ?_
    refine x_ic0 dX6_better_10 ?_
    refine x_ic2 dX6_better_11 ?_
    refine v_S3ie dX6_better_12 kG_X6_X6_isIn kP_X6_isIn (by omega) (by decide) (Nat.le_of_ble_eq_true rfl) c_isIn ?_
    refine x_ifB_ne (tgt := 20) dX6_better_15 (by decide) (fun hc15 => ?_) (fun hc15 => ?_)
    · refine x_aload_n dX6_better_20 rfl ?_
      refine x_iload_n dX6_better_21 rfl ?_
      refine x_ic0 dX6_better_22 ?_
      refine v_V2i hM dX6_better_23 kG_X6_X6_thought kP_X6_thought rfl (by omega) (by decide) (Nat.le_of_ble_eq_true rfl) (c_thought (T := T) (w := w) hM hG hps hpl) (fun r1 T1 w1 q1 => ?_)
      obtain ⟨hS1, e1, hr1⟩ := q1
      rw [e1, hr1]
      refine x_istore_n dX6_better_26 (by decide) rfl ?_
      refine x_aload_n dX6_better_27 rfl ?_
      refine x_iload_n dX6_better_28 rfl ?_
      refine x_ic0 dX6_better_29 ?_
      refine v_V2i hM dX6_better_30 kG_X6_X6_thought kP_X6_thought rfl (by omega) (by decide) (Nat.le_of_ble_eq_true rfl) (c_thought (T := T1) (w := w) hM hG (by rw [hS1 0 30 (by decide) (by decide) (by decide) (by decide) (by decide)]; exact hps) hpl) (fun r2 T2 w2 q2 => ?_)
      obtain ⟨hS2, e2, hr2⟩ := q2
      rw [thQ_simB hS1] at hr2
      rw [e2, hr2]
      refine x_istore dX6_better_33 (by decide) rfl ?_
      refine x_iload_n dX6_better_35 rfl ?_
      refine x_iload dX6_better_36 rfl ?_
      refine x_icmp_ne (tgt := 52) dX6_better_38 (by decide) (fun hc38 => ?_) (fun hc38 => ?_)
      · refine x_iload dX6_better_52 rfl ?_
        refine x_icm1 dX6_better_54 ?_
        refine x_icmp_eq (tgt := 69) dX6_better_55 (by decide) (fun hc55 => ?_) (fun hc55 => ?_)
        · refine x_iload_n dX6_better_69 rfl ?_
          refine x_goto (tgt := 74) dX6_better_70 (by decide) ?_
          refine x_iret dX6_better_74 rfl rfl (tv_ip ⟨hS1.tr hS2, rfl, ?_⟩)
          rw [btQ, if_pos hc6, if_pos hc15, if_neg hc38, if_pos hc55]
        · refine x_iload_n dX6_better_58 rfl ?_
          refine x_icm1 dX6_better_59 ?_
          refine x_icmp_eq (tgt := 73) dX6_better_60 (by decide) (fun hc60 => ?_) (fun hc60 => ?_)
          · refine x_iload_n dX6_better_73 rfl ?_
            refine x_iret dX6_better_74 rfl rfl (tv_ip ⟨hS1.tr hS2, rfl, ?_⟩)
            rw [btQ, if_pos hc6, if_pos hc15, if_neg hc38, if_neg hc55, if_pos hc60]
          · refine x_iload_n dX6_better_63 rfl ?_
            refine x_iload dX6_better_64 rfl ?_
            refine x_icmp_ge (tgt := 73) dX6_better_66 (by decide) (fun hc66 => ?_) (fun hc66 => ?_)
            · refine x_iload_n dX6_better_73 rfl ?_
              refine x_iret dX6_better_74 rfl rfl (tv_ip ⟨hS1.tr hS2, rfl, ?_⟩)
              rw [btQ, if_pos hc6, if_pos hc15, if_neg hc38, if_neg hc55, if_neg hc60, if_neg (Int32.not_lt.mpr hc66)]
            · refine x_iload_n dX6_better_69 rfl ?_
              refine x_goto (tgt := 74) dX6_better_70 (by decide) ?_
              refine x_iret dX6_better_74 rfl rfl (tv_ip ⟨hS1.tr hS2, rfl, ?_⟩)
              rw [btQ, if_pos hc6, if_pos hc15, if_neg hc38, if_neg hc55, if_neg hc60, if_pos (Int32.not_le.mp hc66)]
      · refine x_iload_n dX6_better_41 rfl ?_
        refine x_iload_n dX6_better_42 rfl ?_
        refine x_icmp_ge (tgt := 50) dX6_better_43 (by decide) (fun hc43 => ?_) (fun hc43 => ?_)
        · refine x_iload_n dX6_better_50 rfl ?_
          refine x_iret dX6_better_51 rfl rfl (tv_ip ⟨hS1.tr hS2, rfl, ?_⟩)
          rw [btQ, if_pos hc6, if_pos hc15, if_pos hc38, if_neg (Int32.not_lt.mpr hc43)]
        · refine x_iload_n dX6_better_46 rfl ?_
          refine x_goto (tgt := 51) dX6_better_47 (by decide) ?_
          refine x_iret dX6_better_51 rfl rfl (tv_ip ⟨hS1.tr hS2, rfl, ?_⟩)
          rw [btQ, if_pos hc6, if_pos hc15, if_pos hc38, if_pos (Int32.not_le.mp hc43)]
    · refine x_icm1 dX6_better_18 ?_
      refine x_iret dX6_better_19 rfl rfl (tv_ip ⟨SimB.rf, rfl, ?_⟩)
      rw [btQ, if_pos hc6, if_neg hc15]
end T46
