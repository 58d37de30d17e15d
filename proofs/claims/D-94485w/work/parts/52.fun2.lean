set_option maxRecDepth 100000
section T52
variable {g : fc_G} {l : Launch} {M : fc_M} {T : tT} {w : Nat → Int32}
set_option maxHeartbeats 1000000 in
theorem b_fun110 {n0 s0 : Nat} (hM : tw0 + 17 ≤ fc_nx M) {T0 : tT} {w0 B : Nat → Int32} (hS : SimF T0 T) (h3 : T 3 = mixW 1300 w0 B) (hF : HF w0 w) {n pp : Nat} (hn : n ≤ 60) (hw : w 2 = nI n) {G : Prop} [Decidable G] {wo : Int32} {x2 : Int32} {v3 v5 : Option Value} : fc_X g l yX6_fun cX6_fun 6 (some .int) 12 n0 s0 (tv g M T w) 110 [some (.ref (fc_B g + tw0)), some (.int (nI pp)), some (.int x2), v3, some (.int wo), v5] [.int (bI G)] (tv_i g M (fnP T0 w0 (T 0 30) (if G then ovW w (nI pp) n (n + 1) 0 (nI 0) - wo else -100000))) := by
  refine x_istore_n dX6_fun_110 (by decide) rfl ?_
  refine x_iload_n dX6_fun_111 rfl ?_
  refine x_ifB_eq (tgt := 123) dX6_fun_112 (by decide) (fun hc112 => ?_) (fun hc112 => ?_)
  · refine x_ic0 dX6_fun_123 ?_
    refine x_istore dX6_fun_124 (by decide) rfl ?_
    have k0 := b_fun126 (g := g) (l := l) (n0 := n0) (s0 := s0) (M := M) (T := T) (w := w) (G := G) (wo := wo) (wi := nI 0) (v1 := some (.int (nI pp))) (v2 := some (.int x2)) hM hS h3 hF
    rw [if_neg hc112] at k0 ⊢
    exact k0
  · refine x_aload_n dX6_fun_115 rfl ?_
    refine x_iload_n dX6_fun_116 rfl ?_
    refine v_V1ie hM dX6_fun_117 kG_X6_X6_overAll kP_X6_overAll rfl (by omega) (by decide) (Nat.le_of_ble_eq_true rfl) (c_overAll hM hn hw) ?_
    refine x_goto (tgt := 124) dX6_fun_120 (by decide) ?_
    refine x_istore dX6_fun_124 (by decide) rfl ?_
    have k0 := b_fun126 (g := g) (l := l) (n0 := n0) (s0 := s0) (M := M) (T := T) (w := w) (G := G) (wo := wo) (wi := ovW w (nI pp) n (n + 1) 0 (nI 0)) (v1 := some (.int (nI pp))) (v2 := some (.int x2)) hM hS h3 hF
    exact k0
set_option maxHeartbeats 1000000 in
theorem b_fun77 {n0 s0 : Nat} (hM : tw0 + 17 ≤ fc_nx M) {T0 : tT} {w0 B : Nat → Int32} (hS : SimF T0 T) (h3 : T 3 = mixW 1300 w0 B) (hF : HF w0 w) {n f nC rr pp fl : Nat} (hG : GI w0 n f nC) (hr : rr < 3) (h4 : w0 4 = nI rr) (hfl : fl < 80) {G1 : Prop} [Decidable G1] {wo : Int32} {v5 : Option Value} : fc_X g l yX6_fun cX6_fun 6 (some .int) 12 n0 s0 (tv g M T w) 77 [some (.ref (fc_B g + tw0)), some (.int (nI pp)), some (.int (nI fl)), some (.int (bI G1)), some (.int wo), v5] [] (tv_i g M (fnP T0 w0 (nI fl) (if G1 ∧ cnt (stp (edW (sdW (tu (tu T 0 29 (nI pp)) 0 30 (nI fl)) fl n f rr (nlW w0 rr) nC) n 3000 3001 0 w0).1 3) n = n then ovW (edW (sdW (tu (tu T 0 29 (nI pp)) 0 30 (nI fl)) fl n f rr (nlW w0 rr) nC) n 3000 3001 0 w0).1 (nI pp) n (n + 1) 0 (nI 0) - wo else -100000))) := by
  refine x_aload_n dX6_fun_77 rfl ?_
  refine v_V0ve hM dX6_fun_78 kG_X6_X6_comesBack kP_X6_comesBack rfl (by omega) (by decide) (Nat.le_of_ble_eq_true rfl) (c_comesBack hM) ?_
  refine x_eqM (congrArg (fun z => tv g M T z) (show mixW 1300 (T 3) w = w0 by rw [h3]; exact mixW_back hF)) ?_
  refine x_aload_n dX6_fun_81 rfl ?_
  refine x_iload_n dX6_fun_82 rfl ?_
  refine v_puti 29 hM dX6_fun_83 (by decide) rfl q1159 rfl rfl rfl ?_
  refine x_aload_n dX6_fun_86 rfl ?_
  refine x_iload_n dX6_fun_87 rfl ?_
  refine v_puti 30 hM dX6_fun_88 (by decide) rfl q1160 rfl rfl rfl ?_
  refine x_iload_n dX6_fun_91 rfl ?_
  refine x_ifB_eq (tgt := 109) dX6_fun_92 (by decide) (fun hc92 => ?_) (fun hc92 => ?_)
  · refine x_ic0 dX6_fun_109 ?_
    refine x_top (bI_f (p := G1 ∧ cnt (stp (edW (sdW (tu (tu T 0 29 (nI pp)) 0 30 (nI fl)) fl n f rr (nlW w0 rr) nC) n 3000 3001 0 w0).1 3) n = n) (fun z => hc92 z.1)).symm ?_
    have k0 := b_fun110 (g := g) (l := l) (n0 := n0) (s0 := s0) (M := M) (T := (tu (tu T 0 29 (nI pp)) 0 30 (nI fl))) (T0 := T0) (w := w0) (w0 := w0) (B := B) (n := n) (pp := pp) (G := G1 ∧ cnt (stp (edW (sdW (tu (tu T 0 29 (nI pp)) 0 30 (nI fl)) fl n f rr (nlW w0 rr) nC) n 3000 3001 0 w0).1 3) n = n) (wo := wo) (x2 := nI fl) (v3 := some (.int (bI G1))) (v5 := v5) hM (SimF.q (SimF.p hS)) h3 HF.rf hG.1.1 hG.2.2.2.1
    rw [if_neg (fun z => hc92 z.1)] at k0 ⊢
    exact k0
  · refine x_aload_n dX6_fun_95 rfl ?_
    refine x_sipush (v := nI 3000) dX6_fun_96 (by decide) ?_
    refine v_V1i hM dX6_fun_99 kG_X6_X6_ends kP_X6_ends rfl (by omega) (by decide) (Nat.le_of_ble_eq_true rfl) (c_ends (wi := 3000) (T := (tu (tu T 0 29 (nI pp)) 0 30 (nI fl))) (w := w0) hM (hG.bd hr) hfl rfl (hG.ws hr h4) (by omega) rfl) (fun r1 T1 w1 q1 => ?_)
    obtain ⟨hS1, rfl, hnd, rfl⟩ := q1
    have hW2 := edW_WS (T := (tu (tu T 0 29 (nI pp)) 0 30 (nI fl))) (wi := 3000) (hG.bd hr) hfl 3001 0 _ (hG.ws hr h4)
    have hF2 := edW_HF (T := (tu (tu T 0 29 (nI pp)) 0 30 (nI fl))) (wi := 3000) (hG.bd hr) hfl 3001 0 _ (hG.ws hr h4)
    generalize hEE : (edW (sdW (tu (tu T 0 29 (nI pp)) 0 30 (nI fl)) fl n f rr (nlW w0 rr) nC) n 3000 3001 0 w0) = E at hnd hW2 hF2 ⊢
    refine x_ifB_eq (tgt := 109) dX6_fun_102 (by decide) (fun hc102 => ?_) (fun hc102 => ?_)
    · refine x_ic0 dX6_fun_109 ?_
      refine x_top (bI_f (p := G1 ∧ cnt (stp E.1 3) n = n) (fun z => hc102 z.2)).symm ?_
      have e30 : T1 0 30 = nI fl := hS1 0 30 (by decide) (by decide) (by decide) (by decide)
      have k0 := b_fun110 (g := g) (l := l) (n0 := n0) (s0 := s0) (M := M) (T := T1) (T0 := T0) (w := E.1) (w0 := w0) (B := B) (n := n) (pp := pp) (G := G1 ∧ cnt (stp E.1 3) n = n) (wo := wo) (x2 := nI fl) (v3 := some (.int (bI G1))) (v5 := v5) hM ((SimF.q (SimF.p hS)).tr hS1.b.f) (funext fun k => (hS1 3 k (by decide) (by decide) (fun z => absurd z.1 (by decide)) (fun z => absurd z.1 (by decide))).trans (congrFun h3 k)) hF2 hG.1.1 hW2.1.2.2.1
      rw [e30] at k0
      exact k0
    · refine x_ic1 dX6_fun_105 ?_
      refine x_goto (tgt := 110) dX6_fun_106 (by decide) ?_
      refine x_top (bI_t (p := G1 ∧ cnt (stp E.1 3) n = n) ⟨hc92, hc102⟩).symm ?_
      have e30 : T1 0 30 = nI fl := hS1 0 30 (by decide) (by decide) (by decide) (by decide)
      have k0 := b_fun110 (g := g) (l := l) (n0 := n0) (s0 := s0) (M := M) (T := T1) (T0 := T0) (w := E.1) (w0 := w0) (B := B) (n := n) (pp := pp) (G := G1 ∧ cnt (stp E.1 3) n = n) (wo := wo) (x2 := nI fl) (v3 := some (.int (bI G1))) (v5 := v5) hM ((SimF.q (SimF.p hS)).tr hS1.b.f) (funext fun k => (hS1 3 k (by decide) (by decide) (fun z => absurd z.1 (by decide)) (fun z => absurd z.1 (by decide))).trans (congrFun h3 k)) hF2 hG.1.1 hW2.1.2.2.1
      rw [e30] at k0
      exact k0
def fnQ (T : tT) (ps n f nC : Nat) (x1 x2 : Int32) (w : Nat → Int32) : Int32 := if nI 0 ≤ x1 ∧ x1 ≤ w 2 - nI 1 then (if w (820 + 8 * x1.toNatClampNeg + 3) = nI 1 then (if nI 0 ≤ x2 ∧ x2 ≤ w 0 - nI 1 then (if x2 = w (820 + 8 * x1.toNatClampNeg + 1) then -100000 else if x2 = w (820 + 8 * x1.toNatClampNeg + 2) then -100000 else
  (if cnt (stp (edW (sdW T ps n f (wN w 4) (nlW w (wN w 4)) nC) n 3000 3001 0 w).1 3) n = n ∧ cnt (stp (edW (secW (trO T) x1 x2.toNatClampNeg n f (wN w 4) (nlW w (wN w 4)) nC) n 3000 3001 0 w).1 3) n = n then ovW (edW (secW (trO T) x1 x2.toNatClampNeg n f (wN w 4) (nlW w (wN w 4)) nC) n 3000 3001 0 w).1 x1 n (n + 1) 0 (nI 0) - ovW (edW (sdW T ps n f (wN w 4) (nlW w (wN w 4)) nC) n 3000 3001 0 w).1 x1 n (n + 1) 0 (nI 0) else -100000)) else -100000) else -100000) else -100000
def fnT (w : Nat → Int32) (x1 x2 : Int32) : Prop := (nI 0 ≤ x1 ∧ x1 ≤ w 2 - nI 1) ∧ w (820 + 8 * x1.toNatClampNeg + 3) = nI 1 ∧ (nI 0 ≤ x2 ∧ x2 ≤ w 0 - nI 1) ∧ ¬ x2 = w (820 + 8 * x1.toNatClampNeg + 1) ∧ ¬ x2 = w (820 + 8 * x1.toNatClampNeg + 2)
set_option maxHeartbeats 1000000 in
theorem c_fun (hM : tw0 + 17 ≤ fc_nx M) {n f nC ps : Nat} (hG : GI w n f nC) (hps : T 0 30 = nI ps) (hpl : ps < 80) (hpr : T 0 29 = -1) {x1 x2 : Int32} : fc_CX g l yX6_fun cX6_fun 6 (some .int) 12 [.ref (fc_B g + tw0), .int x1, .int x2] (tv g M T w) (tv_i g M (fun r T2 w2 => SimF T T2 ∧ w2 = w ∧ T2 0 29 = -1 ∧ (∃ q, q < 80 ∧ T2 0 30 = nI q) ∧ r = fnQ T ps n f nC x1 x2 w)) := by
  refine fc_enter (by decide) (Nat.le_of_ble_eq_true rfl) rfl ?_
  have hC := hG.1.2.2
  have hF := hG.1.2.1
  have hN := hG.1.1
  obtain ⟨rr, hr, h4⟩ := hG.2.2.2.2.1
  have hrr : wN w 4 = rr := by rw [wN, h4, nI_clamp (by omega)]
  refine x_aload_n dX6_fun_0 rfl ?_
  refine x_iload_n dX6_fun_1 rfl ?_
  refine v_V1ie hM dX6_fun_2 kG_X6_X6_isOne kP_X6_isOne rfl (by omega) (by decide) (Nat.le_of_ble_eq_true rfl) (c_isOne hM) ?_
  refine x_ifB_eq (tgt := 46) dX6_fun_5 (by decide) (fun hc5 => ?_) (fun hc5 => ?_)
  · refine x_ldcw dX6_fun_46 q1591 ?_
    refine x_iret dX6_fun_49 rfl rfl (tv_ip ⟨SimB.rf.f, rfl, hpr, ⟨ps, hpl, hps⟩, ?_⟩)
    rw [fnQ, if_neg hc5]
  · obtain ⟨pp, hp, rfl⟩ := hG.one hc5
    have hcp : (nI pp).toNatClampNeg = pp := nI_clamp (by omega)
    · refine x_aload_n dX6_fun_8 rfl ?_
      refine x_iload_n dX6_fun_9 rfl ?_
      refine x_ic3 dX6_fun_10 ?_
      refine v_V2ie hM dX6_fun_11 kG_X6_X6_own kP_X6_own rfl (by omega) (by decide) (Nat.le_of_ble_eq_true rfl) (c_own hM rfl rfl (by omega)) ?_
      refine x_ic1 dX6_fun_14 ?_
      refine x_icmp_ne (tgt := 46) dX6_fun_15 (by decide) (fun hc15 => ?_) (fun hc15 => ?_)
      · refine x_ldcw dX6_fun_46 q1591 ?_
        refine x_iret dX6_fun_49 rfl rfl (tv_ip ⟨SimB.rf.f, rfl, hpr, ⟨ps, hpl, hps⟩, ?_⟩)
        rw [fnQ, if_pos hc5, hcp, if_neg hc15]
      · refine x_aload_n dX6_fun_18 rfl ?_
        refine x_iload_n dX6_fun_19 rfl ?_
        refine v_V1ie hM dX6_fun_20 kG_X6_X6_isFloor kP_X6_isFloor rfl (by omega) (by decide) (Nat.le_of_ble_eq_true rfl) (c_isFloor hM) ?_
        refine x_ifB_eq (tgt := 46) dX6_fun_23 (by decide) (fun hc23 => ?_) (fun hc23 => ?_)
        · refine x_ldcw dX6_fun_46 q1591 ?_
          refine x_iret dX6_fun_49 rfl rfl (tv_ip ⟨SimB.rf.f, rfl, hpr, ⟨ps, hpl, hps⟩, ?_⟩)
          rw [fnQ, if_pos hc5, hcp, if_pos hc15, if_neg hc23]
        · obtain ⟨fl, hfl, rfl⟩ := hG.flo hc23
          have hcf : (nI fl).toNatClampNeg = fl := nI_clamp (by omega)
          · refine x_iload_n dX6_fun_26 rfl ?_
            refine x_aload_n dX6_fun_27 rfl ?_
            refine x_iload_n dX6_fun_28 rfl ?_
            refine x_ic1 dX6_fun_29 ?_
            refine v_V2ie hM dX6_fun_30 kG_X6_X6_own kP_X6_own rfl (by omega) (by decide) (Nat.le_of_ble_eq_true rfl) (c_own hM rfl rfl (by omega)) ?_
            refine x_icmp_eq (tgt := 46) dX6_fun_33 (by decide) (fun hc33 => ?_) (fun hc33 => ?_)
            · refine x_ldcw dX6_fun_46 q1591 ?_
              refine x_iret dX6_fun_49 rfl rfl (tv_ip ⟨SimB.rf.f, rfl, hpr, ⟨ps, hpl, hps⟩, ?_⟩)
              rw [fnQ, if_pos hc5, hcp, if_pos hc15, if_pos hc23, if_pos hc33]
            · refine x_iload_n dX6_fun_36 rfl ?_
              refine x_aload_n dX6_fun_37 rfl ?_
              refine x_iload_n dX6_fun_38 rfl ?_
              refine x_ic2 dX6_fun_39 ?_
              refine v_V2ie hM dX6_fun_40 kG_X6_X6_own kP_X6_own rfl (by omega) (by decide) (Nat.le_of_ble_eq_true rfl) (c_own hM rfl rfl (by omega)) ?_
              refine x_icmp_ne (tgt := 50) dX6_fun_43 (by decide) (fun hc43 => ?_) (fun hc43 => ?_)
              · refine x_aload_n dX6_fun_50 rfl ?_
                refine v_V0ve hM dX6_fun_51 kG_X6_X6_setsOut kP_X6_setsOut rfl (by omega) (by decide) (Nat.le_of_ble_eq_true rfl) (c_setsOut hM) ?_
                refine x_aload_n dX6_fun_54 rfl ?_
                refine x_sipush (v := nI 3000) dX6_fun_55 (by decide) ?_
                refine v_V1i hM dX6_fun_58 kG_X6_X6_ends kP_X6_ends rfl (by omega) (by decide) (Nat.le_of_ble_eq_true rfl) (c_ends (wi := 3000) (T := (t3 T (mixW 1300 w (T 3)))) (w := w) hM (hG.bd hr) hpl hps (hG.ws hr h4) (by omega) rfl) (fun r1 T4 w1 q1 => ?_)
                obtain ⟨hS1, rfl, hnd, rfl⟩ := q1
                have hsd : sdW (t3 T (mixW 1300 w (T 3))) = sdW T := rfl
                rw [hsd] at hnd ⊢
                have hW2 := edW_WS (T := T) (wi := 3000) (hG.bd hr) hpl 3001 0 _ (hG.ws hr h4)
                have hF2 := edW_HF (T := T) (wi := 3000) (hG.bd hr) hpl 3001 0 _ (hG.ws hr h4)
                generalize hEE : (edW (sdW T ps n f rr (nlW w rr) nC) n 3000 3001 0 w) = E at hnd hW2 hF2 ⊢
                have h3 : T4 3 = mixW 1300 w (T 3) := funext fun k => hS1 3 k (by decide) (by decide) (fun z => absurd z.1 (by decide)) (fun z => absurd z.1 (by decide))
                have hS2 : SimB T T4 := (SimB.t3 SimB.rf : SimB T (t3 T (mixW 1300 w (T 3)))).tr hS1.b
                have hsd2 : sdW (tu (tu T4 0 29 (nI pp)) 0 30 (nI fl)) = secW (trO T) (nI pp) := by
                  unfold sdW
                  have e1 : trO (tu (tu T4 0 29 (nI pp)) 0 30 (nI fl)) = trO T := by
                    unfold trO
                    rw [show (tu (tu T4 0 29 (nI pp)) 0 30 (nI fl)) 0 28 = T 0 28 from hS2 0 28 (by decide) (by decide) (by decide) (by decide) (by decide), show (tu (tu T4 0 29 (nI pp)) 0 30 (nI fl)) 11 = T 11 from funext fun k => hS2 11 k (by decide) (by decide) (by decide) (fun z => absurd z.1 (by decide)) (fun z => absurd z.1 (by decide))]
                  rw [e1]
                  rfl
                refine x_istore_n dX6_fun_61 (by decide) rfl ?_
                refine x_iload_n dX6_fun_62 rfl ?_
                refine x_ifB_eq (tgt := 74) dX6_fun_63 (by decide) (fun hc63 => ?_) (fun hc63 => ?_)
                · refine x_ic0 dX6_fun_74 ?_
                  refine x_istore dX6_fun_75 (by decide) rfl ?_
                  refine x_mono ?_ (b_fun77 (g := g) (l := l) (M := M) (T := T4) (T0 := T) (w := E.1) (w0 := w) (B := T 3) (n := n) (f := f) (nC := nC) (rr := rr) (pp := pp) (fl := fl) (G1 := cnt (stp E.1 3) n = n) (wo := nI 0) hM hS2.f h3 hF2 hG hr h4 (by omega))
                  rintro o M2 ⟨r9, rfl, T9, w9, rfl, k1, k2, k3, k4, k5⟩
                  refine tv_ip ⟨k1, k2, k3, ⟨fl, by omega, k4⟩, ?_⟩
                  rw [hsd2] at k5
                  rw [k5, fnQ, if_pos hc5, hcp, if_pos hc15, if_pos hc23, if_neg hc33, if_neg hc43, hcf, hrr, hEE]
                  rw [if_neg (fun z => hc63 z.1), if_neg (fun z => hc63 z.1)]
                · refine x_aload_n dX6_fun_66 rfl ?_
                  refine x_iload_n dX6_fun_67 rfl ?_
                  refine v_V1ie hM dX6_fun_68 kG_X6_X6_overAll kP_X6_overAll rfl (by omega) (by decide) (Nat.le_of_ble_eq_true rfl) (c_overAll hM hN hW2.1.2.2.1) ?_
                  refine x_goto (tgt := 75) dX6_fun_71 (by decide) ?_
                  refine x_istore dX6_fun_75 (by decide) rfl ?_
                  refine x_mono ?_ (b_fun77 (g := g) (l := l) (M := M) (T := T4) (T0 := T) (w := E.1) (w0 := w) (B := T 3) (n := n) (f := f) (nC := nC) (rr := rr) (pp := pp) (fl := fl) (G1 := cnt (stp E.1 3) n = n) (wo := ovW E.1 (nI pp) n (n + 1) 0 (nI 0)) hM hS2.f h3 hF2 hG hr h4 (by omega))
                  rintro o M2 ⟨r9, rfl, T9, w9, rfl, k1, k2, k3, k4, k5⟩
                  refine tv_ip ⟨k1, k2, k3, ⟨fl, by omega, k4⟩, ?_⟩
                  rw [hsd2] at k5
                  rw [k5, fnQ, if_pos hc5, hcp, if_pos hc15, if_pos hc23, if_neg hc33, if_neg hc43, hcf, hrr, hEE]
              · refine x_ldcw dX6_fun_46 q1591 ?_
                refine x_iret dX6_fun_49 rfl rfl (tv_ip ⟨SimB.rf.f, rfl, hpr, ⟨ps, hpl, hps⟩, ?_⟩)
                rw [fnQ, if_pos hc5, hcp, if_pos hc15, if_pos hc23, if_neg hc33, if_pos hc43]
end T52
