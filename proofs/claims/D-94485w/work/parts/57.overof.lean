set_option maxRecDepth 100000
section T57
variable {g : fc_G} {l : Launch} {M : fc_M} {T : tT} {w : Nat → Int32}
theorem cmW_fr {w : Nat → Int32} {n i : Nat} {a b c : Int32} (h : i ≠ 2) (h2 : ∀ k, k < 7 → i ≠ 820 + 8 * n + k) : cmW w n a b c i = w i := by
  unfold cmW
  rw [up_n h, up_n (h2 6 (by decide)), up_n (h2 5 (by decide)), up_n (h2 4 (by decide)), up_n (h2 3 (by decide)), up_n (h2 2 (by decide)), up_n (h2 1 (by decide)), up_n (h2 0 (by decide))]
theorem cmW_12 {w : Nat → Int32} {n : Nat} {a b c : Int32} : cmW w n a b c (820 + 8 * n + 1) = b ∧ cmW w n a b c (820 + 8 * n + 2) = c := by
  unfold cmW
  exact ⟨by rw [up_n (by omega), up_n (by omega), up_n (by omega), up_n (by omega), up_n (by omega), up_n (by omega), up_s], by rw [up_n (by omega), up_n (by omega), up_n (by omega), up_n (by omega), up_n (by omega), up_s]⟩
theorem lc_WS {w : Nat → Int32} {n f r nl nC q : Nat} (hb : Bd n f r nC) (hn : n < 60) (hf2 : 2 ≤ f) (hq : q < f * (f - 1)) (h : WS w n f r nl nC) : WS (lcW f n q w) (n + 1) f r nl nC := by
  obtain ⟨⟨h0, h1, h2, h4, h5, h6⟩, h7⟩ := h
  have hC := hb.2.2.2
  have hF := hb.2.1
  unfold lcW
  have hd : q / (f - 1) < f := Nat.div_lt_of_lt_mul (by rw [Nat.mul_comm]; exact hq)
  have hm : q % (f - 1) < f - 1 := Nat.mod_lt _ (by omega)
  generalize q / (f - 1) = a at hd ⊢
  generalize q % (f - 1) = t at hm ⊢
  refine ⟨⟨?_, ?_, up_s, ?_, RV_fr hb.2.2.1 (fun i hi => cmW_fr (by omega) (fun k hk => by omega)) h5, ?_⟩, fun c hc => CV_fr (h7 c hc) (fun k hk => cmW_fr (by omega) (fun k2 hk2 => by omega))⟩
  · rw [cmW_fr (by omega) (fun k hk => by omega)]; exact h0
  · rw [cmW_fr (by omega) (fun k hk => by omega)]; exact h1
  · rw [cmW_fr (by omega) (fun k hk => by omega)]; exact h4
  · intro p hp
    by_cases e : p = n
    · subst e
      rw [cmW_12.1, cmW_12.2]
      by_cases ht : t < a
      · rw [if_pos ht]
        exact ⟨a, t, rfl, rfl, hd, by omega, by omega⟩
      · rw [if_neg ht]
        exact ⟨a, t + 1, rfl, rfl, hd, by omega, by omega⟩
    · rw [cmW_fr (by omega) (fun k hk => by omega), cmW_fr (by omega) (fun k hk => by omega)]
      exact h6 p (by omega)
theorem mo0_WS {w : Nat → Int32} {f nC r : Nat} (h : BI w f nC) (hr : r < 3) : WS (mo0 nC (nI r) w) 0 f r (nlW w r) nC := by
  have hC := h.1.2
  refine ⟨⟨?_, ?_, mo0_2.1, mo0_2.2, RV_fr hr (fun i hi => mo0_fr (by omega) (fun c hc j hj => by omega) (by omega)) (h.2.2.2.2 r hr), fun p hp => absurd hp (by omega)⟩, mo0_CV h⟩
  · rw [mo0_fr (by omega) (fun c hc j hj => by omega) (by omega)]; exact h.2.1
  · rw [mo0_fr (by omega) (fun c hc j hj => by omega) (by omega)]; exact h.2.2.1
/-- how many come, the row of a morning -/
def moN (m : Nat) : Nat := if m = 2 then 2 else 1
def moW (f nC m q r : Nat) (w : Nat → Int32) : Nat → Int32 := if m = 2 then lcW f 1 (q % (f * (f - 1))) (lcW f 0 (q / (f * (f - 1))) (mo0 nC (nI r) w)) else lcW f 0 (q % (f * (f - 1))) (mo0 nC (nI r) w)
def moE (T : tT) (ps f nC m q r : Nat) (w : Nat → Int32) : (Nat → Int32) × Nat := edW (sdW T ps (moN m) f r (nlW w r) nC) (moN m) 1000 1001 0 (moW f nC m q r w)
def moQ (T : tT) (ps f nC m q r : Nat) (w : Nat → Int32) : Int32 := if cnt (stp (moE T ps f nC m q r w).1 3) (moN m) = moN m then ovW (moE T ps f nC m q r w).1 (-1) (moN m) (moN m + 1) 0 (nI 0) else 999999
theorem moW_WS {w : Nat → Int32} {f nC r m q : Nat} (h : BI w f nC) (hr : r < 3) (hf2 : 2 ≤ f) (hq : m = 2 → q < f * (f - 1) * (f * (f - 1))) : WS (moW f nC m q r w) (moN m) f r (nlW w r) nC ∧ Bd (moN m) f r nC := by
  have hcl : 0 < f * (f - 1) := Nat.mul_pos (by omega) (by omega)
  have hb : ∀ n, n ≤ 60 → Bd n f r nC := fun n hn => ⟨hn, h.1.1, hr, h.1.2⟩
  unfold moW moN
  by_cases hm : m = 2
  · rw [if_pos hm, if_pos hm]
    exact ⟨lc_WS (hb 1 (by omega)) (by omega) hf2 (Nat.mod_lt _ hcl) (lc_WS (hb 0 (by omega)) (by omega) hf2 (Nat.div_lt_of_lt_mul (hq hm)) (mo0_WS h hr)), hb 2 (by omega)⟩
  · rw [if_neg hm, if_neg hm]
    exact ⟨lc_WS (hb 0 (by omega)) (by omega) hf2 (Nat.mod_lt _ hcl) (mo0_WS h hr), hb 1 (by omega)⟩
set_option maxHeartbeats 1000000 in
theorem b_oo108 {n0 s0 : Nat} (hM : tw0 + 17 ≤ fc_nx M) {f nC ps r m q : Nat} (hB0 : BI w f nC) (hr : r < 3) (hf2 : 2 ≤ f) (hf8 : f ≤ 8) (hq : q < 10000) (hqm : m = 2 → q < f * (f - 1) * (f * (f - 1))) (hps : T 0 30 = nI ps) (hpl : ps < 80) {v : Nat → Int32} (hv : v = moW f nC m q r w) {v1 v2 v3 v4 v5 : Option Value} : fc_X g l yX6_overOf cX6_overOf 6 (some .int) 13 n0 s0 (tv g M T v) 108 [some (.ref (fc_B g + tw0)), v1, v2, v3, v4, v5] [] (tv_i g M (fun r0 T2 w2 => SimE T T2 ∧ w2 = (moE T ps f nC m q r w).1 ∧ r0 = moQ T ps f nC m q r w)) := by
  refine x_aload_n dX6_overOf_108 rfl ?_
  refine x_sipush (v := nI 1000) dX6_overOf_109 (by decide) ?_
  obtain ⟨hW1, hb1⟩ := moW_WS (m := m) (q := q) hB0 hr hf2 hqm
  rw [← hv] at hW1
  refine v_V1i hM dX6_overOf_112 kG_X6_X6_ends kP_X6_ends rfl (by omega) (by decide) (Nat.le_of_ble_eq_true rfl) (c_ends (wi := 1000) (T := T) (w := v) hM hb1 hpl hps hW1 (by omega) rfl) (fun r1 T4 w1 q1 => ?_)
  obtain ⟨hS1, rfl, hnd, rfl⟩ := q1
  have hW2 := edW_WS (T := T) (wi := 1000) hb1 hpl 1001 0 _ hW1
  rw [show edW (sdW T ps (moN m) f r (nlW w r) nC) (moN m) 1000 (1000 + 1) 0 v = moE T ps f nC m q r w by rw [hv]; rfl] at *
  generalize hEE : moE T ps f nC m q r w = E at *
  refine x_ifB_eq (tgt := 126) dX6_overOf_115 (by decide) (fun hc115 => ?_) (fun hc115 => ?_)
  · refine x_ldcw dX6_overOf_126 q1586 ?_
    refine x_iret dX6_overOf_129 rfl rfl (tv_ip ⟨hS1, rfl, ?_⟩)
    rw [moQ, hEE, if_neg hc115]
  · refine x_aload_n dX6_overOf_118 rfl ?_
    refine x_icm1 dX6_overOf_119 ?_
    refine v_V1ie hM dX6_overOf_120 kG_X6_X6_overAll kP_X6_overAll rfl (by omega) (by decide) (Nat.le_of_ble_eq_true rfl) (c_overAll hM hb1.1 hW2.1.2.2.1) ?_
    refine x_goto (tgt := 129) dX6_overOf_123 (by decide) ?_
    refine x_iret dX6_overOf_129 rfl rfl (tv_ip ⟨hS1, rfl, ?_⟩)
    rw [moQ, hEE, if_pos hc115]
theorem kG_X6_X6_parks : GoodIn lw_all (wsV RX6 245 RX6 yX6_parks (ws_ yX6_parks cX6_parks 2 (none))) := lw_V q1389 q1391 qs75 q124 q1392
theorem kP_X6_parks : kPar yX6_parks 0 := by decide +kernel
theorem kG_X6_X6_laysCall : GoodIn lw_all (wsV RX6 374 RX6 yX6_laysCall (ws_ yX6_laysCall cX6_laysCall 5 (none))) := lw_V q1582 q1584 qs109 q124 q1585
theorem kP_X6_laysCall : kPar yX6_laysCall 1 := by decide +kernel
set_option maxHeartbeats 1000000 in
theorem b_oo85 {n0 s0 : Nat} (hM : tw0 + 17 ≤ fc_nx M) {f nC ps r m q : Nat} (hm3 : m < 3) (hB : BI w f nC) (hr : r < 3) (hf2 : 2 ≤ f) (hf8 : f ≤ 8) (hq : q < 10000) (hqm : m = 2 → q < f * (f - 1) * (f * (f - 1))) (hps : T 0 30 = nI ps) (hpl : ps < 80) {v5 : Option Value} : fc_X g l yX6_overOf cX6_overOf 6 (some .int) 13 n0 s0 (tv g M T (oo2 321 420 (oo1 nC (nC + 1) 0 (up (up (up w 2 (nI 0)) 3 (nI 0)) 4 (nI r))))) 85 [some (.ref (fc_B g + tw0)), some (.int (nI q)), some (.int (nI (f * (f - 1)))), some (.int (nI m)), some (.int (nI r)), v5] [] (tv_i g M (fun r0 T2 w2 => SimE T T2 ∧ w2 = (moE T ps f nC m q r w).1 ∧ r0 = moQ T ps f nC m q r w)) := by
  have hC := hB.1.2
  have hcl : 0 < f * (f - 1) := Nat.mul_pos (by omega) (by omega)
  have hcl2 : f * (f - 1) ≤ 56 := Nat.le_trans (Nat.mul_le_mul hf8 (show f - 1 ≤ 7 by omega)) (by decide)
  generalize hcg : f * (f - 1) = cl at hcl hcl2 ⊢
  have hp1 : (oo2 321 420 (oo1 nC (nC + 1) 0 (up (up (up w 2 (nI 0)) 3 (nI 0)) 4 (nI r)))) 1 = nI nC := by rw [oo2_fr _ _ _ (by omega), oo1_fr (fun c hc => ⟨by omega, by omega⟩), up_n (by omega), up_n (by omega), up_n (by omega)]; exact hB.2.2.1
  have hWa := mo0_WS hB hr
  have hdv : q / cl ≤ q := Nat.div_le_self _ _
  have hmv : q % cl < cl := Nat.mod_lt _ hcl
  refine x_aload_n dX6_overOf_85 rfl ?_
  refine v_V0ve hM dX6_overOf_86 kG_X6_X6_parks kP_X6_parks rfl (by omega) (by decide) (Nat.le_of_ble_eq_true rfl) (c_parks hM hB.1.2 hp1) ?_
  refine x_eqM (congrArg (fun z => tv g M T z) (show pkW nC (nC + 1) 0 (oo2 321 420 (oo1 nC (nC + 1) 0 (up (up (up w 2 (nI 0)) 3 (nI 0)) 4 (nI r)))) = mo0 nC (nI r) w from rfl)) ?_
  refine x_iload_n dX6_overOf_89 rfl ?_
  refine x_ic2 dX6_overOf_90 ?_
  refine x_icmpN_ne (tgt := 101) dX6_overOf_91 (by decide) (by omega) (by omega) (fun hc91 => ?_) (fun hc91 => ?_)
  · refine x_aload_n dX6_overOf_101 rfl ?_
    refine x_iload_n dX6_overOf_102 rfl ?_
    refine x_iload_n dX6_overOf_103 rfl ?_
    refine x_iremN dX6_overOf_104 (by omega) (by omega) (by omega) ?_
    refine v_V1ve hM dX6_overOf_105 kG_X6_X6_laysCall kP_X6_laysCall rfl (by omega) (by decide) (Nat.le_of_ble_eq_true rfl) (c_laysCall (n := 0) hM (by omega) hWa.1.2.2.1 hWa.1.1 hf2 hB.1.1 (by omega) rfl) ?_
    subst hcg
    exact b_oo108 hM hB hr hf2 hf8 hq hqm hps hpl (by rw [moW, if_neg hc91])
  · refine x_aload_n dX6_overOf_94 rfl ?_
    refine x_iload_n dX6_overOf_95 rfl ?_
    refine x_iload_n dX6_overOf_96 rfl ?_
    refine x_idivN dX6_overOf_97 (by omega) (by omega) (by omega) ?_
    refine v_V1ve hM dX6_overOf_98 kG_X6_X6_laysCall kP_X6_laysCall rfl (by omega) (by decide) (Nat.le_of_ble_eq_true rfl) (c_laysCall (n := 0) hM (by omega) hWa.1.2.2.1 hWa.1.1 hf2 hB.1.1 (by omega) rfl) ?_
    have hWb := lc_WS (q := q / cl) ⟨by omega, hB.1.1, hr, hB.1.2⟩ (by omega) hf2 (by rw [hcg]; exact Nat.div_lt_of_lt_mul (by have := hqm hc91; rw [hcg] at this; exact this)) hWa
    refine x_aload_n dX6_overOf_101 rfl ?_
    refine x_iload_n dX6_overOf_102 rfl ?_
    refine x_iload_n dX6_overOf_103 rfl ?_
    refine x_iremN dX6_overOf_104 (by omega) (by omega) (by omega) ?_
    refine v_V1ve hM dX6_overOf_105 kG_X6_X6_laysCall kP_X6_laysCall rfl (by omega) (by decide) (Nat.le_of_ble_eq_true rfl) (c_laysCall (n := 1) hM (by omega) hWb.1.2.2.1 hWb.1.1 hf2 hB.1.1 (by omega) rfl) ?_
    subst hcg
    exact b_oo108 hM hB hr hf2 hf8 hq hqm hps hpl (by rw [moW, if_pos hc91])
set_option maxHeartbeats 1000000 in
theorem b_oo58 {n0 s0 : Nat} (hM : tw0 + 17 ≤ fc_nx M) {f nC ps r m q : Nat} (hm3 : m < 3) (hB : BI w f nC) (hr : r < 3) (hf2 : 2 ≤ f) (hf8 : f ≤ 8) (hq : q < 10000) (hqm : m = 2 → q < f * (f - 1) * (f * (f - 1))) (hps : T 0 30 = nI ps) (hpl : ps < 80) {v5 : Option Value} : fc_X g l yX6_overOf cX6_overOf 6 (some .int) 13 n0 s0 (tv g M T (oo1 nC (nC + 1) 0 (up (up (up w 2 (nI 0)) 3 (nI 0)) 4 (nI r)))) 58 [some (.ref (fc_B g + tw0)), some (.int (nI q)), some (.int (nI (f * (f - 1)))), some (.int (nI m)), some (.int (nI r)), v5] [] (tv_i g M (fun r0 T2 w2 => SimE T T2 ∧ w2 = (moE T ps f nC m q r w).1 ∧ r0 = moQ T ps f nC m q r w)) := by
  refine x_sipush (v := nI 420) dX6_overOf_58 (by decide) ?_
  refine x_istore dX6_overOf_61 (by decide) rfl ?_
  exact l_oo2 hM (b_oo85 hM hm3 hB hr hf2 hf8 hq hqm hps hpl) 321 420 _ (by omega) (by omega) rfl
set_option maxHeartbeats 1000000 in
theorem c_overOf (hM : tw0 + 17 ≤ fc_nx M) {f nC ps r m q : Nat} (hm3 : m < 3) (hB : BI w f nC) (hr : r < 3) (hf2 : 2 ≤ f) (hf8 : f ≤ 8) (hq : q < 10000) (hqm : m = 2 → q < f * (f - 1) * (f * (f - 1))) (hps : T 0 30 = nI ps) (hpl : ps < 80) {x1 x2 x3 x4 : Int32} (e1 : x1 = nI q) (e2 : x2 = nI (f * (f - 1))) (e3 : x3 = nI m) (e4 : x4 = nI r) : fc_CX g l yX6_overOf cX6_overOf 6 (some .int) 13 [.ref (fc_B g + tw0), .int x1, .int x2, .int x3, .int x4] (tv g M T w) (tv_i g M (fun r0 T2 w2 => SimE T T2 ∧ w2 = (moE T ps f nC m q r w).1 ∧ r0 = moQ T ps f nC m q r w)) := by
  refine fc_enter (by decide) (Nat.le_of_ble_eq_true rfl) rfl ?_
  subst e1
  subst e2
  subst e3
  subst e4
  refine x_aload_n dX6_overOf_0 rfl ?_
  refine v_geta 0 hM dX6_overOf_1 (by decide) rfl q1130 ?_
  refine x_ic2 dX6_overOf_4 ?_
  refine x_ic0 dX6_overOf_5 ?_
  refine v_wst hM dX6_overOf_6 rfl (by omega) ?_
  refine x_aload_n dX6_overOf_7 rfl ?_
  refine v_geta 0 hM dX6_overOf_8 (by decide) rfl q1130 ?_
  refine x_ic3 dX6_overOf_11 ?_
  refine x_ic0 dX6_overOf_12 ?_
  refine v_wst hM dX6_overOf_13 rfl (by omega) ?_
  refine x_aload_n dX6_overOf_14 rfl ?_
  refine v_geta 0 hM dX6_overOf_15 (by decide) rfl q1130 ?_
  refine x_ic4 dX6_overOf_18 ?_
  refine x_iload dX6_overOf_19 rfl ?_
  refine v_wst hM dX6_overOf_21 rfl (by omega) ?_
  refine x_ic0 dX6_overOf_22 ?_
  refine x_istore dX6_overOf_23 (by decide) rfl ?_
  exact l_oo1 hM hB.1.2 (b_oo58 hM hm3 hB hr hf2 hf8 hq hqm hps hpl) (nC + 1) 0 _ (by rw [up_n (by omega), up_n (by omega), up_n (by omega)]; exact hB.2.2.1) (by omega) (by omega) rfl
end T57
