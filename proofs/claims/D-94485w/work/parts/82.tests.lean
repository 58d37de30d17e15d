set_option maxRecDepth 100000
section T82
variable {g : fc_G} {l : Launch} {M : fc_M} {T : tT} {w : Nat → Int32} {E : tEn}
theorem rO.lez {T0 T1 : tT} {q0 q1 : tTk} {n dep j : Nat} {ps : tLs} (h : rO E T0 q0 n dep j (q1, ps) T1) : rO E T0 q0 n dep 0 (q1, ps) T1 := h.ge (Nat.zero_le j)
set_option maxHeartbeats 1000000 in
theorem c_need (hM : tw0 + 17 ≤ fc_nx M) {T0 : tT} {q0 q : tTk} {n dep j : Nat} {ps : tLs} (h : rO E T0 q0 n dep j (q, ps) T) {c : Int32} (hc0 : c ≠ nI 0) : fc_CX g l yX6_need cX6_need 2 (some .boolean) 9 [.ref (fc_B g + tw0), .int c] (tv g M T w) (tv_p g M w (fun r T2 => (¬ q.2.2.1 = c ∧ r = nI 0 ∧ rE T0 (nI 1, q.1) T2) ∨ (q.2.2.1 = c ∧ r = nI 1 ∧ rO E T0 q0 n dep (j + 1) (nxt E q, ps) T2))) := by
  refine fc_enter (by decide) (Nat.le_of_ble_eq_true rfl) rfl ?_
  refine x_aload_n dX6_need_0 rfl ?_
  refine v_geti 18 hM dX6_need_1 (by decide) rfl q1148 ?_
  refine x_top h.tok ?_
  refine x_iload_n dX6_need_4 rfl ?_
  refine x_icmp_eq (tgt := 14) dX6_need_5 (by decide) (fun hc5 => ?_) (fun hc5 => ?_)
  · refine x_aload_n dX6_need_14 rfl ?_
    have b1 := nxt_lt h.tk (by rw [hc5]; exact hc0)
    refine y_V0q hM dX6_need_15 kG_X6_X6_next0 kP_X6_next0 rfl (by omega) (by decide) (Nat.le_of_ble_eq_true rfl) (c_nextO hM h (by rw [hc5]; exact hc0)) (fun T1 h1 => ?_)
    refine x_ic1 dX6_need_18 ?_
    exact x_iret dX6_need_19 rfl (by rfl) (tv_pe (Or.inr ⟨hc5, rfl, h1⟩))
  · refine x_aload_n dX6_need_8 rfl ?_
    refine x_ic1 dX6_need_9 ?_
    refine y_V1p hM dX6_need_10 kG_X6_X6_bad kP_X6_bad rfl (by omega) (by decide) (Nat.le_of_ble_eq_true rfl) (c_badO hM h) (fun r1 T1 hp1 => ?_)
    obtain ⟨hr1, hE1⟩ := hp1
    subst hr1
    exact x_iret dX6_need_13 rfl (by rfl) (tv_pe (Or.inl ⟨hc5, rfl, hE1⟩))
set_option maxHeartbeats 1000000 in
theorem c_opens (hM : tw0 + 17 ≤ fc_nx M) {q : tTk} {n dep : Nat} (h : rI E T q n dep) (hd : dep ≤ 8) (hc : q.2.2.1 ≠ nI 0) : fc_CX g l yX6_opens cX6_opens 1 (some .boolean) 9 [.ref (fc_B g + tw0)] (tv g M T w) (tv_p g M w (fun r T2 => (dep = 8 ∧ r = nI 0 ∧ rE T (nI 3, q.1) T2) ∨ (¬ dep = 8 ∧ r = nI 1 ∧ rO E T q n (dep + 1) 1 (nxt E q, []) T2))) := by
  refine fc_enter (by decide) (Nat.le_of_ble_eq_true rfl) rfl ?_
  refine x_aload_n dX6_opens_0 rfl ?_
  refine v_geti 24 hM dX6_opens_1 (by decide) rfl q1154 ?_
  refine x_top h.dpt ?_
  refine x_bipush (v := nI 8) dX6_opens_4 (by decide) ?_
  refine x_icmpN_ne (tgt := 15) dX6_opens_6 (by decide) (by omega) (by omega) (fun hc6 => ?_) (fun hc6 => ?_)
  · refine x_aload_n dX6_opens_15 rfl ?_
    refine x_dup dX6_opens_16 rfl ?_
    refine v_geti 24 hM dX6_opens_17 (by decide) rfl q1154 ?_
    refine x_top h.dpt ?_
    refine x_ic1 dX6_opens_20 ?_
    refine x_iaddN dX6_opens_21 ?_
    refine v_puti 24 hM dX6_opens_22 (by decide) rfl q1154 rfl rfl rfl ?_
    have h1 := h.upd (d2 := dep + 1)
    refine x_aload_n dX6_opens_25 rfl ?_
    have b2 := nxt_lt h1.tk (hc)
    refine y_V0q hM dX6_opens_26 kG_X6_X6_next0 kP_X6_next0 rfl (by omega) (by decide) (Nat.le_of_ble_eq_true rfl) (c_nextO hM h1 (hc)) (fun T2 h2 => ?_)
    refine x_ic1 dX6_opens_29 ?_
    exact x_iret dX6_opens_30 rfl (by rfl) (tv_pe (Or.inr ⟨hc6, rfl, h2⟩))
  · refine x_aload_n dX6_opens_9 rfl ?_
    refine x_ic3 dX6_opens_10 ?_
    refine y_V1p hM dX6_opens_11 kG_X6_X6_bad kP_X6_bad rfl (by omega) (by decide) (Nat.le_of_ble_eq_true rfl) (c_badO hM h) (fun r1 T1 hp1 => ?_)
    obtain ⟨hr1, hE1⟩ := hp1
    subst hr1
    exact x_iret dX6_opens_14 rfl (by rfl) (tv_pe (Or.inl ⟨hc6, rfl, hE1⟩))
theorem kG_X6_X6_oneTest : GoodIn lw_all (wsV RX6 190 RX6 yX6_oneTest (ws_ yX6_oneTest cX6_oneTest 2 (some .boolean))) := lw_V q1345 q1347 qs64 q124 q1348
theorem kP_X6_oneTest : kPar yX6_oneTest 0 := by decide +kernel
set_option maxHeartbeats 1000000 in
theorem l_every {n0 s0 : Nat} (hM : tw0 + 17 ≤ fc_nx M) {f : tTk → tRs} {d1 : Nat} {q0 : tTk} {n dep : Nat} (hd1 : 12 ≤ d1) (hf : ∀ (T : tT) (q : tTk) (n : Nat), rI E T q n dep → fc_CX g l yX6_oneTest cX6_oneTest 2 (some .boolean) d1 [.ref (fc_B g + tw0)] (tv g M T w) (tv_p g M w (rP E T q n dep (f q)))) : ∀ (k : Nat) (T1 : tT) (q : tTk) (ps : tLs), rO E T q0 n dep 0 (q, ps) T1 → E.2.2 < q.1 + k → fc_X g l yX6_every cX6_every 1 (some .boolean) (d1 + 1) n0 s0 (tv g M T1 w) 9 [some (.ref (fc_B g + tw0))] [] (tv_p g M w (rP E T q0 n dep (chL E f (nI 5) (nI 21) k q ps))) := by
  intro k
  induction k with
  | zero => intro T1 q ps h hk; have h8 := h.le; omega
  | succ k ih =>
    intro T1 q ps h hk
    refine x_aload_n dX6_every_9 rfl ?_
    refine v_geti 18 hM dX6_every_10 (by decide) rfl q1148 ?_
    refine x_top h.tok ?_
    refine x_ic5 dX6_every_13 ?_
    refine x_icmp_ne (tgt := 40) dX6_every_14 (by decide) (fun hc14 => ?_) (fun hc14 => ?_)
    · refine x_ic1 dX6_every_40 ?_
      exact x_iret dX6_every_41 rfl (by rfl) (tv_pe (rP_k (by rw [chL, if_neg hc14]) h))
    · refine x_aload_n dX6_every_17 rfl ?_
      have b2 := nxt_lt h.tk (by rw [hc14]; decide)
      refine y_V0q hM dX6_every_18 kG_X6_X6_next0 kP_X6_next0 rfl (by omega) (by decide) (Nat.le_of_ble_eq_true rfl) (c_nextO hM h (by rw [hc14]; decide)) (fun T2 h2 => ?_)
      refine x_aload_n dX6_every_21 rfl ?_
      refine y_V0p hM dX6_every_22 kG_X6_X6_oneTest kP_X6_oneTest rfl (by omega) (by decide) (Nat.le_of_ble_eq_true rfl) (hf _ _ _ h2.self) (fun r3 T3 hp3 => ?_)
      rcases rP_or hp3 with ⟨e3, hR3, hr3, hE3⟩ | ⟨q3, ps3, hR3, hr3, hO3⟩
      · subst hr3
        refine x_ifN_ne (tgt := 30) dX6_every_25 (by decide) (by decide) (fun hc25 => absurd hc25 (by decide)) (fun _ => ?_)
        refine x_ic0 dX6_every_28 ?_
        exact x_iret dX6_every_29 rfl (by rfl) (tv_pe (rP_e (by rw [chL, if_pos hc14]; exact bindR_e hR3) (rE.comp h2.1 hE3)))
      · subst hr3
        have b3 := hO3.bd
        have h3 := h2.comp hO3
        refine x_ifN_ne (tgt := 30) dX6_every_25 (by decide) (by decide) (fun _ => ?_) (fun hc25 => absurd hc25 (by decide))
        refine x_aload_n dX6_every_30 rfl ?_
        refine x_bipush (v := nI 21) dX6_every_31 (by decide) ?_
        refine x_ic0 dX6_every_33 ?_
        refine y_V2q hM dX6_every_34 kG_X6_X6_lay kP_X6_lay rfl (by omega) (by decide) (Nat.le_of_ble_eq_true rfl) (c_layO hM h3) (fun T4 h4 => ?_)
        refine x_goto (tgt := 9) dX6_every_37 (by decide) ?_
        rw [chL, if_pos hc14, bindR_k hR3]
        exact ih _ q3 _ h4 (by omega)
set_option maxHeartbeats 1000000 in
theorem c_every (hM : tw0 + 17 ≤ fc_nx M) {f : tTk → tRs} {d1 : Nat} {n dep : Nat} (hd1 : 12 ≤ d1) (hf : ∀ (T : tT) (q : tTk) (n : Nat), rI E T q n dep → fc_CX g l yX6_oneTest cX6_oneTest 2 (some .boolean) d1 [.ref (fc_B g + tw0)] (tv g M T w) (tv_p g M w (rP E T q n dep (f q)))) {q : tTk} (h : rI E T q n dep) : fc_CX g l yX6_every cX6_every 1 (some .boolean) (d1 + 1) [.ref (fc_B g + tw0)] (tv g M T w) (tv_p g M w (rP E T q n dep (chF E f (nI 5) (nI 21) q))) := by
  refine fc_enter (by decide) (Nat.le_of_ble_eq_true rfl) rfl ?_
  refine x_aload_n dX6_every_0 rfl ?_
  refine y_V0p hM dX6_every_1 kG_X6_X6_oneTest kP_X6_oneTest rfl (by omega) (by decide) (Nat.le_of_ble_eq_true rfl) (hf _ _ _ h) (fun r1 T1 hp1 => ?_)
  rcases rP_or hp1 with ⟨e1, hR1, hr1, hE1⟩ | ⟨q1, ps1, hR1, hr1, hO1⟩
  · subst hr1
    refine x_ifN_ne (tgt := 9) dX6_every_4 (by decide) (by decide) (fun hc4 => absurd hc4 (by decide)) (fun _ => ?_)
    refine x_ic0 dX6_every_7 ?_
    exact x_iret dX6_every_8 rfl (by rfl) (tv_pe (rP_e (bindR_e hR1) hE1))
  · subst hr1
    have b1 := hO1.bd
    refine x_ifN_ne (tgt := 9) dX6_every_4 (by decide) (by decide) (fun _ => ?_) (fun hc4 => absurd hc4 (by decide))
    have h8 := hO1.le
    rw [show chF E f (nI 5) (nI 21) q = chL E f (nI 5) (nI 21) 401 q1 ps1 from bindR_k hR1]
    exact l_every hM hd1 hf 401 _ _ _ hO1 (by omega)
theorem kG_X6_X6_every : GoodIn lw_all (wsV RX6 187 RX6 yX6_every (ws_ yX6_every cX6_every 1 (some .boolean))) := lw_V q1341 q1343 qs63 q124 q1344
theorem kP_X6_every : kPar yX6_every 0 := by decide +kernel
set_option maxHeartbeats 1000000 in
theorem l_any {n0 s0 : Nat} (hM : tw0 + 17 ≤ fc_nx M) {f : tTk → tRs} {d1 : Nat} {q0 : tTk} {n dep : Nat} (hd1 : 12 ≤ d1) (hf : ∀ (T : tT) (q : tTk) (n : Nat), rI E T q n dep → fc_CX g l yX6_every cX6_every 1 (some .boolean) d1 [.ref (fc_B g + tw0)] (tv g M T w) (tv_p g M w (rP E T q n dep (f q)))) : ∀ (k : Nat) (T1 : tT) (q : tTk) (ps : tLs), rO E T q0 n dep 0 (q, ps) T1 → E.2.2 < q.1 + k → fc_X g l yX6_any cX6_any 1 (some .boolean) (d1 + 1) n0 s0 (tv g M T1 w) 9 [some (.ref (fc_B g + tw0))] [] (tv_p g M w (rP E T q0 n dep (chL E f (nI 4) (nI 22) k q ps))) := by
  intro k
  induction k with
  | zero => intro T1 q ps h hk; have h8 := h.le; omega
  | succ k ih =>
    intro T1 q ps h hk
    refine x_aload_n dX6_any_9 rfl ?_
    refine v_geti 18 hM dX6_any_10 (by decide) rfl q1148 ?_
    refine x_top h.tok ?_
    refine x_ic4 dX6_any_13 ?_
    refine x_icmp_ne (tgt := 40) dX6_any_14 (by decide) (fun hc14 => ?_) (fun hc14 => ?_)
    · refine x_ic1 dX6_any_40 ?_
      exact x_iret dX6_any_41 rfl (by rfl) (tv_pe (rP_k (by rw [chL, if_neg hc14]) h))
    · refine x_aload_n dX6_any_17 rfl ?_
      have b2 := nxt_lt h.tk (by rw [hc14]; decide)
      refine y_V0q hM dX6_any_18 kG_X6_X6_next0 kP_X6_next0 rfl (by omega) (by decide) (Nat.le_of_ble_eq_true rfl) (c_nextO hM h (by rw [hc14]; decide)) (fun T2 h2 => ?_)
      refine x_aload_n dX6_any_21 rfl ?_
      refine y_V0p hM dX6_any_22 kG_X6_X6_every kP_X6_every rfl (by omega) (by decide) (Nat.le_of_ble_eq_true rfl) (hf _ _ _ h2.self) (fun r3 T3 hp3 => ?_)
      rcases rP_or hp3 with ⟨e3, hR3, hr3, hE3⟩ | ⟨q3, ps3, hR3, hr3, hO3⟩
      · subst hr3
        refine x_ifN_ne (tgt := 30) dX6_any_25 (by decide) (by decide) (fun hc25 => absurd hc25 (by decide)) (fun _ => ?_)
        refine x_ic0 dX6_any_28 ?_
        exact x_iret dX6_any_29 rfl (by rfl) (tv_pe (rP_e (by rw [chL, if_pos hc14]; exact bindR_e hR3) (rE.comp h2.1 hE3)))
      · subst hr3
        have b3 := hO3.bd
        have h3 := h2.comp hO3
        refine x_ifN_ne (tgt := 30) dX6_any_25 (by decide) (by decide) (fun _ => ?_) (fun hc25 => absurd hc25 (by decide))
        refine x_aload_n dX6_any_30 rfl ?_
        refine x_bipush (v := nI 22) dX6_any_31 (by decide) ?_
        refine x_ic0 dX6_any_33 ?_
        refine y_V2q hM dX6_any_34 kG_X6_X6_lay kP_X6_lay rfl (by omega) (by decide) (Nat.le_of_ble_eq_true rfl) (c_layO hM h3) (fun T4 h4 => ?_)
        refine x_goto (tgt := 9) dX6_any_37 (by decide) ?_
        rw [chL, if_pos hc14, bindR_k hR3]
        exact ih _ q3 _ h4 (by omega)
set_option maxHeartbeats 1000000 in
theorem c_any (hM : tw0 + 17 ≤ fc_nx M) {f : tTk → tRs} {d1 : Nat} {n dep : Nat} (hd1 : 12 ≤ d1) (hf : ∀ (T : tT) (q : tTk) (n : Nat), rI E T q n dep → fc_CX g l yX6_every cX6_every 1 (some .boolean) d1 [.ref (fc_B g + tw0)] (tv g M T w) (tv_p g M w (rP E T q n dep (f q)))) {q : tTk} (h : rI E T q n dep) : fc_CX g l yX6_any cX6_any 1 (some .boolean) (d1 + 1) [.ref (fc_B g + tw0)] (tv g M T w) (tv_p g M w (rP E T q n dep (chF E f (nI 4) (nI 22) q))) := by
  refine fc_enter (by decide) (Nat.le_of_ble_eq_true rfl) rfl ?_
  refine x_aload_n dX6_any_0 rfl ?_
  refine y_V0p hM dX6_any_1 kG_X6_X6_every kP_X6_every rfl (by omega) (by decide) (Nat.le_of_ble_eq_true rfl) (hf _ _ _ h) (fun r1 T1 hp1 => ?_)
  rcases rP_or hp1 with ⟨e1, hR1, hr1, hE1⟩ | ⟨q1, ps1, hR1, hr1, hO1⟩
  · subst hr1
    refine x_ifN_ne (tgt := 9) dX6_any_4 (by decide) (by decide) (fun hc4 => absurd hc4 (by decide)) (fun _ => ?_)
    refine x_ic0 dX6_any_7 ?_
    exact x_iret dX6_any_8 rfl (by rfl) (tv_pe (rP_e (bindR_e hR1) hE1))
  · subst hr1
    have b1 := hO1.bd
    refine x_ifN_ne (tgt := 9) dX6_any_4 (by decide) (by decide) (fun _ => ?_) (fun hc4 => absurd hc4 (by decide))
    have h8 := hO1.le
    rw [show chF E f (nI 4) (nI 22) q = chL E f (nI 4) (nI 22) 401 q1 ps1 from bindR_k hR1]
    exact l_any hM hd1 hf 401 _ _ _ hO1 (by omega)
theorem kG_X6_X6_sumUp : GoodIn lw_all (wsV RX6 202 RX6 yX6_sumUp (ws_ yX6_sumUp cX6_sumUp 2 (some .boolean))) := lw_V q1321 q1323 qs58 q124 q1324
theorem kP_X6_sumUp : kPar yX6_sumUp 0 := by decide +kernel
theorem kG_X6_X6_opens : GoodIn lw_all (wsV RX6 193 RX6 yX6_opens (ws_ yX6_opens cX6_opens 1 (some .boolean))) := lw_V q1349 q1351 qs65 q124 q1352
theorem kP_X6_opens : kPar yX6_opens 0 := by decide +kernel
theorem kG_X6_X6_any : GoodIn lw_all (wsV RX6 196 RX6 yX6_any (ws_ yX6_any cX6_any 1 (some .boolean))) := lw_V q1337 q1339 qs62 q124 q1340
theorem kP_X6_any : kPar yX6_any 0 := by decide +kernel
theorem kG_X6_X6_need : GoodIn lw_all (wsV RX6 199 RX6 yX6_need (ws_ yX6_need cX6_need 2 (some .boolean))) := lw_V q1353 q1355 qs66 q124 q1356
theorem kP_X6_need : kPar yX6_need 1 := by decide +kernel
set_option maxHeartbeats 2000000 in
theorem c_oneTest (hM : tw0 + 17 ≤ fc_nx M) : ∀ (k dep : Nat) (T : tT) (q : tTk) (n : Nat), dep ≤ 8 → 8 < dep + k → rI E T q n dep → fc_CX g l yX6_oneTest cX6_oneTest 2 (some .boolean) (12 + 3 * k) [.ref (fc_B g + tw0)] (tv g M T w) (tv_p g M w (rP E T q n dep (pOne E k dep q))) := by
  intro k
  induction k with
  | zero => intro dep T q n h8 hk h; omega
  | succ k ih =>
    intro dep T q n h8 hk h
    refine fc_enter (by decide) (Nat.le_of_ble_eq_true rfl) rfl ?_
    refine x_aload_n dX6_oneTest_0 rfl ?_
    refine v_geti 18 hM dX6_oneTest_1 (by decide) rfl q1148 ?_
    refine x_top h.tok ?_
    refine x_bipush (v := nI 6) dX6_oneTest_4 (by decide) ?_
    refine x_icmp_ne (tgt := 44) dX6_oneTest_6 (by decide) (fun hc6 => ?_) (fun hc6 => ?_)
    · refine x_aload_n dX6_oneTest_44 rfl ?_
      refine v_geti 18 hM dX6_oneTest_45 (by decide) rfl q1148 ?_
      refine x_top h.tok ?_
      refine x_sipush (v := nI 140) dX6_oneTest_48 (by decide) ?_
      refine x_icmp_ne (tgt := 92) dX6_oneTest_51 (by decide) (fun hc51 => ?_) (fun hc51 => ?_)
      · refine x_aload_n dX6_oneTest_92 rfl ?_
        refine y_V0p hM dX6_oneTest_93 kG_X6_X6_sumUp kP_X6_sumUp rfl (by omega) (by decide) (Nat.le_of_ble_eq_true rfl) (c_sumUp hM h) (fun r1 T1 hp1 => ?_)
        rcases rP_or hp1 with ⟨e1, hR1, hr1, hE1⟩ | ⟨q1, ps1, hR1, hr1, hO1⟩
        · subst hr1
          refine x_ifN_ne (tgt := 101) dX6_oneTest_96 (by decide) (by decide) (fun hc96 => absurd hc96 (by decide)) (fun _ => ?_)
          refine x_ic0 dX6_oneTest_99 ?_
          exact x_iret dX6_oneTest_100 rfl (by rfl) (tv_pe (rP_e (by rw [pOne, if_neg hc6, if_neg hc51]; exact bindR_e hR1) hE1))
        · subst hr1
          have b1 := hO1.bd
          refine x_ifN_ne (tgt := 101) dX6_oneTest_96 (by decide) (by decide) (fun _ => ?_) (fun hc96 => absurd hc96 (by decide))
          refine x_aload_n dX6_oneTest_101 rfl ?_
          refine v_geti 18 hM dX6_oneTest_102 (by decide) rfl q1148 ?_
          refine x_top hO1.tok ?_
          refine x_sipush (v := nI 160) dX6_oneTest_105 (by decide) ?_
          refine x_icmp_ne (tgt := 116) dX6_oneTest_108 (by decide) (fun hc108 => ?_) (fun hc108 => ?_)
          · refine x_aload_n dX6_oneTest_116 rfl ?_
            refine v_geti 18 hM dX6_oneTest_117 (by decide) rfl q1148 ?_
            refine x_top hO1.tok ?_
            refine x_sipush (v := nI 161) dX6_oneTest_120 (by decide) ?_
            refine x_icmp_ne (tgt := 131) dX6_oneTest_123 (by decide) (fun hc123 => ?_) (fun hc123 => ?_)
            · refine x_aload_n dX6_oneTest_131 rfl ?_
              refine v_geti 18 hM dX6_oneTest_132 (by decide) rfl q1148 ?_
              refine x_top hO1.tok ?_
              refine x_sipush (v := nI 162) dX6_oneTest_135 (by decide) ?_
              refine x_icmp_ne (tgt := 146) dX6_oneTest_138 (by decide) (fun hc138 => ?_) (fun hc138 => ?_)
              · refine x_icm1 dX6_oneTest_146 ?_
                refine x_istore_n dX6_oneTest_147 (by decide) rfl ?_
                refine x_iload_n dX6_oneTest_148 rfl ?_
                refine x_icm1 dX6_oneTest_149 ?_
                refine x_icmp_ne (tgt := 159) dX6_oneTest_150 (by decide) (fun hc150 => ?_) (fun hc150 => ?_)
                · exact absurd rfl hc150
                · refine x_aload_n dX6_oneTest_153 rfl ?_
                  refine x_ic1 dX6_oneTest_154 ?_
                  refine y_V1p hM dX6_oneTest_155 kG_X6_X6_bad kP_X6_bad rfl (by omega) (by decide) (Nat.le_of_ble_eq_true rfl) (c_badO hM hO1) (fun r2 T2 hp2 => ?_)
                  obtain ⟨hr2, hE2⟩ := hp2
                  subst hr2
                  exact x_iret dX6_oneTest_158 rfl (by rfl) (tv_pe (rP_e (by rw [pOne, if_neg hc6, if_neg hc51]; exact (bindR_k hR1).trans (if_pos (by rw [pHow, if_neg hc108, if_neg hc123, if_neg hc138]))) (hE2)))
              · refine x_bipush (v := nI 19) dX6_oneTest_141 (by decide) ?_
                refine x_goto (tgt := 147) dX6_oneTest_143 (by decide) ?_
                refine x_istore_n dX6_oneTest_147 (by decide) rfl ?_
                refine x_iload_n dX6_oneTest_148 rfl ?_
                refine x_icm1 dX6_oneTest_149 ?_
                refine x_icmp_ne (tgt := 159) dX6_oneTest_150 (by decide) (fun hc150 => ?_) (fun hc150 => ?_)
                · refine x_aload_n dX6_oneTest_159 rfl ?_
                  have b2 := nxt_lt hO1.tk (by rw [hc138]; decide)
                  refine y_V0q hM dX6_oneTest_160 kG_X6_X6_next0 kP_X6_next0 rfl (by omega) (by decide) (Nat.le_of_ble_eq_true rfl) (c_nextO hM hO1 (by rw [hc138]; decide)) (fun T2 h2 => ?_)
                  refine x_aload_n dX6_oneTest_163 rfl ?_
                  refine y_V0p hM dX6_oneTest_164 kG_X6_X6_sumUp kP_X6_sumUp rfl (by omega) (by decide) (Nat.le_of_ble_eq_true rfl) (c_sumUp hM h2.self) (fun r3 T3 hp3 => ?_)
                  rcases rP_or hp3 with ⟨e3, hR3, hr3, hE3⟩ | ⟨q3, ps3, hR3, hr3, hO3⟩
                  · subst hr3
                    refine x_ifN_ne (tgt := 172) dX6_oneTest_167 (by decide) (by decide) (fun hc167 => absurd hc167 (by decide)) (fun _ => ?_)
                    refine x_ic0 dX6_oneTest_170 ?_
                    exact x_iret dX6_oneTest_171 rfl (by rfl) (tv_pe (rP_e (by rw [pOne, if_neg hc6, if_neg hc51]; exact (bindR_k hR1).trans ((if_neg (by rw [pHow, if_neg hc108, if_neg hc123, if_pos hc138]; decide)).trans (bindR_e hR3))) (rE.comp h2.1 hE3)))
                  · subst hr3
                    have b3 := hO3.bd
                    have h3 := h2.comp hO3
                    refine x_ifN_ne (tgt := 172) dX6_oneTest_167 (by decide) (by decide) (fun _ => ?_) (fun hc167 => absurd hc167 (by decide))
                    refine x_aload_n dX6_oneTest_172 rfl ?_
                    refine x_iload_n dX6_oneTest_173 rfl ?_
                    refine x_ic0 dX6_oneTest_174 ?_
                    refine y_V2q hM dX6_oneTest_175 kG_X6_X6_lay kP_X6_lay rfl (by omega) (by decide) (Nat.le_of_ble_eq_true rfl) (c_layO hM h3) (fun T4 h4 => ?_)
                    refine x_ic1 dX6_oneTest_178 ?_
                    have hw : pHow q1.2.2.1 = nI 19 := by rw [pHow, if_neg hc108, if_neg hc123, if_pos hc138]
                    have e9 : pOne E (k + 1) dep q = .ok (q3, ps1 ++ ps3 ++ [(nI 19, nI 0)]) := by
                      rw [pOne, if_neg hc6, if_neg hc51, ← hw]
                      exact (bindR_k hR1).trans ((if_neg (by rw [pHow, if_neg hc108, if_neg hc123, if_pos hc138]; decide)).trans (bindR_k hR3))
                    exact x_iret dX6_oneTest_179 rfl (by rfl) (tv_pe (rP_k e9 h4))
                · exact absurd hc150 (by decide)
            · refine x_bipush (v := nI 18) dX6_oneTest_126 (by decide) ?_
              refine x_goto (tgt := 147) dX6_oneTest_128 (by decide) ?_
              refine x_istore_n dX6_oneTest_147 (by decide) rfl ?_
              refine x_iload_n dX6_oneTest_148 rfl ?_
              refine x_icm1 dX6_oneTest_149 ?_
              refine x_icmp_ne (tgt := 159) dX6_oneTest_150 (by decide) (fun hc150 => ?_) (fun hc150 => ?_)
              · refine x_aload_n dX6_oneTest_159 rfl ?_
                have b2 := nxt_lt hO1.tk (by rw [hc123]; decide)
                refine y_V0q hM dX6_oneTest_160 kG_X6_X6_next0 kP_X6_next0 rfl (by omega) (by decide) (Nat.le_of_ble_eq_true rfl) (c_nextO hM hO1 (by rw [hc123]; decide)) (fun T2 h2 => ?_)
                refine x_aload_n dX6_oneTest_163 rfl ?_
                refine y_V0p hM dX6_oneTest_164 kG_X6_X6_sumUp kP_X6_sumUp rfl (by omega) (by decide) (Nat.le_of_ble_eq_true rfl) (c_sumUp hM h2.self) (fun r3 T3 hp3 => ?_)
                rcases rP_or hp3 with ⟨e3, hR3, hr3, hE3⟩ | ⟨q3, ps3, hR3, hr3, hO3⟩
                · subst hr3
                  refine x_ifN_ne (tgt := 172) dX6_oneTest_167 (by decide) (by decide) (fun hc167 => absurd hc167 (by decide)) (fun _ => ?_)
                  refine x_ic0 dX6_oneTest_170 ?_
                  exact x_iret dX6_oneTest_171 rfl (by rfl) (tv_pe (rP_e (by rw [pOne, if_neg hc6, if_neg hc51]; exact (bindR_k hR1).trans ((if_neg (by rw [pHow, if_neg hc108, if_pos hc123]; decide)).trans (bindR_e hR3))) (rE.comp h2.1 hE3)))
                · subst hr3
                  have b3 := hO3.bd
                  have h3 := h2.comp hO3
                  refine x_ifN_ne (tgt := 172) dX6_oneTest_167 (by decide) (by decide) (fun _ => ?_) (fun hc167 => absurd hc167 (by decide))
                  refine x_aload_n dX6_oneTest_172 rfl ?_
                  refine x_iload_n dX6_oneTest_173 rfl ?_
                  refine x_ic0 dX6_oneTest_174 ?_
                  refine y_V2q hM dX6_oneTest_175 kG_X6_X6_lay kP_X6_lay rfl (by omega) (by decide) (Nat.le_of_ble_eq_true rfl) (c_layO hM h3) (fun T4 h4 => ?_)
                  refine x_ic1 dX6_oneTest_178 ?_
                  have hw : pHow q1.2.2.1 = nI 18 := by rw [pHow, if_neg hc108, if_pos hc123]
                  have e9 : pOne E (k + 1) dep q = .ok (q3, ps1 ++ ps3 ++ [(nI 18, nI 0)]) := by
                    rw [pOne, if_neg hc6, if_neg hc51, ← hw]
                    exact (bindR_k hR1).trans ((if_neg (by rw [pHow, if_neg hc108, if_pos hc123]; decide)).trans (bindR_k hR3))
                  exact x_iret dX6_oneTest_179 rfl (by rfl) (tv_pe (rP_k e9 h4))
              · exact absurd hc150 (by decide)
          · refine x_bipush (v := nI 17) dX6_oneTest_111 (by decide) ?_
            refine x_goto (tgt := 147) dX6_oneTest_113 (by decide) ?_
            refine x_istore_n dX6_oneTest_147 (by decide) rfl ?_
            refine x_iload_n dX6_oneTest_148 rfl ?_
            refine x_icm1 dX6_oneTest_149 ?_
            refine x_icmp_ne (tgt := 159) dX6_oneTest_150 (by decide) (fun hc150 => ?_) (fun hc150 => ?_)
            · refine x_aload_n dX6_oneTest_159 rfl ?_
              have b2 := nxt_lt hO1.tk (by rw [hc108]; decide)
              refine y_V0q hM dX6_oneTest_160 kG_X6_X6_next0 kP_X6_next0 rfl (by omega) (by decide) (Nat.le_of_ble_eq_true rfl) (c_nextO hM hO1 (by rw [hc108]; decide)) (fun T2 h2 => ?_)
              refine x_aload_n dX6_oneTest_163 rfl ?_
              refine y_V0p hM dX6_oneTest_164 kG_X6_X6_sumUp kP_X6_sumUp rfl (by omega) (by decide) (Nat.le_of_ble_eq_true rfl) (c_sumUp hM h2.self) (fun r3 T3 hp3 => ?_)
              rcases rP_or hp3 with ⟨e3, hR3, hr3, hE3⟩ | ⟨q3, ps3, hR3, hr3, hO3⟩
              · subst hr3
                refine x_ifN_ne (tgt := 172) dX6_oneTest_167 (by decide) (by decide) (fun hc167 => absurd hc167 (by decide)) (fun _ => ?_)
                refine x_ic0 dX6_oneTest_170 ?_
                exact x_iret dX6_oneTest_171 rfl (by rfl) (tv_pe (rP_e (by rw [pOne, if_neg hc6, if_neg hc51]; exact (bindR_k hR1).trans ((if_neg (by rw [pHow, if_pos hc108]; decide)).trans (bindR_e hR3))) (rE.comp h2.1 hE3)))
              · subst hr3
                have b3 := hO3.bd
                have h3 := h2.comp hO3
                refine x_ifN_ne (tgt := 172) dX6_oneTest_167 (by decide) (by decide) (fun _ => ?_) (fun hc167 => absurd hc167 (by decide))
                refine x_aload_n dX6_oneTest_172 rfl ?_
                refine x_iload_n dX6_oneTest_173 rfl ?_
                refine x_ic0 dX6_oneTest_174 ?_
                refine y_V2q hM dX6_oneTest_175 kG_X6_X6_lay kP_X6_lay rfl (by omega) (by decide) (Nat.le_of_ble_eq_true rfl) (c_layO hM h3) (fun T4 h4 => ?_)
                refine x_ic1 dX6_oneTest_178 ?_
                have hw : pHow q1.2.2.1 = nI 17 := by rw [pHow, if_pos hc108]
                have e9 : pOne E (k + 1) dep q = .ok (q3, ps1 ++ ps3 ++ [(nI 17, nI 0)]) := by
                  rw [pOne, if_neg hc6, if_neg hc51, ← hw]
                  exact (bindR_k hR1).trans ((if_neg (by rw [pHow, if_pos hc108]; decide)).trans (bindR_k hR3))
                exact x_iret dX6_oneTest_179 rfl (by rfl) (tv_pe (rP_k e9 h4))
            · exact absurd hc150 (by decide)
      · refine x_aload_n dX6_oneTest_54 rfl ?_
        refine y_V0p hM dX6_oneTest_55 kG_X6_X6_opens kP_X6_opens rfl (by omega) (by decide) (Nat.le_of_ble_eq_true rfl) (c_opens hM h h8 (by rw [hc51]; decide)) (fun r1 T1 hp1 => ?_)
        rcases hp1 with ⟨hd8, hr1, hE1⟩ | ⟨hd8, hr1, h1⟩
        · subst hr1
          refine x_ifN_eq (tgt := 78) dX6_oneTest_58 (by decide) (by decide) (fun _ => ?_) (fun hc58 => absurd hc58 (by decide))
          refine x_ic0 dX6_oneTest_78 ?_
          exact x_iret dX6_oneTest_79 rfl (by rfl) (tv_pe (rP_e (by rw [pOne, if_neg hc6, if_pos hc51, if_pos hd8]) hE1))
        · subst hr1
          refine x_ifN_eq (tgt := 78) dX6_oneTest_58 (by decide) (by decide) (fun hc58 => absurd hc58 (by decide)) (fun _ => ?_)
          refine x_aload_n dX6_oneTest_61 rfl ?_
          refine y_V0p hM dX6_oneTest_62 kG_X6_X6_any kP_X6_any rfl (by omega) (by decide) (Nat.le_of_ble_eq_true rfl) (c_any (f := pEv E k (dep + 1)) hM (by omega) (fun T q n h => c_every (f := pOne E k (dep + 1)) hM (by omega) (fun T q n h => ih (dep + 1) T q n (by omega) (by omega) h) h) h1.self) (fun r2 T2 hp2 => ?_)
          rcases rP_or hp2 with ⟨e2, hR2, hr2, hE2⟩ | ⟨q2, ps2, hR2, hr2, hO2⟩
          · subst hr2
            refine x_ifN_eq (tgt := 78) dX6_oneTest_65 (by decide) (by decide) (fun _ => ?_) (fun hc65 => absurd hc65 (by decide))
            refine x_ic0 dX6_oneTest_78 ?_
            exact x_iret dX6_oneTest_79 rfl (by rfl) (tv_pe (rP_e (by rw [pOne, if_neg hc6, if_pos hc51, if_neg hd8]; exact bindR_e hR2) (rE.comp h1.1 hE2)))
          · subst hr2
            have b2 := hO2.bd
            have h2 := h1.comp hO2
            refine x_ifN_eq (tgt := 78) dX6_oneTest_65 (by decide) (by decide) (fun hc65 => absurd hc65 (by decide)) (fun _ => ?_)
            refine x_aload_n dX6_oneTest_68 rfl ?_
            refine x_sipush (v := nI 141) dX6_oneTest_69 (by decide) ?_
            refine y_V1p hM dX6_oneTest_72 kG_X6_X6_need kP_X6_need rfl (by omega) (by decide) (Nat.le_of_ble_eq_true rfl) (c_need hM h2 (by decide)) (fun r3 T3 hp3 => ?_)
            rcases hp3 with ⟨hR3, hr3, hE3⟩ | ⟨hR3, hr3, h3⟩
            · subst hr3
              refine x_ifN_ne (tgt := 80) dX6_oneTest_75 (by decide) (by decide) (fun hc75 => absurd hc75 (by decide)) (fun _ => ?_)
              refine x_ic0 dX6_oneTest_78 ?_
              exact x_iret dX6_oneTest_79 rfl (by rfl) (tv_pe (rP_e (by rw [pOne, if_neg hc6, if_pos hc51, if_neg hd8]; exact (bindR_k hR2).trans (if_neg hR3)) (hE3)))
            · subst hr3
              refine x_ifN_ne (tgt := 80) dX6_oneTest_75 (by decide) (by decide) (fun _ => ?_) (fun hc75 => absurd hc75 (by decide))
              refine x_aload_n dX6_oneTest_80 rfl ?_
              refine x_dup dX6_oneTest_81 rfl ?_
              refine v_geti 24 hM dX6_oneTest_82 (by decide) rfl q1154 ?_
              refine x_top h3.dpt ?_
              refine x_ic1 dX6_oneTest_85 ?_
              refine x_isubN dX6_oneTest_86 (by omega) ?_
              refine x_top (w := nI dep) rfl ?_
              refine v_puti 24 hM dX6_oneTest_87 (by decide) rfl q1154 rfl rfl rfl ?_
              have h4 := h3.dn
              refine x_ic1 dX6_oneTest_90 ?_
              exact x_iret dX6_oneTest_91 rfl (by rfl) (tv_pe (rP_k (by rw [pOne, if_neg hc6, if_pos hc51, if_neg hd8]; exact (bindR_k hR2).trans (if_pos hR3)) h4.lez))
    · refine x_aload_n dX6_oneTest_9 rfl ?_
      refine y_V0p hM dX6_oneTest_10 kG_X6_X6_opens kP_X6_opens rfl (by omega) (by decide) (Nat.le_of_ble_eq_true rfl) (c_opens hM h h8 (by rw [hc6]; decide)) (fun r1 T1 hp1 => ?_)
      rcases hp1 with ⟨hd8, hr1, hE1⟩ | ⟨hd8, hr1, h1⟩
      · subst hr1
        refine x_ifN_eq (tgt := 23) dX6_oneTest_13 (by decide) (by decide) (fun _ => ?_) (fun hc13 => absurd hc13 (by decide))
        refine x_ic0 dX6_oneTest_23 ?_
        exact x_iret dX6_oneTest_24 rfl (by rfl) (tv_pe (rP_e (by rw [pOne, if_pos hc6, if_pos hd8]) hE1))
      · subst hr1
        refine x_ifN_eq (tgt := 23) dX6_oneTest_13 (by decide) (by decide) (fun hc13 => absurd hc13 (by decide)) (fun _ => ?_)
        refine x_aload_n dX6_oneTest_16 rfl ?_
        refine y_V0p hM dX6_oneTest_17 kG_X6_X6_oneTest kP_X6_oneTest rfl (by omega) (by decide) (Nat.le_of_ble_eq_true rfl) (ih (dep + 1) _ _ _ (by omega) (by omega) h1.self) (fun r2 T2 hp2 => ?_)
        rcases rP_or hp2 with ⟨e2, hR2, hr2, hE2⟩ | ⟨q2, ps2, hR2, hr2, hO2⟩
        · subst hr2
          refine x_ifN_ne (tgt := 25) dX6_oneTest_20 (by decide) (by decide) (fun hc20 => absurd hc20 (by decide)) (fun _ => ?_)
          refine x_ic0 dX6_oneTest_23 ?_
          exact x_iret dX6_oneTest_24 rfl (by rfl) (tv_pe (rP_e (by rw [pOne, if_pos hc6, if_neg hd8]; exact bindR_e hR2) (rE.comp h1.1 hE2)))
        · subst hr2
          have b2 := hO2.bd
          have h2 := h1.comp hO2
          refine x_ifN_ne (tgt := 25) dX6_oneTest_20 (by decide) (by decide) (fun _ => ?_) (fun hc20 => absurd hc20 (by decide))
          refine x_aload_n dX6_oneTest_25 rfl ?_
          refine x_dup dX6_oneTest_26 rfl ?_
          refine v_geti 24 hM dX6_oneTest_27 (by decide) rfl q1154 ?_
          refine x_top h2.dpt ?_
          refine x_ic1 dX6_oneTest_30 ?_
          refine x_isubN dX6_oneTest_31 (by omega) ?_
          refine x_top (w := nI dep) rfl ?_
          refine v_puti 24 hM dX6_oneTest_32 (by decide) rfl q1154 rfl rfl rfl ?_
          have h3 := h2.dn
          refine x_aload_n dX6_oneTest_35 rfl ?_
          refine x_bipush (v := nI 20) dX6_oneTest_36 (by decide) ?_
          refine x_ic0 dX6_oneTest_38 ?_
          refine y_V2q hM dX6_oneTest_39 kG_X6_X6_lay kP_X6_lay rfl (by omega) (by decide) (Nat.le_of_ble_eq_true rfl) (c_layO hM h3) (fun T4 h4 => ?_)
          refine x_ic1 dX6_oneTest_42 ?_
          exact x_iret dX6_oneTest_43 rfl (by rfl) (tv_pe (rP_k (by rw [pOne, if_pos hc6, if_neg hd8]; exact bindR_k hR2) h4))
theorem c_anyT (hM : tw0 + 17 ≤ fc_nx M) {q : tTk} {n dep : Nat} (hd : dep ≤ 8) (h : rI E T q n dep) : fc_CX g l yX6_any cX6_any 1 (some .boolean) 41 [.ref (fc_B g + tw0)] (tv g M T w) (tv_p g M w (rP E T q n dep (pAn E 9 dep q))) :=
  c_any (f := pEv E 9 dep) hM (by omega) (fun T q n h => c_every (f := pOne E 9 dep) hM (by omega) (fun T q n h => c_oneTest hM 9 dep T q n hd (by omega) h) h) h
end T82
