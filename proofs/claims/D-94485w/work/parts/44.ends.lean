set_option maxRecDepth 100000
section T44
variable {g : fc_G} {l : Launch} {M : fc_M} {T : tT} {w : Nat → Int32}
def SimE (T T2 : tT) : Prop := ∀ a k, a ≠ 8 → a ≠ 9 → ¬ (a = 0 ∧ k = 26) → ¬ (a = 0 ∧ k = 31) → T2 a k = T a k
theorem Sim.e {T T2 : tT} (h : Sim T T2) : SimE T T2 := fun a k h1 h2 h3 _ => h a k h1 h2 h3
theorem SimE.rf {T : tT} : SimE T T := fun _ _ _ _ _ _ => rfl
theorem SimE.tr {T T2 T3 : tT} (h : SimE T T2) (h2 : SimE T2 T3) : SimE T T3 := fun a k h8 h9 h0 h1 => (h2 a k h8 h9 h0 h1).trans (h a k h8 h9 h0 h1)
theorem SimE.n {T T2 : tT} {v : Int32} (h : SimE T T2) : SimE T (tu T2 0 31 v) := fun a k h8 h9 h0 h1 => (if_neg (fun z => h1 z)).trans (h a k h8 h9 h0 h1)
theorem trO_simE {T T2 : tT} (h : SimE T T2) : trO T2 = trO T := by
  unfold trO
  rw [h 0 28 (by decide) (by decide) (by decide) (by decide), show T2 11 = T 11 from funext fun k => h 11 k (by decide) (by decide) (fun z => absurd z.1 (by decide)) (fun z => absurd z.1 (by decide))]
/-- a second, by what the rest of the memory says of it -/
def sdW (T : tT) (ps n f rr nl nC : Nat) (w : Nat → Int32) : Nat → Int32 := secW (trO T) (T 0 29) ps n f rr nl nC w
theorem sdW_simE {T T2 : tT} (h : SimE T T2) : sdW T2 = sdW T := by
  unfold sdW
  rw [trO_simE h, h 0 29 (by decide) (by decide) (by decide) (by decide)]
def edW (sd : (Nat → Int32) → (Nat → Int32)) (n wi : Nat) : Nat → Nat → (Nat → Int32) → (Nat → Int32) × Nat
  | 0, j, w => (w, j)
  | q + 1, j, w => if cnt (stp w 3) n < n then (if j < wi then edW sd n wi q (j + 1) (sd w) else (w, j)) else (w, j)
def itW (sd : (Nat → Int32) → (Nat → Int32)) : Nat → (Nat → Int32) → (Nat → Int32)
  | 0, w => w
  | m + 1, w => itW sd m (sd w)
theorem itW_WS {T : tT} {ps n f rr nl nC : Nat} (hb : Bd n f rr nC) (hps : ps < 80) : ∀ (m : Nat) (w : Nat → Int32), WS w n f rr nl nC → WS (itW (sdW T ps n f rr nl nC) m w) n f rr nl nC
  | 0, _, h => h
  | m + 1, w, h => itW_WS hb hps m _ (secW_WS hb hps h)
theorem edW_WS {T : tT} {ps n f rr nl nC wi : Nat} (hb : Bd n f rr nC) (hps : ps < 80) : ∀ (q j : Nat) (w : Nat → Int32), WS w n f rr nl nC → WS (edW (sdW T ps n f rr nl nC) n wi q j w).1 n f rr nl nC
  | 0, _, _, h => h
  | q + 1, j, w, h => by
    simp only [edW]
    split
    · split
      · exact edW_WS hb hps q _ _ (secW_WS hb hps h)
      · exact h
    · exact h
theorem nI_between {x : Int32} {a b : Nat} (hb : b < 2 ^ 31) (h : nI a ≤ x ∧ x ≤ nI b) (ha : a < 2 ^ 31) : ∃ m, a ≤ m ∧ m ≤ b ∧ x = nI m := by
  obtain ⟨h1, h2⟩ := h
  rw [Int32.le_iff_toInt_le, nI_toInt ha] at h1
  rw [Int32.le_iff_toInt_le, nI_toInt hb] at h2
  obtain ⟨m, h3, rfl⟩ := nI_of (x := x) (by intro q; have h3 : x.toInt < (0 : Int32).toInt := Int32.lt_iff_toInt_lt.mp q; have h4 : (0 : Int32).toInt = 0 := rfl; omega)
  rw [nI_toInt h3] at h1 h2
  exact ⟨m, by omega, by omega, rfl⟩
theorem kG_X6_X6_there : GoodIn lw_all (wsV RX6 335 RX6 yX6_there (ws_ yX6_there cX6_there 3 (some .int))) := lw_V q1472 q1474 qs89 q124 q1475
theorem kP_X6_there : kPar yX6_there 0 := by decide +kernel
theorem kG_X6_X6_aSecond : GoodIn lw_all (wsV RX6 338 RX6 yX6_aSecond (ws_ yX6_aSecond cX6_aSecond 2 (none))) := lw_V q1476 q1478 qs90 q124 q1479
theorem kP_X6_aSecond : kPar yX6_aSecond 0 := by decide +kernel
set_option maxHeartbeats 1000000 in
theorem l_ends {n0 s0 : Nat} (hM : tw0 + 17 ≤ fc_nx M) {n f rr nl nC ps : Nat} (hb : Bd n f rr nC) (hpl : ps < 80) {T0 : tT} (hps : T0 0 30 = nI ps) {wi : Nat} (hwi : wi ≤ 3000) : ∀ (k j : Nat) (T : tT) (w : Nat → Int32), SimE T0 T → T 0 31 = nI j → WS w n f rr nl nC → j ≤ wi → wi < j + k → fc_X g l yX6_ends cX6_ends 2 (some .boolean) 11 n0 s0 (tv g M T w) 5 [some (.ref (fc_B g + tw0)), some (.int (nI wi))] [] (tv_i g M (fun r T2 w2 => SimE T0 T2 ∧ w2 = (edW (sdW T0 ps n f rr nl nC) n wi k j w).1 ∧ T2 0 31 = nI (edW (sdW T0 ps n f rr nl nC) n wi k j w).2 ∧ r = bI (cnt (stp (edW (sdW T0 ps n f rr nl nC) n wi k j w).1 3) n = n))) := by
  intro k
  induction k with
  | zero => intro j T w hS hj hW h1 h2; omega
  | succ k ih =>
    intro j T w hS hj hW h1 h2
    have hn : n ≤ 60 := hb.1
    have hcn := cnt_le (stp w 3) n
    refine x_aload_n dX6_ends_5 rfl ?_
    refine v_V0ie hM dX6_ends_6 kG_X6_X6_there kP_X6_there rfl (by omega) (by decide) (Nat.le_of_ble_eq_true rfl) (c_there hM hb.1 hW.1.2.2.1) ?_
    refine x_aload_n dX6_ends_9 rfl ?_
    refine v_geta 0 hM dX6_ends_10 (by decide) rfl q1130 ?_
    refine x_ic2 dX6_ends_13 ?_
    refine v_wld hM dX6_ends_14 rfl (by omega) ?_
    refine x_top hW.1.2.2.1 ?_
    refine x_icmpN_ge (tgt := 43) dX6_ends_15 (by decide) (by omega) (by omega) (fun hc15 => ?_) (fun hc15 => ?_)
    · refine x_aload_n dX6_ends_43 rfl ?_
      refine v_V0ie hM dX6_ends_44 kG_X6_X6_there kP_X6_there rfl (by omega) (by decide) (Nat.le_of_ble_eq_true rfl) (c_there hM hb.1 hW.1.2.2.1) ?_
      refine x_aload_n dX6_ends_47 rfl ?_
      refine v_geta 0 hM dX6_ends_48 (by decide) rfl q1130 ?_
      refine x_ic2 dX6_ends_51 ?_
      refine v_wld hM dX6_ends_52 rfl (by omega) ?_
      refine x_top hW.1.2.2.1 ?_
      refine x_icmpN_ne (tgt := 60) dX6_ends_53 (by decide) (by omega) (by omega) (fun hc53 => ?_) (fun hc53 => ?_)
      · refine x_ic0 dX6_ends_60 ?_
        have e : edW (sdW T0 ps n f rr nl nC) n wi (k + 1) j w = (w, j) := by rw [edW, if_neg (Nat.not_lt.mpr hc15)]
        rw [e]
        exact x_iret dX6_ends_61 rfl rfl (tv_ip ⟨hS, rfl, hj, (bI_f hc53).symm⟩)
      · refine x_ic1 dX6_ends_56 ?_
        refine x_goto (tgt := 61) dX6_ends_57 (by decide) ?_
        have e : edW (sdW T0 ps n f rr nl nC) n wi (k + 1) j w = (w, j) := by rw [edW, if_neg (Nat.not_lt.mpr hc15)]
        rw [e]
        exact x_iret dX6_ends_61 rfl rfl (tv_ip ⟨hS, rfl, hj, (bI_t hc53).symm⟩)
    · refine x_aload_n dX6_ends_18 rfl ?_
      refine v_geti 31 hM dX6_ends_19 (by decide) rfl q1161 ?_
      refine x_top hj ?_
      refine x_iload_n dX6_ends_22 rfl ?_
      refine x_icmpN_ge (tgt := 43) dX6_ends_23 (by decide) (by omega) (by omega) (fun hc23 => ?_) (fun hc23 => ?_)
      · refine x_aload_n dX6_ends_43 rfl ?_
        refine v_V0ie hM dX6_ends_44 kG_X6_X6_there kP_X6_there rfl (by omega) (by decide) (Nat.le_of_ble_eq_true rfl) (c_there hM hb.1 hW.1.2.2.1) ?_
        refine x_aload_n dX6_ends_47 rfl ?_
        refine v_geta 0 hM dX6_ends_48 (by decide) rfl q1130 ?_
        refine x_ic2 dX6_ends_51 ?_
        refine v_wld hM dX6_ends_52 rfl (by omega) ?_
        refine x_top hW.1.2.2.1 ?_
        refine x_icmpN_ne (tgt := 60) dX6_ends_53 (by decide) (by omega) (by omega) (fun hc53 => ?_) (fun hc53 => ?_)
        · refine x_ic0 dX6_ends_60 ?_
          have e : edW (sdW T0 ps n f rr nl nC) n wi (k + 1) j w = (w, j) := by rw [edW, if_pos hc15, if_neg (Nat.not_lt.mpr hc23)]
          rw [e]
          exact x_iret dX6_ends_61 rfl rfl (tv_ip ⟨hS, rfl, hj, (bI_f hc53).symm⟩)
        · refine x_ic1 dX6_ends_56 ?_
          refine x_goto (tgt := 61) dX6_ends_57 (by decide) ?_
          have e : edW (sdW T0 ps n f rr nl nC) n wi (k + 1) j w = (w, j) := by rw [edW, if_pos hc15, if_neg (Nat.not_lt.mpr hc23)]
          rw [e]
          exact x_iret dX6_ends_61 rfl rfl (tv_ip ⟨hS, rfl, hj, (bI_t hc53).symm⟩)
      · refine x_aload_n dX6_ends_26 rfl ?_
        refine v_V0v hM dX6_ends_27 kG_X6_X6_aSecond kP_X6_aSecond rfl (by omega) (by decide) (Nat.le_of_ble_eq_true rfl) (c_aSecond hM hb (by rw [hS 0 30 (by decide) (by decide) (by decide) (by decide)]; exact hps) hpl hW.1 hW.2) (fun T1 w1 q1 => ?_)
        obtain ⟨hS1, rfl⟩ := q1
        refine x_aload_n dX6_ends_30 rfl ?_
        refine x_dup dX6_ends_31 rfl ?_
        refine v_geti 31 hM dX6_ends_32 (by decide) rfl q1161 ?_
        refine x_top (show T1 0 31 = nI j by rw [hS1 0 31 (by decide) (by decide) (by decide)]; exact hj) ?_
        refine x_ic1 dX6_ends_35 ?_
        refine x_iaddN dX6_ends_36 ?_
        refine v_puti 31 hM dX6_ends_37 (by decide) rfl q1161 rfl rfl rfl ?_
        refine x_goto (tgt := 5) dX6_ends_40 (by decide) ?_
        rw [show edW (sdW T0 ps n f rr nl nC) n wi (k + 1) j w = edW (sdW T0 ps n f rr nl nC) n wi k (j + 1) ((sdW T0 ps n f rr nl nC) w) by rw [edW, if_pos hc15, if_pos hc23]]
        rw [show secW (trO T) (T 0 29) ps n f rr nl nC w = (sdW T0 ps n f rr nl nC) w from congrFun (congrFun (congrFun (congrFun (congrFun (congrFun (congrFun (sdW_simE hS) ps) n) f) rr) nl) nC) w]
        exact ih (j + 1) _ _ (SimE.n (hS.tr hS1.e)) rfl (secW_WS hb hpl hW) (by omega) (by omega)
set_option maxHeartbeats 1000000 in
theorem c_ends (hM : tw0 + 17 ≤ fc_nx M) {n f rr nl nC ps : Nat} (hb : Bd n f rr nC) (hpl : ps < 80) (hps : T 0 30 = nI ps) (hW : WS w n f rr nl nC) {wi : Nat} (hwi : wi ≤ 3000) {x : Int32} (hx : x = nI wi) : fc_CX g l yX6_ends cX6_ends 2 (some .boolean) 11 [.ref (fc_B g + tw0), .int x] (tv g M T w) (tv_i g M (fun r T2 w2 => SimE T T2 ∧ w2 = (edW (sdW T ps n f rr nl nC) n wi (wi + 1) 0 w).1 ∧ T2 0 31 = nI (edW (sdW T ps n f rr nl nC) n wi (wi + 1) 0 w).2 ∧ r = bI (cnt (stp (edW (sdW T ps n f rr nl nC) n wi (wi + 1) 0 w).1 3) n = n))) := by
  refine fc_enter (by decide) (Nat.le_of_ble_eq_true rfl) rfl ?_
  subst hx
  refine x_aload_n dX6_ends_0 rfl ?_
  refine x_ic0 dX6_ends_1 ?_
  refine v_puti 31 hM dX6_ends_2 (by decide) rfl q1161 rfl rfl rfl ?_
  exact l_ends hM hb hpl hps hwi (wi + 1) 0 _ w (SimE.n SimE.rf) rfl hW (by omega) (by omega)
set_option maxHeartbeats 1000000 in
theorem l_seconds {n0 s0 : Nat} (hM : tw0 + 17 ≤ fc_nx M) {n f rr nl nC ps : Nat} (hb : Bd n f rr nC) (hpl : ps < 80) {T0 : tT} (hps : T0 0 30 = nI ps) {m : Nat} (hm : m ≤ 600) {x2 : Int32} {Q : Outcome → fc_M → Prop} {wf : Nat → Int32} (hk : ∀ T2, SimE T0 T2 → WS wf n f rr nl nC → fc_X g l yX6_seconds cX6_seconds 4 (some .int) 11 n0 s0 (tv g M T2 wf) 49 [some (.ref (fc_B g + tw0)), some (.int (nI m)), some (.int x2), some (.int (nI m))] [] (Q)) : ∀ (k i : Nat) (T : tT) (w : Nat → Int32), SimE T0 T → WS w n f rr nl nC → i + k = m + 1 → i ≤ m → itW (sdW T0 ps n f rr nl nC) (m - i) w = wf → fc_X g l yX6_seconds cX6_seconds 4 (some .int) 11 n0 s0 (tv g M T w) 34 [some (.ref (fc_B g + tw0)), some (.int (nI m)), some (.int x2), some (.int (nI i))] [] (Q) := by
  intro k
  induction k with
  | zero => intro i T w hS hW h1 h2 hwf; omega
  | succ k ih =>
    intro i T w hS hW h1 h2 hwf
    refine x_iload_n dX6_seconds_34 rfl ?_
    refine x_iload_n dX6_seconds_35 rfl ?_
    refine x_icmpN_ge (tgt := 49) dX6_seconds_36 (by decide) (by omega) (by omega) (fun hc36 => ?_) (fun hc36 => ?_)
    · obtain rfl : i = m := by omega
      rw [Nat.sub_self] at hwf
      obtain rfl : w = wf := hwf
      exact hk T hS hW
    · refine x_aload_n dX6_seconds_39 rfl ?_
      refine v_V0v hM dX6_seconds_40 kG_X6_X6_aSecond kP_X6_aSecond rfl (by omega) (by decide) (Nat.le_of_ble_eq_true rfl) (c_aSecond hM hb (by rw [hS 0 30 (by decide) (by decide) (by decide) (by decide)]; exact hps) hpl hW.1 hW.2) (fun T1 w1 q1 => ?_)
      obtain ⟨hS1, rfl⟩ := q1
      refine x_iincN (n := 1) dX6_seconds_43 (by decide) rfl (by decide) rfl ?_
      refine x_goto (tgt := 34) dX6_seconds_46 (by decide) ?_
      rw [show secW (trO T) (T 0 29) ps n f rr nl nC w = (sdW T0 ps n f rr nl nC) w from congrFun (congrFun (congrFun (congrFun (congrFun (congrFun (congrFun (sdW_simE hS) ps) n) f) rr) nl) nC) w]
      exact ih (i + 1) _ _ (hS.tr hS1.e) (secW_WS hb hpl hW) (by omega) (by omega) (by rw [← hwf, show m - i = (m - (i + 1)) + 1 by omega]; rfl)
set_option maxHeartbeats 1000000 in
theorem b_sec49s {n0 s0 : Nat} (hM : tw0 + 17 ≤ fc_nx M) {n f rr nl nC : Nat} (hb : Bd n f rr nC) {T0 : tT} (hS : SimE T0 T) (hW : WS w n f rr nl nC) {c0 : Nat} {v1 v3 : Option Value} : fc_X g l yX6_seconds cX6_seconds 4 (some .int) 11 n0 s0 (tv g M T w) 49 [some (.ref (fc_B g + tw0)), v1, some (.int (nI c0)), v3] [] (tv_i g M (fun r T2 w2 => SimE T0 T2 ∧ w2 = w ∧ r = nI (cnt (stp w 3) n) - nI c0)) := by
  refine x_aload_n dX6_seconds_49 rfl ?_
  refine v_V0ie hM dX6_seconds_50 kG_X6_X6_there kP_X6_there rfl (by omega) (by decide) (Nat.le_of_ble_eq_true rfl) (c_there hM hb.1 hW.1.2.2.1) ?_
  refine x_iload_n dX6_seconds_53 rfl ?_
  refine x_isub dX6_seconds_54 ?_
  exact x_iret dX6_seconds_55 rfl rfl (tv_ip ⟨hS, rfl, rfl⟩)
def scQ (sd : (Nat → Int32) → (Nat → Int32)) (n : Nat) (x : Int32) (w : Nat → Int32) : Int32 × (Nat → Int32) := if nI 1 ≤ x ∧ x ≤ nI 600 then (if nI 19999 < w 3 + x then (-1, w) else (nI (cnt (stp (itW sd x.toNatClampNeg w) 3) n) - nI (cnt (stp w 3) n), itW sd x.toNatClampNeg w)) else (-1, w)
set_option maxHeartbeats 1000000 in
theorem c_seconds (hM : tw0 + 17 ≤ fc_nx M) {n f rr nl nC ps : Nat} (hb : Bd n f rr nC) (hpl : ps < 80) (hps : T 0 30 = nI ps) (hW : WS w n f rr nl nC) {x : Int32} : fc_CX g l yX6_seconds cX6_seconds 4 (some .int) 11 [.ref (fc_B g + tw0), .int x] (tv g M T w) (tv_i g M (fun r T2 w2 => SimE T T2 ∧ w2 = (scQ (sdW T ps n f rr nl nC) n x w).2 ∧ r = (scQ (sdW T ps n f rr nl nC) n x w).1)) := by
  refine fc_enter (by decide) (Nat.le_of_ble_eq_true rfl) rfl ?_
  refine x_iload_n dX6_seconds_0 rfl ?_
  refine x_ic1 dX6_seconds_1 ?_
  refine x_sipush (v := nI 600) dX6_seconds_2 (by decide) ?_
  refine v_S3ie dX6_seconds_5 kG_X6_X6_isIn kP_X6_isIn (by omega) (by decide) (Nat.le_of_ble_eq_true rfl) c_isIn ?_
  refine x_ifB_eq (tgt := 25) dX6_seconds_8 (by decide) (fun hc8 => ?_) (fun hc8 => ?_)
  · refine x_icm1 dX6_seconds_25 ?_
    have e : scQ (sdW T ps n f rr nl nC) n x w = (-1, w) := by rw [scQ, if_neg hc8]
    rw [e]
    exact x_iret dX6_seconds_26 rfl rfl (tv_ip ⟨SimE.rf, rfl, rfl⟩)
  · refine x_aload_n dX6_seconds_11 rfl ?_
    refine v_geta 0 hM dX6_seconds_12 (by decide) rfl q1130 ?_
    refine x_ic3 dX6_seconds_15 ?_
    refine v_wld hM dX6_seconds_16 rfl (by omega) ?_
    refine x_iload_n dX6_seconds_17 rfl ?_
    refine x_iadd dX6_seconds_18 ?_
    refine x_sipush (v := nI 19999) dX6_seconds_19 (by decide) ?_
    refine x_icmp_le (tgt := 27) dX6_seconds_22 (by decide) (fun hc22 => ?_) (fun hc22 => ?_)
    · refine x_aload_n dX6_seconds_27 rfl ?_
      refine v_V0ie hM dX6_seconds_28 kG_X6_X6_there kP_X6_there rfl (by omega) (by decide) (Nat.le_of_ble_eq_true rfl) (c_there hM hb.1 hW.1.2.2.1) ?_
      refine x_istore_n dX6_seconds_31 (by decide) rfl ?_
      refine x_ic0 dX6_seconds_32 ?_
      refine x_istore_n dX6_seconds_33 (by decide) rfl ?_
      obtain ⟨m, hm1, hm2, rfl⟩ := nI_between (by decide) hc8 (by decide)
      have e : scQ (sdW T ps n f rr nl nC) n (nI m) w = (nI (cnt (stp (itW (sdW T ps n f rr nl nC) m w) 3) n) - nI (cnt (stp w 3) n), itW (sdW T ps n f rr nl nC) m w) := by rw [scQ, if_pos hc8, if_neg (Int32.not_lt.mpr hc22), nI_clamp (by omega)]
      rw [e]
      exact l_seconds hM hb hpl hps hm2 (fun T2 hS2 hW2 => b_sec49s hM hb hS2 hW2) (m + 1) 0 T w SimE.rf hW (by omega) (by omega) rfl
    · refine x_icm1 dX6_seconds_25 ?_
      have e : scQ (sdW T ps n f rr nl nC) n x w = (-1, w) := by rw [scQ, if_pos hc8, if_pos (Int32.not_le.mp hc22)]
      rw [e]
      exact x_iret dX6_seconds_26 rfl rfl (tv_ip ⟨SimE.rf, rfl, rfl⟩)
end T44
