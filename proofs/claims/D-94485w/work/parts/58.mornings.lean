set_option maxRecDepth 100000
section T58
variable {g : fc_G} {l : Launch} {M : fc_M} {T : tT} {w : Nat → Int32}
theorem moW_fr {f nC m q r i : Nat} {w : Nat → Int32} (hC : nC ≤ 4) (h : i = 0 ∨ i = 1 ∨ 1300 ≤ i ∨ ∃ c, c < nC ∧ i = 10 + 20 * c + 10) : moW f nC m q r w i = w i := by
  have e : mo0 nC (nI r) w i = w i := mo0_fr (by rcases h with h | h | h | ⟨c, hc, h⟩ <;> omega) (fun c2 hc2 j hj => by rcases h with h | h | h | ⟨c, hc, h⟩ <;> omega) (by rcases h with h | h | h | ⟨c, hc, h⟩ <;> omega)
  have g1 : i ≠ 2 := by rcases h with h | h | h | ⟨c, hc, h⟩ <;> omega
  have g2 : ∀ n, n < 60 → ∀ k, k < 7 → i ≠ 820 + 8 * n + k := fun n hn k hk => by rcases h with h | h | h | ⟨c, hc, h⟩ <;> omega
  unfold moW lcW
  split
  · rw [cmW_fr g1 (g2 1 (by omega)), cmW_fr g1 (g2 0 (by omega)), e]
  · rw [cmW_fr g1 (g2 0 (by omega)), e]
theorem moE_fr {T : tT} {ps f nC m q r i : Nat} {w : Nat → Int32} (hB : BI w f nC) (hr : r < 3) (hf2 : 2 ≤ f) (hpl : ps < 80) (hq : m = 2 → q < f * (f - 1) * (f * (f - 1))) (h : i = 0 ∨ i = 1 ∨ 1300 ≤ i ∨ ∃ c, c < nC ∧ i = 10 + 20 * c + 10) : (moE T ps f nC m q r w).1 i = w i := by
  obtain ⟨hW, hb⟩ := moW_WS hB hr hf2 hq
  have hC := hB.1.2
  have hN := hb.1
  refine (edW_fr hb hpl ⟨by rcases h with h | h | h | ⟨c, hc, h⟩ <;> omega, fun c2 hc2 k hk => by rcases h with h | h | h | ⟨c, hc, h⟩ <;> omega, by rcases h with h | h | h | ⟨c, hc, h⟩ <;> omega, fun p hp => by rcases h with h | h | h | ⟨c, hc, h⟩ <;> omega⟩ _ _ _ hW).trans (moW_fr hC h)
theorem moE_BI {T : tT} {ps f nC m q r : Nat} {w : Nat → Int32} (hB : BI w f nC) (hr : r < 3) (hf2 : 2 ≤ f) (hpl : ps < 80) (hq : m = 2 → q < f * (f - 1) * (f * (f - 1))) : BI (moE T ps f nC m q r w).1 f nC := BI_fr hB (fun i hi => moE_fr hB hr hf2 hpl hq hi)
theorem moE_HF {T : tT} {ps f nC m q r : Nat} {w : Nat → Int32} (hB : BI w f nC) (hr : r < 3) (hf2 : 2 ≤ f) (hpl : ps < 80) (hq : m = 2 → q < f * (f - 1) * (f * (f - 1))) : HF w (moE T ps f nC m q r w).1 := fun i hi => moE_fr hB hr hf2 hpl hq (by omega)
def mnL (T : tT) (ps f nC m a b all : Nat) : Nat → Nat → (Nat → Int32) → Int32
  | 0, _, _ => -1
  | k + 1, i, w => if i < all then (if moQ T ps f nC m i b (moE T ps f nC m i a w).1 < moQ T ps f nC m i a w then nI i else mnL T ps f nC m a b all k (i + 1) (moE T ps f nC m i b (moE T ps f nC m i a w).1).1) else -1
theorem mo_sim {T T2 : tT} (h : SimE T T2) : moQ T2 = moQ T ∧ moE T2 = moE T := by
  have e : moE T2 = moE T := by
    unfold moE
    rw [sdW_simE h]
  refine ⟨?_, e⟩
  unfold moQ
  rw [e]
set_option maxHeartbeats 1000000 in
theorem b_mn153 {n0 s0 : Nat} (hM : tw0 + 17 ≤ fc_nx M) {T0 T9 : tT} {w0 B : Nat → Int32} (hS : SimE T0 T) (h3 : T0 3 = mixW 1300 w0 B) (hF : HF w0 w) (hS9 : SimB T9 T0) {x7 : Int32} {v1 v2 v3 v4 v5 v6 v8 : Option Value} : fc_X g l yX6_mornings cX6_mornings 9 (some .int) 14 n0 s0 (tv g M T w) 153 [some (.ref (fc_B g + tw0)), v1, v2, v3, v4, v5, v6, some (.int x7), v8] [] (tv_i g M (fun r T2 w2 => SimB T9 T2 ∧ w2 = w0 ∧ r = x7)) := by
  refine x_aload_n dX6_mornings_153 rfl ?_
  refine v_V0ve hM dX6_mornings_154 kG_X6_X6_comesBack kP_X6_comesBack rfl (by omega) (by decide) (Nat.le_of_ble_eq_true rfl) (c_comesBack hM) ?_
  refine x_iload dX6_mornings_157 rfl ?_
  exact x_iret dX6_mornings_159 rfl rfl (tv_ip ⟨hS9.tr hS.b, by rw [show T 3 = mixW 1300 w0 B from (funext fun k => hS 3 k (by decide) (by decide) (fun z => absurd z.1 (by decide)) (fun z => absurd z.1 (by decide))).trans h3]; exact mixW_back hF, rfl⟩)
set_option maxHeartbeats 1000000 in
theorem b_mn107f {n0 s0 : Nat} (hM : tw0 + 17 ≤ fc_nx M) {T0 T9 : tT} {w0 B : Nat → Int32} (hS : SimE T0 T) (h3 : T0 3 = mixW 1300 w0 B) (hF : HF w0 w) (hS9 : SimB T9 T0) {x7 : Int32} (h7 : ¬ x7 = -1) {x6 x8 : Int32} {v1 v2 v3 v4 v5 : Option Value} : fc_X g l yX6_mornings cX6_mornings 9 (some .int) 14 n0 s0 (tv g M T w) 107 [some (.ref (fc_B g + tw0)), v1, v2, v3, v4, v5, some (.int x6), some (.int x7), some (.int x8)] [] (tv_i g M (fun r T2 w2 => SimB T9 T2 ∧ w2 = w0 ∧ r = x7)) := by
  refine x_iload dX6_mornings_107 rfl ?_
  refine x_iload dX6_mornings_109 rfl ?_
  refine x_icmp_ge (tgt := 153) dX6_mornings_111 (by decide) (fun hc111 => ?_) (fun hc111 => ?_)
  · exact b_mn153 hM hS h3 hF hS9
  · refine x_iload dX6_mornings_114 rfl ?_
    refine x_icm1 dX6_mornings_116 ?_
    refine x_icmp_ne (tgt := 153) dX6_mornings_117 (by decide) (fun hc117 => ?_) (fun hc117 => ?_)
    · exact b_mn153 hM hS h3 hF hS9
    · exact absurd hc117 h7
theorem kG_X6_X6_overOf : GoodIn lw_all (wsV RX6 378 RX6 yX6_overOf (ws_ yX6_overOf cX6_overOf 6 (some .int))) := lw_V q1578 q1580 qs108 q124 q1581
theorem kP_X6_overOf : kPar yX6_overOf 4 := by decide +kernel
set_option maxHeartbeats 1000000 in
theorem l_mornings {n0 s0 : Nat} (hM : tw0 + 17 ≤ fc_nx M) {f nC ps mm ra rb all : Nat} (hf2 : 2 ≤ f) (hf8 : f ≤ 8) (hra : ra < 3) (hrb : rb < 3) (hmm : mm < 3) (hal : all < 10000) (hall : mm = 2 → all ≤ f * (f - 1) * (f * (f - 1))) (hpl : ps < 80) {T0 T9 : tT} {w0 B : Nat → Int32} (h3 : T0 3 = mixW 1300 w0 B) (hS9 : SimB T9 T0) (hps : T0 0 30 = nI ps) {v4 : Option Value} : ∀ (k i : Nat) (T : tT) (w : Nat → Int32), SimE T0 T → BI w f nC → HF w0 w → i ≤ all → all < i + k → fc_X g l yX6_mornings cX6_mornings 9 (some .int) 14 n0 s0 (tv g M T w) 107 [some (.ref (fc_B g + tw0)), some (.int (nI ra)), some (.int (nI rb)), some (.int (nI mm)), v4, some (.int (nI (f * (f - 1)))), some (.int (nI all)), some (.int (-1)), some (.int (nI i))] [] (tv_i g M (fun r T2 w2 => SimB T9 T2 ∧ w2 = w0 ∧ r = mnL T0 ps f nC mm ra rb all k i w)) := by
  intro k
  induction k with
  | zero => intro i T w hS hB hF h1 h2; omega
  | succ k ih =>
    intro i T w hS hB hF h1 h2
    refine x_iload dX6_mornings_107 rfl ?_
    refine x_iload dX6_mornings_109 rfl ?_
    refine x_icmpN_ge (tgt := 153) dX6_mornings_111 (by decide) (by omega) (by omega) (fun hc111 => ?_) (fun hc111 => ?_)
    · rw [mnL, if_neg (Nat.not_lt.mpr hc111)]
      exact b_mn153 hM hS h3 hF hS9
    · refine x_iload dX6_mornings_114 rfl ?_
      refine x_icm1 dX6_mornings_116 ?_
      refine x_icmp_ne (tgt := 153) dX6_mornings_117 (by decide) (fun hc117 => ?_) (fun hc117 => ?_)
      · exact absurd rfl hc117
      · refine x_aload_n dX6_mornings_120 rfl ?_
        refine x_iload dX6_mornings_121 rfl ?_
        refine x_iload dX6_mornings_123 rfl ?_
        refine x_iload_n dX6_mornings_125 rfl ?_
        refine x_iload_n dX6_mornings_126 rfl ?_
        refine v_V4i hM dX6_mornings_127 kG_X6_X6_overOf kP_X6_overOf rfl (by omega) (by decide) (Nat.le_of_ble_eq_true rfl) (c_overOf (T := T) (w := w) (r := ra) (m := mm) (q := i) (ps := ps) hM (by omega) hB (by omega) hf2 hf8 (by omega) (fun z => by have := hall z; omega) (by first | (rw [hS 0 30 (by decide) (by decide) (by decide) (by decide)]; exact hps) | (rw [(hS.tr hS1) 0 30 (by decide) (by decide) (by decide) (by decide)]; exact hps)) hpl rfl rfl rfl rfl) (fun r1 T1 w1 q1 => ?_)
        obtain ⟨hS1, ew1, er1⟩ := q1
        rw [(mo_sim hS).1] at er1
        rw [(mo_sim hS).2] at ew1
        rw [ew1, er1]
        have hB1 := moE_BI (T := T0) (m := mm) (q := i) (r := ra) hB (by omega) hf2 hpl (fun z => by have := hall z; omega)
        have hF1 := hF.tr (moE_HF (T := T0) (m := mm) (q := i) (r := ra) hB (by omega) hf2 hpl (fun z => by have := hall z; omega))
        refine x_aload_n dX6_mornings_130 rfl ?_
        refine x_iload dX6_mornings_131 rfl ?_
        refine x_iload dX6_mornings_133 rfl ?_
        refine x_iload_n dX6_mornings_135 rfl ?_
        refine x_iload_n dX6_mornings_136 rfl ?_
        refine v_V4i hM dX6_mornings_137 kG_X6_X6_overOf kP_X6_overOf rfl (by omega) (by decide) (Nat.le_of_ble_eq_true rfl) (c_overOf (T := T1) (w := (moE T0 ps f nC mm i ra w).1) (r := rb) (m := mm) (q := i) (ps := ps) hM (by omega) hB1 (by omega) hf2 hf8 (by omega) (fun z => by have := hall z; omega) (by first | (rw [hS 0 30 (by decide) (by decide) (by decide) (by decide)]; exact hps) | (rw [(hS.tr hS1) 0 30 (by decide) (by decide) (by decide) (by decide)]; exact hps)) hpl rfl rfl rfl rfl) (fun r2 T2 w2 q2 => ?_)
        obtain ⟨hS2, ew2, er2⟩ := q2
        rw [(mo_sim (hS.tr hS1)).1] at er2
        rw [(mo_sim (hS.tr hS1)).2] at ew2
        rw [ew2, er2]
        have hB2 := moE_BI (T := T0) (m := mm) (q := i) (r := rb) hB1 (by omega) hf2 hpl (fun z => by have := hall z; omega)
        have hF2 := hF1.tr (moE_HF (T := T0) (m := mm) (q := i) (r := rb) hB1 (by omega) hf2 hpl (fun z => by have := hall z; omega))
        refine x_icmp_le (tgt := 147) dX6_mornings_140 (by decide) (fun hc140 => ?_) (fun hc140 => ?_)
        · refine x_iincN (n := 1) dX6_mornings_147 (by decide) rfl (by decide) rfl ?_
          refine x_goto (tgt := 107) dX6_mornings_150 (by decide) ?_
          rw [mnL, if_pos hc111, if_neg (Int32.not_lt.mpr hc140)]
          exact ih (i + 1) _ _ ((hS.tr hS1).tr hS2) hB2 hF2 (by omega) (by omega)
        · refine x_iload dX6_mornings_143 rfl ?_
          refine x_istore dX6_mornings_145 (by decide) rfl ?_
          refine x_iincN (n := 1) dX6_mornings_147 (by decide) rfl (by decide) rfl ?_
          refine x_goto (tgt := 107) dX6_mornings_150 (by decide) ?_
          rw [mnL, if_pos hc111, if_pos (Int32.not_le.mp hc140)]
          exact b_mn107f hM ((hS.tr hS1).tr hS2) h3 hF2 hS9 (bO_ne (by omega))
theorem mo_simB {T T2 : tT} (h : SimB T T2) : moQ T2 = moQ T ∧ moE T2 = moE T := by
  have e : moE T2 = moE T := by
    unfold moE
    rw [sdW_simB h]
  refine ⟨?_, e⟩
  unfold moQ
  rw [e]
theorem mnL_simB {T T2 : tT} (h : SimB T T2) {ps f nC m a b all : Nat} : ∀ (k i : Nat) (w : Nat → Int32), mnL T2 ps f nC m a b all k i w = mnL T ps f nC m a b all k i w
  | 0, _, _ => rfl
  | k + 1, i, w => by
    simp only [mnL]
    rw [(mo_simB h).1, (mo_simB h).2, mnL_simB h k]
def mnA (f m : Nat) : Nat := if m = 1 then f * (f - 1) else f * (f - 1) * (f * (f - 1))
def mnQ (T : tT) (ps f nC : Nat) (x1 x2 x3 x4 : Int32) (w : Nat → Int32) : Int32 := if nI 0 ≤ x1 ∧ x1 ≤ nI 2 then (if nI 0 ≤ x2 ∧ x2 ≤ nI 2 then (if nI 1 ≤ x3 ∧ x3 ≤ nI 2 then (if nI 0 ≤ x4 ∧ x4 ≤ nI 1 then (if nI 2 ≤ w 0 ∧ w 0 ≤ nI 8 then (if x4.toNatClampNeg = 1 then nI (mnA f x3.toNatClampNeg) else mnL T ps f nC x3.toNatClampNeg x1.toNatClampNeg x2.toNatClampNeg (mnA f x3.toNatClampNeg) (mnA f x3.toNatClampNeg + 1) 0 w) else -1) else -1) else -1) else -1) else -1
theorem mnA_lt {f m : Nat} (hf8 : f ≤ 8) : mnA f m < 10000 := by
  have h : f * (f - 1) ≤ 56 := Nat.le_trans (Nat.mul_le_mul hf8 (show f - 1 ≤ 7 by omega)) (by decide)
  unfold mnA
  split
  · omega
  · have := Nat.mul_le_mul h h
    omega
set_option maxHeartbeats 1000000 in
theorem c_mornings (hM : tw0 + 17 ≤ fc_nx M) {f nC ps : Nat} (hB : BI w f nC) (hps : T 0 30 = nI ps) (hpl : ps < 80) {x1 x2 x3 x4 : Int32} : fc_CX g l yX6_mornings cX6_mornings 9 (some .int) 14 [.ref (fc_B g + tw0), .int x1, .int x2, .int x3, .int x4] (tv g M T w) (tv_i g M (fun r T2 w2 => SimB T T2 ∧ w2 = w ∧ r = mnQ T ps f nC x1 x2 x3 x4 w)) := by
  refine fc_enter (by decide) (Nat.le_of_ble_eq_true rfl) rfl ?_
  refine x_iload_n dX6_mornings_0 rfl ?_
  refine x_ic0 dX6_mornings_1 ?_
  refine x_ic2 dX6_mornings_2 ?_
  refine v_S3ie dX6_mornings_3 kG_X6_X6_isIn kP_X6_isIn (by omega) (by decide) (Nat.le_of_ble_eq_true rfl) c_isIn ?_
  refine x_ifB_eq (tgt := 52) dX6_mornings_6 (by decide) (fun hc6 => ?_) (fun hc6 => ?_)
  · refine x_icm1 dX6_mornings_52 ?_
    refine x_iret dX6_mornings_53 rfl rfl (tv_ip ⟨SimB.rf, rfl, ?_⟩)
    rw [mnQ, if_neg hc6]
  · refine x_iload_n dX6_mornings_9 rfl ?_
    refine x_ic0 dX6_mornings_10 ?_
    refine x_ic2 dX6_mornings_11 ?_
    refine v_S3ie dX6_mornings_12 kG_X6_X6_isIn kP_X6_isIn (by omega) (by decide) (Nat.le_of_ble_eq_true rfl) c_isIn ?_
    refine x_ifB_eq (tgt := 52) dX6_mornings_15 (by decide) (fun hc15 => ?_) (fun hc15 => ?_)
    · refine x_icm1 dX6_mornings_52 ?_
      refine x_iret dX6_mornings_53 rfl rfl (tv_ip ⟨SimB.rf, rfl, ?_⟩)
      rw [mnQ, if_pos hc6, if_neg hc15]
    · refine x_iload_n dX6_mornings_18 rfl ?_
      refine x_ic1 dX6_mornings_19 ?_
      refine x_ic2 dX6_mornings_20 ?_
      refine v_S3ie dX6_mornings_21 kG_X6_X6_isIn kP_X6_isIn (by omega) (by decide) (Nat.le_of_ble_eq_true rfl) c_isIn ?_
      refine x_ifB_eq (tgt := 52) dX6_mornings_24 (by decide) (fun hc24 => ?_) (fun hc24 => ?_)
      · refine x_icm1 dX6_mornings_52 ?_
        refine x_iret dX6_mornings_53 rfl rfl (tv_ip ⟨SimB.rf, rfl, ?_⟩)
        rw [mnQ, if_pos hc6, if_pos hc15, if_neg hc24]
      · refine x_iload dX6_mornings_27 rfl ?_
        refine x_ic0 dX6_mornings_29 ?_
        refine x_ic1 dX6_mornings_30 ?_
        refine v_S3ie dX6_mornings_31 kG_X6_X6_isIn kP_X6_isIn (by omega) (by decide) (Nat.le_of_ble_eq_true rfl) c_isIn ?_
        refine x_ifB_eq (tgt := 52) dX6_mornings_34 (by decide) (fun hc34 => ?_) (fun hc34 => ?_)
        · refine x_icm1 dX6_mornings_52 ?_
          refine x_iret dX6_mornings_53 rfl rfl (tv_ip ⟨SimB.rf, rfl, ?_⟩)
          rw [mnQ, if_pos hc6, if_pos hc15, if_pos hc24, if_neg hc34]
        · refine x_aload_n dX6_mornings_37 rfl ?_
          refine v_geta 0 hM dX6_mornings_38 (by decide) rfl q1130 ?_
          refine x_ic0 dX6_mornings_41 ?_
          refine v_wld hM dX6_mornings_42 rfl (by omega) ?_
          refine x_ic2 dX6_mornings_43 ?_
          refine x_bipush (v := nI 8) dX6_mornings_44 (by decide) ?_
          refine v_S3ie dX6_mornings_46 kG_X6_X6_isIn kP_X6_isIn (by omega) (by decide) (Nat.le_of_ble_eq_true rfl) c_isIn ?_
          refine x_ifB_ne (tgt := 54) dX6_mornings_49 (by decide) (fun hc49 => ?_) (fun hc49 => ?_)
          · obtain ⟨ra, -, hra, rfl⟩ := nI_between (by decide) hc6 (by decide)
            obtain ⟨rb, -, hrb, rfl⟩ := nI_between (by decide) hc15 (by decide)
            obtain ⟨mm, hm1, hmm, rfl⟩ := nI_between (by decide) hc24 (by decide)
            obtain ⟨wt, -, hwt, rfl⟩ := nI_between (by decide) hc34 (by decide)
            have hff := hB.1.1
            have hf2 : 2 ≤ f := by have h := hc49.1; rw [hB.2.1] at h; exact (nI_leI (by decide) (by omega)).mp h
            have hf8 : f ≤ 8 := by have h := hc49.2; rw [hB.2.1] at h; exact (nI_leI (by omega) (by decide)).mp h
            have hk1 : (nI ra).toNatClampNeg = ra := nI_clamp (by omega)
            have hk2 : (nI rb).toNatClampNeg = rb := nI_clamp (by omega)
            have hk3 : (nI mm).toNatClampNeg = mm := nI_clamp (by omega)
            have hk4 : (nI wt).toNatClampNeg = wt := nI_clamp (by omega)
            · refine x_aload_n dX6_mornings_54 rfl ?_
              refine v_geta 0 hM dX6_mornings_55 (by decide) rfl q1130 ?_
              refine x_ic0 dX6_mornings_58 ?_
              refine v_wld hM dX6_mornings_59 rfl (by omega) ?_
              refine x_top hB.2.1 ?_
              refine x_aload_n dX6_mornings_60 rfl ?_
              refine v_geta 0 hM dX6_mornings_61 (by decide) rfl q1130 ?_
              refine x_ic0 dX6_mornings_64 ?_
              refine v_wld hM dX6_mornings_65 rfl (by omega) ?_
              refine x_top hB.2.1 ?_
              refine x_ic1 dX6_mornings_66 ?_
              refine x_isubN dX6_mornings_67 (by omega) ?_
              refine x_imulN dX6_mornings_68 ?_
              refine x_istore dX6_mornings_69 (by decide) rfl ?_
              refine x_iload_n dX6_mornings_71 rfl ?_
              refine x_ic1 dX6_mornings_72 ?_
              refine x_icmpN_ne (tgt := 81) dX6_mornings_73 (by decide) (by omega) (by omega) (fun hc73 => ?_) (fun hc73 => ?_)
              · refine x_iload dX6_mornings_81 rfl ?_
                refine x_iload dX6_mornings_83 rfl ?_
                refine x_imulN dX6_mornings_85 ?_
                refine x_istore dX6_mornings_86 (by decide) rfl ?_
                refine x_iload dX6_mornings_88 rfl ?_
                refine x_ic1 dX6_mornings_90 ?_
                refine x_icmpN_ne (tgt := 97) dX6_mornings_91 (by decide) (by omega) (by omega) (fun hc91 => ?_) (fun hc91 => ?_)
                · refine x_aload_n dX6_mornings_97 rfl ?_
                  refine v_V0ve hM dX6_mornings_98 kG_X6_X6_setsOut kP_X6_setsOut rfl (by omega) (by decide) (Nat.le_of_ble_eq_true rfl) (c_setsOut hM) ?_
                  refine x_icm1 dX6_mornings_101 ?_
                  refine x_istore dX6_mornings_102 (by decide) rfl ?_
                  refine x_ic0 dX6_mornings_104 ?_
                  refine x_istore dX6_mornings_105 (by decide) rfl ?_
                  have ea : mnA f mm = (f * (f - 1) * (f * (f - 1))) := by rw [mnA, if_neg hc73]
                  have hlt := mnA_lt (m := mm) hf8
                  refine x_mono ?_ (l_mornings (nC := nC) (all := mnA f mm) (T0 := t3 T (mixW 1300 w (T 3))) (T9 := T) (w0 := w) (B := T 3) hM hf2 hf8 (by omega) (by omega) (by omega) hlt (fun z => by rw [mnA, if_neg (by omega)]; exact Nat.le_refl _) hpl rfl (SimB.t3 SimB.rf) hps (mnA f mm + 1) 0 (t3 T (mixW 1300 w (T 3))) w SimE.rf hB HF.rf (by omega) (by omega) |> (fun k => (ea ▸ k)))
                  rintro o M2 ⟨r9, rfl, T8, w8, rfl, k1, k2, k3⟩
                  refine tv_ip ⟨k1, k2, ?_⟩
                  rw [k3, mnL_simB (SimB.t3 SimB.rf), mnQ, if_pos hc6, if_pos hc15, if_pos hc24, if_pos hc34, if_pos hc49, hk4, if_neg hc91, hk3, hk1, hk2, ea]
                · refine x_iload dX6_mornings_94 rfl ?_
                  refine x_iret dX6_mornings_96 rfl rfl (tv_ip ⟨SimB.rf, rfl, ?_⟩)
                  rw [mnQ, if_pos hc6, if_pos hc15, if_pos hc24, if_pos hc34, if_pos hc49, hk4, if_pos hc91, hk3, mnA, if_neg hc73]
              · refine x_iload dX6_mornings_76 rfl ?_
                refine x_goto (tgt := 86) dX6_mornings_78 (by decide) ?_
                refine x_istore dX6_mornings_86 (by decide) rfl ?_
                refine x_iload dX6_mornings_88 rfl ?_
                refine x_ic1 dX6_mornings_90 ?_
                refine x_icmpN_ne (tgt := 97) dX6_mornings_91 (by decide) (by omega) (by omega) (fun hc91 => ?_) (fun hc91 => ?_)
                · refine x_aload_n dX6_mornings_97 rfl ?_
                  refine v_V0ve hM dX6_mornings_98 kG_X6_X6_setsOut kP_X6_setsOut rfl (by omega) (by decide) (Nat.le_of_ble_eq_true rfl) (c_setsOut hM) ?_
                  refine x_icm1 dX6_mornings_101 ?_
                  refine x_istore dX6_mornings_102 (by decide) rfl ?_
                  refine x_ic0 dX6_mornings_104 ?_
                  refine x_istore dX6_mornings_105 (by decide) rfl ?_
                  have ea : mnA f mm = (f * (f - 1)) := by rw [mnA, if_pos hc73]
                  have hlt := mnA_lt (m := mm) hf8
                  refine x_mono ?_ (l_mornings (nC := nC) (all := mnA f mm) (T0 := t3 T (mixW 1300 w (T 3))) (T9 := T) (w0 := w) (B := T 3) hM hf2 hf8 (by omega) (by omega) (by omega) hlt (fun z => by rw [mnA, if_neg (by omega)]; exact Nat.le_refl _) hpl rfl (SimB.t3 SimB.rf) hps (mnA f mm + 1) 0 (t3 T (mixW 1300 w (T 3))) w SimE.rf hB HF.rf (by omega) (by omega) |> (fun k => (ea ▸ k)))
                  rintro o M2 ⟨r9, rfl, T8, w8, rfl, k1, k2, k3⟩
                  refine tv_ip ⟨k1, k2, ?_⟩
                  rw [k3, mnL_simB (SimB.t3 SimB.rf), mnQ, if_pos hc6, if_pos hc15, if_pos hc24, if_pos hc34, if_pos hc49, hk4, if_neg hc91, hk3, hk1, hk2, ea]
                · refine x_iload dX6_mornings_94 rfl ?_
                  refine x_iret dX6_mornings_96 rfl rfl (tv_ip ⟨SimB.rf, rfl, ?_⟩)
                  rw [mnQ, if_pos hc6, if_pos hc15, if_pos hc24, if_pos hc34, if_pos hc49, hk4, if_pos hc91, hk3, mnA, if_pos hc73]
          · refine x_icm1 dX6_mornings_52 ?_
            refine x_iret dX6_mornings_53 rfl rfl (tv_ip ⟨SimB.rf, rfl, ?_⟩)
            rw [mnQ, if_pos hc6, if_pos hc15, if_pos hc24, if_pos hc34, if_neg hc49]
end T58
