set_option maxRecDepth 100000
section T51
variable {g : fc_G} {l : Launch} {M : fc_M} {T : tT} {w : Nat → Int32}
def g1L (w : Nat → Int32) (nC : Nat) : Nat → Nat → Bool
  | 0, _ => true
  | k + 1, c => if c < nC then (if w (10 + 20 * c + 4) = nI 1 then false else g1L w nC k (c + 1)) else true
def g2L (w : Nat → Int32) (n : Nat) : Nat → Nat → Bool
  | 0, _ => true
  | k + 1, i => if i < n then (if nI 1 < w (820 + 8 * i + 3) then false else if w (820 + 8 * i + 4) = -1 then g2L w n k (i + 1) else false) else true
def cgQ (w : Nat → Int32) (n nC : Nat) : Prop := (nI 1 ≤ w 2 ∧ w 2 ≤ nI 6) ∧ (nI 1 ≤ w 1 ∧ w 1 ≤ nI 3) ∧ g1L w nC (nC + 1) 0 = true ∧ g2L w n (n + 1) 0 = true
set_option maxHeartbeats 1000000 in
theorem l_give2 {n0 s0 : Nat} (hM : tw0 + 17 ≤ fc_nx M) {n f nC : Nat} (hG : GI w n f nC) : ∀ (k i : Nat), i ≤ n → n < i + k → fc_X g l yX6_canGive cX6_canGive 2 (some .boolean) 2 n0 s0 (tv g M T w) 63 [some (.ref (fc_B g + tw0)), some (.int (nI i))] [] (tv_ie g M (if g2L w n k i = true then nI 1 else nI 0) T w) := by
  intro k
  induction k with
  | zero => intro i h1 h2; omega
  | succ k ih =>
    intro i h1 h2
    have hC := hG.1.2.2
    have hF := hG.1.2.1
    have hN := hG.1.1
    refine x_iload_n dX6_canGive_63 rfl ?_
    refine x_aload_n dX6_canGive_64 rfl ?_
    refine v_geta 0 hM dX6_canGive_65 (by decide) rfl q1130 ?_
    refine x_ic2 dX6_canGive_68 ?_
    refine v_wld hM dX6_canGive_69 rfl (by omega) ?_
    refine x_top hG.2.2.2.1 ?_
    refine x_icmpN_ge (tgt := 101) dX6_canGive_70 (by decide) (by omega) (by omega) (fun hc70 => ?_) (fun hc70 => ?_)
    · refine x_ic1 dX6_canGive_101 ?_
      refine x_iret dX6_canGive_102 rfl (by rfl) (tv_i2 ?_ rfl rfl)
      rw [g2L, if_neg (Nat.not_lt.mpr hc70), if_pos rfl]
    · refine x_aload_n dX6_canGive_73 rfl ?_
      refine x_iload_n dX6_canGive_74 rfl ?_
      refine x_ic3 dX6_canGive_75 ?_
      refine v_V2ie hM dX6_canGive_76 kG_X6_X6_own kP_X6_own rfl (by omega) (by decide) (Nat.le_of_ble_eq_true rfl) (c_own hM rfl rfl (by omega)) ?_
      refine x_ic1 dX6_canGive_79 ?_
      refine x_icmp_gt (tgt := 93) dX6_canGive_80 (by decide) (fun hc80 => ?_) (fun hc80 => ?_)
      · refine x_ic0 dX6_canGive_93 ?_
        refine x_iret dX6_canGive_94 rfl (by rfl) (tv_i2 ?_ rfl rfl)
        rw [g2L, if_pos hc70, if_pos hc80, if_neg (by decide)]
      · refine x_aload_n dX6_canGive_83 rfl ?_
        refine x_iload_n dX6_canGive_84 rfl ?_
        refine x_ic4 dX6_canGive_85 ?_
        refine v_V2ie hM dX6_canGive_86 kG_X6_X6_own kP_X6_own rfl (by omega) (by decide) (Nat.le_of_ble_eq_true rfl) (c_own hM rfl rfl (by omega)) ?_
        refine x_icm1 dX6_canGive_89 ?_
        refine x_icmp_eq (tgt := 95) dX6_canGive_90 (by decide) (fun hc90 => ?_) (fun hc90 => ?_)
        · refine x_iincN (n := 1) dX6_canGive_95 (by decide) rfl (by decide) rfl ?_
          refine x_goto (tgt := 63) dX6_canGive_98 (by decide) ?_
          rw [g2L, if_pos hc70, if_neg hc80, if_pos hc90]
          exact ih (i + 1) (by omega) (by omega)
        · refine x_ic0 dX6_canGive_93 ?_
          refine x_iret dX6_canGive_94 rfl (by rfl) (tv_i2 ?_ rfl rfl)
          rw [g2L, if_pos hc70, if_neg hc80, if_neg hc90, if_neg (by decide)]
set_option maxHeartbeats 1000000 in
theorem l_give1 {n0 s0 : Nat} (hM : tw0 + 17 ≤ fc_nx M) {n f nC : Nat} (hG : GI w n f nC) : ∀ (k i : Nat), i ≤ nC → nC < i + k → fc_X g l yX6_canGive cX6_canGive 2 (some .boolean) 2 n0 s0 (tv g M T w) 33 [some (.ref (fc_B g + tw0)), some (.int (nI i))] [] (tv_ie g M (if g1L w nC k i = true then (if g2L w n (n + 1) 0 = true then nI 1 else nI 0) else nI 0) T w) := by
  intro k
  induction k with
  | zero => intro i h1 h2; omega
  | succ k ih =>
    intro i h1 h2
    have hC := hG.1.2.2
    have hF := hG.1.2.1
    have hN := hG.1.1
    refine x_iload_n dX6_canGive_33 rfl ?_
    refine x_aload_n dX6_canGive_34 rfl ?_
    refine v_geta 0 hM dX6_canGive_35 (by decide) rfl q1130 ?_
    refine x_ic1 dX6_canGive_38 ?_
    refine v_wld hM dX6_canGive_39 rfl (by omega) ?_
    refine x_top hG.2.2.1 ?_
    refine x_icmpN_ge (tgt := 61) dX6_canGive_40 (by decide) (by omega) (by omega) (fun hc40 => ?_) (fun hc40 => ?_)
    · refine x_ic0 dX6_canGive_61 ?_
      refine x_istore_n dX6_canGive_62 (by decide) rfl ?_
      rw [g1L, if_neg (Nat.not_lt.mpr hc40), if_pos rfl]
      exact l_give2 hM hG (n + 1) 0 (by omega) (by omega)
    · refine x_aload_n dX6_canGive_43 rfl ?_
      refine x_iload_n dX6_canGive_44 rfl ?_
      refine x_ic4 dX6_canGive_45 ?_
      refine v_V2ie hM dX6_canGive_46 kG_X6_X6_ofCar kP_X6_ofCar rfl (by omega) (by decide) (Nat.le_of_ble_eq_true rfl) (c_ofCar hM rfl rfl (by omega)) ?_
      refine x_ic1 dX6_canGive_49 ?_
      refine x_icmp_ne (tgt := 55) dX6_canGive_50 (by decide) (fun hc50 => ?_) (fun hc50 => ?_)
      · refine x_iincN (n := 1) dX6_canGive_55 (by decide) rfl (by decide) rfl ?_
        refine x_goto (tgt := 33) dX6_canGive_58 (by decide) ?_
        rw [g1L, if_pos hc40, if_neg hc50]
        exact ih (i + 1) (by omega) (by omega)
      · refine x_ic0 dX6_canGive_53 ?_
        refine x_iret dX6_canGive_54 rfl (by rfl) (tv_i2 ?_ rfl rfl)
        rw [g1L, if_pos hc40, if_pos hc50, if_neg (by decide)]
set_option maxHeartbeats 1000000 in
theorem c_canGive (hM : tw0 + 17 ≤ fc_nx M) {n f nC : Nat} (hG : GI w n f nC) : fc_CX g l yX6_canGive cX6_canGive 2 (some .boolean) 3 [.ref (fc_B g + tw0)] (tv g M T w) (tv_ie g M (bI ((nI 1 ≤ w 2 ∧ w 2 ≤ nI 6) ∧ (nI 1 ≤ w 1 ∧ w 1 ≤ nI 3) ∧ g1L w nC (nC + 1) 0 = true ∧ g2L w n (n + 1) 0 = true)) T w) := by
  refine fc_enter (by decide) (Nat.le_of_ble_eq_true rfl) rfl ?_
  have hC := hG.1.2.2
  have hF := hG.1.2.1
  have hN := hG.1.1
  refine x_aload_n dX6_canGive_0 rfl ?_
  refine v_geta 0 hM dX6_canGive_1 (by decide) rfl q1130 ?_
  refine x_ic2 dX6_canGive_4 ?_
  refine v_wld hM dX6_canGive_5 rfl (by omega) ?_
  refine x_ic1 dX6_canGive_6 ?_
  refine x_bipush (v := nI 6) dX6_canGive_7 (by decide) ?_
  refine v_S3ie dX6_canGive_9 kG_X6_X6_isIn kP_X6_isIn (by omega) (by decide) (Nat.le_of_ble_eq_true rfl) c_isIn ?_
  refine x_ifB_eq (tgt := 29) dX6_canGive_12 (by decide) (fun hc12 => ?_) (fun hc12 => ?_)
  · refine x_ic0 dX6_canGive_29 ?_
    exact x_iret dX6_canGive_30 rfl (by rfl) (tv_i2 (bI_f (fun z => hc12 z.1)).symm rfl rfl)
  · refine x_aload_n dX6_canGive_15 rfl ?_
    refine v_geta 0 hM dX6_canGive_16 (by decide) rfl q1130 ?_
    refine x_ic1 dX6_canGive_19 ?_
    refine v_wld hM dX6_canGive_20 rfl (by omega) ?_
    refine x_ic1 dX6_canGive_21 ?_
    refine x_ic3 dX6_canGive_22 ?_
    refine v_S3ie dX6_canGive_23 kG_X6_X6_isIn kP_X6_isIn (by omega) (by decide) (Nat.le_of_ble_eq_true rfl) c_isIn ?_
    refine x_ifB_ne (tgt := 31) dX6_canGive_26 (by decide) (fun hc26 => ?_) (fun hc26 => ?_)
    · refine x_ic0 dX6_canGive_31 ?_
      refine x_istore_n dX6_canGive_32 (by decide) rfl ?_
      have e : bI ((nI 1 ≤ w 2 ∧ w 2 ≤ nI 6) ∧ (nI 1 ≤ w 1 ∧ w 1 ≤ nI 3) ∧ g1L w nC (nC + 1) 0 = true ∧ g2L w n (n + 1) 0 = true) = (if g1L w nC (nC + 1) 0 = true then (if g2L w n (n + 1) 0 = true then nI 1 else nI 0) else nI 0) := by
        by_cases a1 : g1L w nC (nC + 1) 0 = true
        · rw [if_pos a1]
          by_cases a2 : g2L w n (n + 1) 0 = true
          · rw [if_pos a2]; exact bI_t ⟨hc12, hc26, a1, a2⟩
          · rw [if_neg a2]; exact bI_f (fun z => a2 z.2.2.2)
        · rw [if_neg a1]; exact bI_f (fun z => a1 z.2.2.1)
      rw [e]
      exact fc_dep (by decide) (l_give1 hM hG (nC + 1) 0 (by omega) (by omega))
    · refine x_ic0 dX6_canGive_29 ?_
      exact x_iret dX6_canGive_30 rfl (by rfl) (tv_i2 (bI_f (fun z => hc26 z.2.1)).symm rfl rfl)
def SimF (T T2 : tT) : Prop := ∀ a k, a ≠ 8 → a ≠ 9 → a ≠ 3 → ¬ (a = 0 ∧ k = 26) → ¬ (a = 0 ∧ k = 31) → ¬ (a = 0 ∧ k = 29) → ¬ (a = 0 ∧ k = 30) → T2 a k = T a k
theorem SimB.f {T T2 : tT} (h : SimB T T2) : SimF T T2 := fun a k h1 h2 h3 h4 h5 _ _ => h a k h1 h2 h3 h4 h5
theorem SimF.tr {T T2 T3 : tT} (h : SimF T T2) (h2 : SimF T2 T3) : SimF T T3 := fun a k h8 h9 h3 h0 h1 q1 q2 => (h2 a k h8 h9 h3 h0 h1 q1 q2).trans (h a k h8 h9 h3 h0 h1 q1 q2)
theorem SimF.p {T T2 : tT} {v : Int32} (h : SimF T T2) : SimF T (tu T2 0 29 v) := fun a k h8 h9 h3 h0 h1 q1 q2 => (if_neg (fun z => q1 z)).trans (h a k h8 h9 h3 h0 h1 q1 q2)
theorem SimF.q {T T2 : tT} {v : Int32} (h : SimF T T2) : SimF T (tu T2 0 30 v) := fun a k h8 h9 h3 h0 h1 q1 q2 => (if_neg (fun z => q2 z)).trans (h a k h8 h9 h3 h0 h1 q1 q2)
def fnP (T0 : tT) (w0 : Nat → Int32) (x30 v r : Int32) (T2 : tT) (w2 : Nat → Int32) : Prop := SimF T0 T2 ∧ w2 = w0 ∧ T2 0 29 = -1 ∧ T2 0 30 = x30 ∧ r = v
set_option maxHeartbeats 1000000 in
theorem b_fun126 {n0 s0 : Nat} (hM : tw0 + 17 ≤ fc_nx M) {T0 : tT} {w0 B : Nat → Int32} (hS : SimF T0 T) (h3 : T 3 = mixW 1300 w0 B) (hF : HF w0 w) {G : Prop} [Decidable G] {wo wi : Int32} {v1 v2 : Option Value} : fc_X g l yX6_fun cX6_fun 6 (some .int) 12 n0 s0 (tv g M T w) 126 [some (.ref (fc_B g + tw0)), v1, v2, some (.int (bI G)), some (.int wo), some (.int wi)] [] (tv_i g M (fnP T0 w0 (T 0 30) (if G then wi - wo else -100000))) := by
  refine x_aload_n dX6_fun_126 rfl ?_
  refine x_icm1 dX6_fun_127 ?_
  refine v_puti 29 hM dX6_fun_128 (by decide) rfl q1159 rfl rfl rfl ?_
  refine x_aload_n dX6_fun_131 rfl ?_
  refine v_V0ve hM dX6_fun_132 kG_X6_X6_comesBack kP_X6_comesBack rfl (by omega) (by decide) (Nat.le_of_ble_eq_true rfl) (c_comesBack hM) ?_
  refine x_iload_n dX6_fun_135 rfl ?_
  refine x_ifB_eq (tgt := 147) dX6_fun_136 (by decide) (fun hc136 => ?_) (fun hc136 => ?_)
  · refine x_ldcw dX6_fun_147 q1591 ?_
    refine x_iret dX6_fun_150 rfl rfl (tv_ip ⟨SimF.p hS, ?_, rfl, rfl, ?_⟩)
    · show mixW 1300 (T 3) w = w0; rw [h3]; exact mixW_back hF
    · rw [if_neg hc136]
  · refine x_iload dX6_fun_139 rfl ?_
    refine x_iload dX6_fun_141 rfl ?_
    refine x_isub dX6_fun_143 ?_
    refine x_goto (tgt := 150) dX6_fun_144 (by decide) ?_
    refine x_iret dX6_fun_150 rfl rfl (tv_ip ⟨SimF.p hS, ?_, rfl, rfl, ?_⟩)
    · show mixW 1300 (T 3) w = w0; rw [h3]; exact mixW_back hF
    · rw [if_pos hc136]
end T51
