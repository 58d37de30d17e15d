set_option maxRecDepth 100000
section T41
variable {g : fc_G} {l : Launch} {M : fc_M} {T : tT} {w : Nat → Int32}
/-- what a second rests on -/
def WB (w : Nat → Int32) (n f rr nl nC : Nat) : Prop := w 0 = nI f ∧ w 1 = nI nC ∧ w 2 = nI n ∧ w 4 = nI rr ∧ RV w rr nl ∧ PI w n f
def Bd (n f rr nC : Nat) : Prop := n ≤ 60 ∧ f ≤ 80 ∧ rr < 3 ∧ nC ≤ 4
theorem WB_fr {w w' : Nat → Int32} {n f rr nl nC : Nat} (hb : Bd n f rr nC) (h : WB w n f rr nl nC) (e : ∀ i, (i = 0 ∨ i = 1 ∨ i = 2 ∨ i = 4 ∨ 1300 ≤ i ∨ ∃ p, p < n ∧ (i = 820 + 8 * p + 1 ∨ i = 820 + 8 * p + 2)) → w' i = w i) : WB w' n f rr nl nC := by
  obtain ⟨h1, h2, h3, h4, h5, h6⟩ := h
  refine ⟨by rw [e 0 (by omega)]; exact h1, by rw [e 1 (by omega)]; exact h2, by rw [e 2 (by omega)]; exact h3, by rw [e 4 (by omega)]; exact h4, RV_fr hb.2.2.1 (fun i hi => e i (by omega)) h5, PI_fr h6 (fun p hp => ⟨e _ ?_, e _ ?_⟩)⟩
  · exact Or.inr (Or.inr (Or.inr (Or.inr (Or.inr ⟨p, hp, Or.inl rfl⟩))))
  · exact Or.inr (Or.inr (Or.inr (Or.inr (Or.inr ⟨p, hp, Or.inr rfl⟩))))
theorem stW_fr {c nn : Nat} {S : Prop} [Decidable S] {w : Nat → Int32} {i : Nat} (h : ∀ k, k < 4 → i ≠ 10 + 20 * c + k) : stW c nn S w i = w i := by
  unfold stW
  rw [up_n (h 3 (by decide)), up_n (h 2 (by decide))]
theorem lkW_fr {pr : Int32} {ps c n a f : Nat} {w : Nat → Int32} {i : Nat} (hc : c < 4) (ha : a < 80) (hps : ps < 80) (h1 : ∀ k, k < 4 → i ≠ 10 + 20 * c + k) (h2 : i < 420 ∨ 740 ≤ i) (h3 : ∀ p, p < n → i ≠ 820 + 8 * p + 3 ∧ i ≠ 820 + 8 * p + 5 ∧ i ≠ 820 + 8 * p + 6) : lkW pr ps c n a f w i = w i := by
  unfold lkW lk1 lk2
  rw [stW_fr h1, up_n (by omega), giW_fr (fun p hp => ⟨(h3 p hp).1, (h3 p hp).2.1⟩) (by omega)]
  split
  · rw [up_n (h1 1 (by decide)), goW_fr (fun p hp => ⟨(h3 p hp).1, (h3 p hp).2.2⟩)]
  · rw [goW_fr (fun p hp => ⟨(h3 p hp).1, (h3 p hp).2.2⟩)]
theorem csW_fr {pr : Int32} {ps c n f : Nat} {w : Nat → Int32} {i : Nat} (hc : c < 4) (hf : f ≤ 80) (hps : ps < 80) (hcv : CV w c f) (h1 : ∀ k, k < 4 → i ≠ 10 + 20 * c + k) (h2 : i < 420 ∨ 740 ≤ i) (h3 : ∀ p, p < n → i ≠ 820 + 8 * p + 3 ∧ i ≠ 820 + 8 * p + 5 ∧ i ≠ 820 + 8 * p + 6) : csW pr ps c n f w i = w i := by
  obtain ⟨⟨a, ha, hfl⟩, -, hgo, -⟩ := hcv
  have ef : flW w c = a := by rw [flW, hfl, nI_clamp (by omega)]
  unfold csW
  split
  · rfl
  · split
    · exact lkW_fr hc (by omega) hps h1 h2 h3
    · split
      · exact up_n (h1 3 (by decide))
      · split
        · rename_i h
          obtain ⟨a2, ha2, e2⟩ := hgo h
          rw [lkW_fr hc (by rw [e2, nI_clamp (by omega)]; omega) hps h1 h2 h3, up_n (h1 0 (by decide)), up_n (h1 3 (by decide))]
        · rw [lkW_fr hc (by omega) hps h1 h2 h3, up_n (h1 3 (by decide))]
theorem CV_fr {w w' : Nat → Int32} {c f : Nat} (h : CV w c f) (e : ∀ k, k < 6 → w' (10 + 20 * c + k) = w (10 + 20 * c + k)) : CV w' c f := by
  unfold CV
  rw [e 0 (by decide), e 1 (by decide), e 2 (by decide), e 5 (by decide)]
  exact h
def secW (tr : Option (Nat → Int32)) (pr : Int32) (ps n f rr nl nC : Nat) (w : Nat → Int32) : Nat → Int32 :=
  up (s3W pr ps n f nC (nC + 1) 0 (s2W tr n rr nl nC (n + 1) 0 (s1W n (n + 1) 0 w))) 3 (s3W pr ps n f nC (nC + 1) 0 (s2W tr n rr nl nC (n + 1) 0 (s1W n (n + 1) 0 w)) 3 + nI 1)
theorem s1W_fr {n : Nat} {q : Nat} (hq : ∀ p, p < n → q ≠ 820 + 8 * p + 3) : ∀ (k i : Nat) (w : Nat → Int32), s1W n k i w q = w q
  | 0, _, _ => rfl
  | k + 1, i, w => by
    simp only [s1W]
    split
    · rename_i h
      rw [s1W_fr hq k]
      split
      · split
        · exact up_n (hq i h)
        · rfl
      · rfl
    · rfl
theorem s2W_fr {tr : Option (Nat → Int32)} {n rr nl nC : Nat} {q : Nat} (hq : ∀ p, p < n → q ≠ 820 + 8 * p + 4) : ∀ (k i : Nat) (w : Nat → Int32), s2W tr n rr nl nC k i w q = w q
  | 0, _, _ => rfl
  | k + 1, i, w => by
    simp only [s2W]
    split
    · rename_i h
      rw [s2W_fr hq k]
      split
      · split
        · exact gcW_fr (hq i h)
        · rfl
      · rfl
    · rfl
set_option maxHeartbeats 1000000 in
theorem l_sec1 {n0 s0 : Nat} (hM : tw0 + 17 ≤ fc_nx M) {n : Nat} (hn : n ≤ 60) {wf : Nat → Int32} {Q : Outcome → fc_M → Prop} (hk : fc_X g l yX6_aSecond cX6_aSecond 2 (none) 10 n0 s0 (tv g M T wf) 49 [some (.ref (fc_B g + tw0)), some (.int (nI n))] [] (Q)) : ∀ (k i : Nat) (w : Nat → Int32), w 2 = nI n → i ≤ n → n < i + k → s1W n k i w = wf → fc_X g l yX6_aSecond cX6_aSecond 2 (none) 10 n0 s0 (tv g M T w) 2 [some (.ref (fc_B g + tw0)), some (.int (nI i))] [] (Q) := by
  intro k
  induction k with
  | zero => intro i w hw h1 h2 hwf; omega
  | succ k ih =>
    intro i w hw h1 h2 hwf
    refine x_iload_n dX6_aSecond_2 rfl ?_
    refine x_aload_n dX6_aSecond_3 rfl ?_
    refine v_geta 0 hM dX6_aSecond_4 (by decide) rfl q1130 ?_
    refine x_ic2 dX6_aSecond_7 ?_
    refine v_wld hM dX6_aSecond_8 rfl (by omega) ?_
    refine x_top hw ?_
    refine x_icmpN_ge (tgt := 49) dX6_aSecond_9 (by decide) (by omega) (by omega) (fun hc9 => ?_) (fun hc9 => ?_)
    · obtain rfl : i = n := by omega
      rw [show w = wf by rw [← hwf, s1W, if_neg (Nat.lt_irrefl i)]]
      exact hk
    · refine x_aload_n dX6_aSecond_12 rfl ?_
      refine x_iload_n dX6_aSecond_13 rfl ?_
      refine x_ic3 dX6_aSecond_14 ?_
      refine v_V2ie hM dX6_aSecond_15 kG_X6_X6_own kP_X6_own rfl (by omega) (by decide) (Nat.le_of_ble_eq_true rfl) (c_own hM rfl rfl (by omega)) ?_
      refine x_if_ne (tgt := 43) dX6_aSecond_18 (by decide) (fun hc18 => ?_) (fun hc18 => ?_)
      · refine x_iincN (n := 1) dX6_aSecond_43 (by decide) rfl (by decide) rfl ?_
        refine x_goto (tgt := 2) dX6_aSecond_46 (by decide) ?_
        refine ih (i + 1) _ hw (by omega) (by omega) ?_
        rw [← hwf, s1W, if_pos hc9, if_neg hc18]
      · refine x_aload_n dX6_aSecond_21 rfl ?_
        refine x_iload_n dX6_aSecond_22 rfl ?_
        refine x_ic0 dX6_aSecond_23 ?_
        refine v_V2ie hM dX6_aSecond_24 kG_X6_X6_own kP_X6_own rfl (by omega) (by decide) (Nat.le_of_ble_eq_true rfl) (c_own hM rfl rfl (by omega)) ?_
        refine x_aload_n dX6_aSecond_27 rfl ?_
        refine v_geta 0 hM dX6_aSecond_28 (by decide) rfl q1130 ?_
        refine x_ic3 dX6_aSecond_31 ?_
        refine v_wld hM dX6_aSecond_32 rfl (by omega) ?_
        refine x_icmp_ne (tgt := 43) dX6_aSecond_33 (by decide) (fun hc33 => ?_) (fun hc33 => ?_)
        · refine x_iincN (n := 1) dX6_aSecond_43 (by decide) rfl (by decide) rfl ?_
          refine x_goto (tgt := 2) dX6_aSecond_46 (by decide) ?_
          refine ih (i + 1) _ hw (by omega) (by omega) ?_
          rw [← hwf, s1W, if_pos hc9, if_pos hc18, if_neg hc33]
        · refine x_aload_n dX6_aSecond_36 rfl ?_
          refine x_iload_n dX6_aSecond_37 rfl ?_
          refine x_ic3 dX6_aSecond_38 ?_
          refine x_ic1 dX6_aSecond_39 ?_
          refine v_V3ve hM dX6_aSecond_40 kG_X6_X6_gives kP_X6_gives rfl (by omega) (by decide) (Nat.le_of_ble_eq_true rfl) (c_gives hM rfl rfl (by omega)) ?_
          refine x_iincN (n := 1) dX6_aSecond_43 (by decide) rfl (by decide) rfl ?_
          refine x_goto (tgt := 2) dX6_aSecond_46 (by decide) ?_
          refine ih (i + 1) _ (by rw [up_n (by omega)]; exact hw) (by omega) (by omega) ?_
          rw [← hwf, s1W, if_pos hc9, if_pos hc18, if_pos hc33]
theorem kG_X6_X6_givesCall : GoodIn lw_all (wsV RX6 329 RX6 yX6_givesCall (ws_ yX6_givesCall cX6_givesCall 5 (none))) := lw_V q1480 q1482 qs91 q124 q1483
theorem kP_X6_givesCall : kPar yX6_givesCall 1 := by decide +kernel
set_option maxHeartbeats 1000000 in
theorem l_sec2 {n0 s0 : Nat} (hM : tw0 + 17 ≤ fc_nx M) {n f rr nl nC : Nat} (hb : Bd n f rr nC) {T0 : tT} {wf : Nat → Int32} {Q : Outcome → fc_M → Prop} (hk : ∀ T2, Sim T0 T2 → fc_X g l yX6_aSecond cX6_aSecond 2 (none) 10 n0 s0 (tv g M T2 wf) 92 [some (.ref (fc_B g + tw0)), some (.int (nI n))] [] (Q)) : ∀ (k i : Nat) (T : tT) (w : Nat → Int32), Sim T0 T → WB w n f rr nl nC → i ≤ n → n < i + k → s2W (trO T0) n rr nl nC k i w = wf → fc_X g l yX6_aSecond cX6_aSecond 2 (none) 10 n0 s0 (tv g M T w) 51 [some (.ref (fc_B g + tw0)), some (.int (nI i))] [] (Q) := by
  intro k
  induction k with
  | zero => intro i T w hS hB h1 h2 hwf; omega
  | succ k ih =>
    intro i T w hS hB h1 h2 hwf
    have hn : n ≤ 60 := hb.1
    refine x_iload_n dX6_aSecond_51 rfl ?_
    refine x_aload_n dX6_aSecond_52 rfl ?_
    refine v_geta 0 hM dX6_aSecond_53 (by decide) rfl q1130 ?_
    refine x_ic2 dX6_aSecond_56 ?_
    refine v_wld hM dX6_aSecond_57 rfl (by omega) ?_
    refine x_top hB.2.2.1 ?_
    refine x_icmpN_ge (tgt := 92) dX6_aSecond_58 (by decide) (by omega) (by omega) (fun hc58 => ?_) (fun hc58 => ?_)
    · obtain rfl : i = n := by omega
      rw [show w = wf by rw [← hwf, s2W, if_neg (Nat.lt_irrefl i)]]
      exact hk T hS
    · refine x_aload_n dX6_aSecond_61 rfl ?_
      refine x_iload_n dX6_aSecond_62 rfl ?_
      refine x_ic3 dX6_aSecond_63 ?_
      refine v_V2ie hM dX6_aSecond_64 kG_X6_X6_own kP_X6_own rfl (by omega) (by decide) (Nat.le_of_ble_eq_true rfl) (c_own hM rfl rfl (by omega)) ?_
      refine x_ic1 dX6_aSecond_67 ?_
      refine x_icmp_ne (tgt := 86) dX6_aSecond_68 (by decide) (fun hc68 => ?_) (fun hc68 => ?_)
      · refine x_iincN (n := 1) dX6_aSecond_86 (by decide) rfl (by decide) rfl ?_
        refine x_goto (tgt := 51) dX6_aSecond_89 (by decide) ?_
        refine ih (i + 1) _ _ hS hB (by omega) (by omega) ?_
        rw [← hwf, s2W, if_pos hc58, if_neg hc68]
      · refine x_aload_n dX6_aSecond_71 rfl ?_
        refine x_iload_n dX6_aSecond_72 rfl ?_
        refine x_ic4 dX6_aSecond_73 ?_
        refine v_V2ie hM dX6_aSecond_74 kG_X6_X6_own kP_X6_own rfl (by omega) (by decide) (Nat.le_of_ble_eq_true rfl) (c_own hM rfl rfl (by omega)) ?_
        refine x_icm1 dX6_aSecond_77 ?_
        refine x_icmp_ne (tgt := 86) dX6_aSecond_78 (by decide) (fun hc78 => ?_) (fun hc78 => ?_)
        · refine x_iincN (n := 1) dX6_aSecond_86 (by decide) rfl (by decide) rfl ?_
          refine x_goto (tgt := 51) dX6_aSecond_89 (by decide) ?_
          refine ih (i + 1) _ _ hS hB (by omega) (by omega) ?_
          rw [← hwf, s2W, if_pos hc58, if_pos hc68, if_neg hc78]
        · refine x_aload_n dX6_aSecond_81 rfl ?_
          refine x_iload_n dX6_aSecond_82 rfl ?_
          refine v_V1v hM dX6_aSecond_83 kG_X6_X6_givesCall kP_X6_givesCall rfl (by omega) (by decide) (Nat.le_of_ble_eq_true rfl) (c_givesCall hM hb.1 hB.2.2.1 hb.2.2.1 hB.2.2.2.1 hB.2.2.2.2.1 hb.2.2.2 hB.2.1 hb.2.1 hc58 hB.2.2.2.2.2 rfl) (fun T1 w1 q1 => ?_)
          obtain ⟨hS1, rfl⟩ := q1
          refine x_iincN (n := 1) dX6_aSecond_86 (by decide) rfl (by decide) rfl ?_
          refine x_goto (tgt := 51) dX6_aSecond_89 (by decide) ?_
          refine ih (i + 1) _ _ (hS.tr hS1) (WB_fr hb hB (fun j hj => gcW_fr (by rcases hj with h | h | h | h | h | ⟨q, hq, h | h⟩ <;> omega))) (by omega) (by omega) ?_
          rw [← hwf, s2W, if_pos hc58, if_pos hc68, if_pos hc78, trO_sim hS]
theorem kG_X6_X6_aCarsSecond : GoodIn lw_all (wsV RX6 332 RX6 yX6_aCarsSecond (ws_ yX6_aCarsSecond cX6_aCarsSecond 2 (none))) := lw_V q1488 q1490 qs93 q124 q1491
theorem kP_X6_aCarsSecond : kPar yX6_aCarsSecond 1 := by decide +kernel
set_option maxHeartbeats 1000000 in
theorem l_sec3 {n0 s0 : Nat} (hM : tw0 + 17 ≤ fc_nx M) {n f rr nl nC : Nat} (hb : Bd n f rr nC) {ps : Nat} (hps : T 0 30 = nI ps) (hpl : ps < 80) {wf : Nat → Int32} {Q : Outcome → fc_M → Prop} (hk : fc_X g l yX6_aSecond cX6_aSecond 2 (none) 10 n0 s0 (tv g M T wf) 115 [some (.ref (fc_B g + tw0)), some (.int (nI nC))] [] (Q)) : ∀ (k i : Nat) (w : Nat → Int32), WB w n f rr nl nC → (∀ c, i ≤ c → c < nC → CV w c f) → i ≤ nC → nC < i + k → s3W (T 0 29) ps n f nC k i w = wf → fc_X g l yX6_aSecond cX6_aSecond 2 (none) 10 n0 s0 (tv g M T w) 94 [some (.ref (fc_B g + tw0)), some (.int (nI i))] [] (Q) := by
  intro k
  induction k with
  | zero => intro i w hB hCV h1 h2 hwf; omega
  | succ k ih =>
    intro i w hB hCV h1 h2 hwf
    have hn : n ≤ 60 := hb.1
    have hC : nC ≤ 4 := hb.2.2.2
    refine x_iload_n dX6_aSecond_94 rfl ?_
    refine x_aload_n dX6_aSecond_95 rfl ?_
    refine v_geta 0 hM dX6_aSecond_96 (by decide) rfl q1130 ?_
    refine x_ic1 dX6_aSecond_99 ?_
    refine v_wld hM dX6_aSecond_100 rfl (by omega) ?_
    refine x_top hB.2.1 ?_
    refine x_icmpN_ge (tgt := 115) dX6_aSecond_101 (by decide) (by omega) (by omega) (fun hc101 => ?_) (fun hc101 => ?_)
    · obtain rfl : i = nC := by omega
      rw [show w = wf by rw [← hwf, s3W, if_neg (Nat.lt_irrefl i)]]
      exact hk
    · refine x_aload_n dX6_aSecond_104 rfl ?_
      refine x_iload_n dX6_aSecond_105 rfl ?_
      refine v_V1ve hM dX6_aSecond_106 kG_X6_X6_aCarsSecond kP_X6_aCarsSecond rfl (by omega) (by decide) (Nat.le_of_ble_eq_true rfl) (c_acs hM hb.1 hB.2.2.1 (by omega) hps hpl hB.1 hB.2.2.2.2.2 hb.2.1 (hCV i (Nat.le_refl i) hc101)) ?_
      refine x_iincN (n := 1) dX6_aSecond_109 (by decide) rfl (by decide) rfl ?_
      refine x_goto (tgt := 94) dX6_aSecond_112 (by decide) ?_
      have hcv := hCV i (Nat.le_refl i) hc101
      refine ih (i + 1) _ (WB_fr hb hB (fun j hj => csW_fr (by omega) hb.2.1 hpl hcv (fun q hq => by rcases hj with h | h | h | h | h | ⟨q1, hq1, h | h⟩ <;> omega) (by rcases hj with h | h | h | h | h | ⟨q1, hq1, h | h⟩ <;> omega) (fun q hq => by rcases hj with h | h | h | h | h | ⟨q1, hq1, h | h⟩ <;> omega))) (fun c2 h3 h4 => CV_fr (hCV c2 (by omega) h4) (fun q hq => csW_fr (by omega) hb.2.1 hpl hcv (fun q2 hq2 => by omega) (by omega) (fun q2 hq2 => by omega))) (by omega) (by omega) ?_
      rw [← hwf, s3W, if_pos hc101]
end T41
