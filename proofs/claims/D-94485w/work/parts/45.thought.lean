set_option maxRecDepth 100000
section T45
variable {g : fc_G} {l : Launch} {M : fc_M} {T : tT} {w : Nat → Int32}
def mixW (k : Nat) (a b : Nat → Int32) : Nat → Int32 := fun i => if i < k then a i else b i
theorem mixW_s {k : Nat} {a b : Nat → Int32} : up (mixW k a b) k (a k) = mixW (k + 1) a b := by
  funext i
  by_cases h : i = k
  · subst h; rw [up_s]; exact (if_pos (by omega)).symm
  · rw [up_n h]
    unfold mixW
    by_cases h2 : i < k
    · rw [if_pos h2, if_pos (by omega)]
    · rw [if_neg h2, if_neg (by omega)]
theorem mixW_0 {a b : Nat → Int32} : mixW 0 a b = b := funext fun i => if_neg (by omega)
def t3 (T : tT) (b : Nat → Int32) : tT := fun a k => if a = 3 then b k else T a k
theorem t3_u {T : tT} {b : Nat → Int32} {i : Nat} {v : Int32} : tu (t3 T b) 3 i v = t3 T (up b i v) := by
  funext a k
  by_cases h : a = 3
  · subst h
    simp [tu, t3, up]
  · simp [tu, t3, h]
theorem t3_self {T : tT} : t3 T (T 3) = T := by
  funext a k
  by_cases h : a = 3
  · subst h; rfl
  · exact if_neg h
def SimB (T T2 : tT) : Prop := ∀ a k, a ≠ 8 → a ≠ 9 → a ≠ 3 → ¬ (a = 0 ∧ k = 26) → ¬ (a = 0 ∧ k = 31) → T2 a k = T a k
theorem SimE.b {T T2 : tT} (h : SimE T T2) : SimB T T2 := fun a k h1 h2 _ h4 h5 => h a k h1 h2 h4 h5
theorem SimB.rf {T : tT} : SimB T T := fun _ _ _ _ _ _ _ => rfl
theorem SimB.tr {T T2 T3 : tT} (h : SimB T T2) (h2 : SimB T2 T3) : SimB T T3 := fun a k h8 h9 h3 h0 h1 => (h2 a k h8 h9 h3 h0 h1).trans (h a k h8 h9 h3 h0 h1)
theorem SimB.t3 {T T2 : tT} {b : Nat → Int32} (h : SimB T T2) : SimB T (t3 T2 b) := fun a k h8 h9 h3 h0 h1 => (if_neg h3).trans (h a k h8 h9 h3 h0 h1)
set_option maxHeartbeats 1000000 in
theorem l_setsOut {n0 s0 : Nat} (hM : tw0 + 17 ≤ fc_nx M) {B : Nat → Int32} : ∀ (k i : Nat), i ≤ 1300 → 1300 < i + k → fc_X g l yX6_setsOut cX6_setsOut 2 (none) 1 n0 s0 (tv g M (t3 T (mixW i w B)) w) 2 [some (.ref (fc_B g + tw0)), some (.int (nI i))] [] (tv_ve g M (t3 T (mixW 1300 w B)) w) := by
  intro k
  induction k with
  | zero => intro i h1 h2; omega
  | succ k ih =>
    intro i h1 h2
    refine x_iload_n dX6_setsOut_2 rfl ?_
    refine x_sipush (v := nI 1300) dX6_setsOut_3 (by decide) ?_
    refine x_icmpN_ge (tgt := 27) dX6_setsOut_6 (by decide) (by omega) (by omega) (fun hc6 => ?_) (fun hc6 => ?_)
    · obtain rfl : i = 1300 := by omega
      exact x_vret dX6_setsOut_27 rfl tv_v1
    · refine x_aload_n dX6_setsOut_9 rfl ?_
      refine v_geta 2 hM dX6_setsOut_10 (by decide) rfl q1132 ?_
      refine x_iload_n dX6_setsOut_13 rfl ?_
      refine x_aload_n dX6_setsOut_14 rfl ?_
      refine v_geta 0 hM dX6_setsOut_15 (by decide) rfl q1130 ?_
      refine x_iload_n dX6_setsOut_18 rfl ?_
      refine v_wld hM dX6_setsOut_19 rfl (by omega) ?_
      refine v_iast 3 hM dX6_setsOut_20 (by decide) (by decide) rfl rfl (by show _ < 1300; omega) ?_
      refine x_eqM (congrArg (fun z => tv g M z w) (t3_u.trans (congrArg (t3 T) mixW_s))) ?_
      refine x_iincN (n := 1) dX6_setsOut_21 (by decide) rfl (by decide) rfl ?_
      refine x_goto (tgt := 2) dX6_setsOut_24 (by decide) ?_
      exact ih (i + 1) (by omega) (by omega)
set_option maxHeartbeats 1000000 in
theorem c_setsOut (hM : tw0 + 17 ≤ fc_nx M) : fc_CX g l yX6_setsOut cX6_setsOut 2 (none) 1 [.ref (fc_B g + tw0)] (tv g M T w) (tv_ve g M (t3 T (mixW 1300 w (T 3))) w) := by
  refine fc_enter (by decide) (Nat.le_of_ble_eq_true rfl) rfl ?_
  refine x_ic0 dX6_setsOut_0 ?_
  refine x_istore_n dX6_setsOut_1 (by decide) rfl ?_
  refine x_eqM (congrArg (fun z => tv g M z w) (show T = t3 T (mixW 0 w (T 3)) by rw [mixW_0, t3_self])) ?_
  exact l_setsOut hM 1301 0 (by omega) (by omega)
set_option maxHeartbeats 1000000 in
theorem l_comesBack {n0 s0 : Nat} (hM : tw0 + 17 ≤ fc_nx M) {wB : Nat → Int32} : ∀ (k i : Nat), i ≤ 1300 → 1300 < i + k → fc_X g l yX6_comesBack cX6_comesBack 2 (none) 1 n0 s0 (tv g M T (mixW i (T 3) wB)) 2 [some (.ref (fc_B g + tw0)), some (.int (nI i))] [] (tv_ve g M T (mixW 1300 (T 3) wB)) := by
  intro k
  induction k with
  | zero => intro i h1 h2; omega
  | succ k ih =>
    intro i h1 h2
    refine x_iload_n dX6_comesBack_2 rfl ?_
    refine x_sipush (v := nI 1300) dX6_comesBack_3 (by decide) ?_
    refine x_icmpN_ge (tgt := 27) dX6_comesBack_6 (by decide) (by omega) (by omega) (fun hc6 => ?_) (fun hc6 => ?_)
    · obtain rfl : i = 1300 := by omega
      exact x_vret dX6_comesBack_27 rfl tv_v1
    · refine x_aload_n dX6_comesBack_9 rfl ?_
      refine v_geta 0 hM dX6_comesBack_10 (by decide) rfl q1130 ?_
      refine x_iload_n dX6_comesBack_13 rfl ?_
      refine x_aload_n dX6_comesBack_14 rfl ?_
      refine v_geta 2 hM dX6_comesBack_15 (by decide) rfl q1132 ?_
      refine x_iload_n dX6_comesBack_18 rfl ?_
      refine v_iald 3 hM dX6_comesBack_19 (by decide) (by decide) rfl rfl (by show _ < 1300; omega) ?_
      refine v_wst hM dX6_comesBack_20 rfl (by omega) ?_
      refine x_eqM (congrArg (fun z => tv g M T z) mixW_s) ?_
      refine x_iincN (n := 1) dX6_comesBack_21 (by decide) rfl (by decide) rfl ?_
      refine x_goto (tgt := 2) dX6_comesBack_24 (by decide) ?_
      exact ih (i + 1) (by omega) (by omega)
set_option maxHeartbeats 1000000 in
theorem c_comesBack (hM : tw0 + 17 ≤ fc_nx M) : fc_CX g l yX6_comesBack cX6_comesBack 2 (none) 1 [.ref (fc_B g + tw0)] (tv g M T w) (tv_ve g M T (mixW 1300 (T 3) w)) := by
  refine fc_enter (by decide) (Nat.le_of_ble_eq_true rfl) rfl ?_
  refine x_ic0 dX6_comesBack_0 ?_
  refine x_istore_n dX6_comesBack_1 (by decide) rfl ?_
  refine x_eqM (congrArg (fun z => tv g M T z) (show w = mixW 0 (T 3) w by rw [mixW_0])) ?_
  exact l_comesBack hM 1301 0 (by omega) (by omega)
/-- above the moving part nothing of the row changes -/
def HF (w w' : Nat → Int32) : Prop := ∀ i, 1300 ≤ i → w' i = w i
theorem HF.rf {w : Nat → Int32} : HF w w := fun _ _ => rfl
theorem HF.tr {w w1 w2 : Nat → Int32} (h : HF w w1) (h2 : HF w1 w2) : HF w w2 := fun i hi => (h2 i hi).trans (h i hi)
theorem HF.up {w w1 : Nat → Int32} {i : Nat} {v : Int32} (h : HF w w1) (hi : i < 1300) : HF w (up w1 i v) := fun j hj => (up_n (by omega)).trans (h j hj)
theorem mixW_back {w w' b : Nat → Int32} (h : HF w w') : mixW 1300 (mixW 1300 w b) w' = w := by
  funext i
  unfold mixW
  by_cases hi : i < 1300
  · rw [if_pos hi, if_pos hi]
  · rw [if_neg hi]; exact h i (by omega)
theorem s3W_HF {pr : Int32} {ps n f rr nl nC : Nat} (hb : Bd n f rr nC) (hps : ps < 80) : ∀ (k i : Nat) (w : Nat → Int32), WS w n f rr nl nC → HF w (s3W pr ps n f nC k i w)
  | 0, _, _, _ => HF.rf
  | k + 1, i, w, h => by
    simp only [s3W]
    split
    · rename_i hi
      have hC := hb.2.2.2
      have hN := hb.1
      have hcv := h.2 i hi
      have hfr : HF w (csW pr ps i n f w) := fun j hj => csW_fr (by omega) hb.2.1 hps hcv (fun q hq => by omega) (by omega) (fun q hq => by omega)
      refine hfr.tr (s3W_HF (rr := rr) (nl := nl) hb hps k (i + 1) _ ?_)
      have := s3W_WS (pr := pr) hb hps 1 i w h
      simp only [s3W, if_pos hi] at this
      exact this
    · exact HF.rf
theorem secW_HF {tr : Option (Nat → Int32)} {pr : Int32} {ps n f rr nl nC : Nat} {w : Nat → Int32} (hb : Bd n f rr nC) (hps : ps < 80) (h : WS w n f rr nl nC) : HF w (secW tr pr ps n f rr nl nC w) := by
  have hC := hb.2.2.2
  have hN := hb.1
  have h1 : WS (s1W n (n + 1) 0 w) n f rr nl nC := ⟨WB_fr hb h.1 (fun j hj => s1W_fr (fun q _ => by rcases hj with h | h | h | h | h | ⟨q1, hq1, h | h⟩ <;> omega) _ _ _), fun c hc => CV_fr (h.2 c hc) (fun q hq => s1W_fr (fun q2 _ => by omega) _ _ _)⟩
  have h2 : WS (s2W tr n rr nl nC (n + 1) 0 (s1W n (n + 1) 0 w)) n f rr nl nC := ⟨WB_fr hb h1.1 (fun j hj => s2W_fr (fun q _ => by rcases hj with h | h | h | h | h | ⟨q1, hq1, h | h⟩ <;> omega) _ _ _), fun c hc => CV_fr (h1.2 c hc) (fun q hq => s2W_fr (fun q2 _ => by omega) _ _ _)⟩
  have a1 : HF w (s1W n (n + 1) 0 w) := fun j hj => s1W_fr (fun q _ => by omega) _ _ _
  have a2 : HF (s1W n (n + 1) 0 w) (s2W tr n rr nl nC (n + 1) 0 (s1W n (n + 1) 0 w)) := fun j hj => s2W_fr (fun q _ => by omega) _ _ _
  exact ((a1.tr a2).tr (s3W_HF (pr := pr) hb hps (nC + 1) 0 _ h2)).up (by decide)
theorem edW_HF {T : tT} {ps n f rr nl nC wi : Nat} (hb : Bd n f rr nC) (hps : ps < 80) : ∀ (q j : Nat) (w : Nat → Int32), WS w n f rr nl nC → HF w (edW (sdW T ps n f rr nl nC) n wi q j w).1
  | 0, _, _, _ => HF.rf
  | q + 1, j, w, h => by
    simp only [edW]
    split
    · split
      · exact (secW_HF hb hps h).tr (edW_HF hb hps q _ _ (secW_WS hb hps h))
      · exact HF.rf
    · exact HF.rf
theorem itW_HF {T : tT} {ps n f rr nl nC : Nat} (hb : Bd n f rr nC) (hps : ps < 80) : ∀ (m : Nat) (w : Nat → Int32), WS w n f rr nl nC → HF w (itW (sdW T ps n f rr nl nC) m w)
  | 0, _, _ => HF.rf
  | m + 1, w, h => (secW_HF hb hps h).tr (itW_HF hb hps m _ (secW_WS hb hps h))
/-- the row is in order: people, cars, rules -/
def nlW (w : Nat → Int32) (r : Nat) : Nat := wN w (1300 + r)
def GI (w : Nat → Int32) (n f nC : Nat) : Prop := (n ≤ 60 ∧ f ≤ 80 ∧ nC ≤ 4) ∧ w 0 = nI f ∧ w 1 = nI nC ∧ w 2 = nI n ∧ (∃ r, r < 3 ∧ w 4 = nI r) ∧ PI w n f ∧ (∀ c, c < nC → CV w c f) ∧ ∀ r, r < 3 → RV w r (nlW w r)
theorem GI.bd {w : Nat → Int32} {n f nC r : Nat} (h : GI w n f nC) (hr : r < 3) : Bd n f r nC := ⟨h.1.1, h.1.2.1, hr, h.1.2.2⟩
theorem GI.ws {w : Nat → Int32} {n f nC r : Nat} (h : GI w n f nC) (hr : r < 3) (h4 : w 4 = nI r) : WS w n f r (nlW w r) nC := by
  obtain ⟨-, h0, h1, h2, -, hp, hc, hv⟩ := h
  exact ⟨⟨h0, h1, h2, h4, hv r hr, hp⟩, hc⟩
theorem GI.ws4 {w : Nat → Int32} {n f nC r : Nat} (h : GI w n f nC) (hr : r < 3) : WS (up w 4 (nI r)) n f r (nlW w r) nC := by
  obtain ⟨-, h0, h1, h2, -, hp, hc, hv⟩ := h
  exact ⟨⟨by rw [up_n (by omega)]; exact h0, by rw [up_n (by omega)]; exact h1, by rw [up_n (by omega)]; exact h2, up_s, RV_fr hr (fun i hi => up_n (by omega)) (hv r hr), PI_fr hp (fun p _ => ⟨up_n (by omega), up_n (by omega)⟩)⟩, fun c h => CV_fr (hc c h) (fun k _ => up_n (by omega))⟩
def mxW (w : Nat → Int32) (n : Nat) : Nat → Nat → Int32 → Int32
  | 0, _, v => v
  | k + 1, i, v => if i < n then mxW w n k (i + 1) (if v < w (820 + 8 * i + 6) - w (820 + 8 * i + 0) then w (820 + 8 * i + 6) - w (820 + 8 * i + 0) else v) else v
def thE (sd : (Nat → Int32) → (Nat → Int32)) (n what : Nat) (e : (Nat → Int32) × Nat) : Int32 := if cnt (stp e.1 3) n = n then (if what = 0 then ovW e.1 (-1) n (n + 1) 0 (nI 0) else if what = 2 then nI e.2 else mxW e.1 n (n + 1) 0 (nI 0)) else -1
set_option maxHeartbeats 1000000 in
theorem l_thought {n0 s0 : Nat} (hM : tw0 + 17 ≤ fc_nx M) {n : Nat} (hn : n ≤ 60) (hw : w 2 = nI n) {wt : Nat} (hwt : wt = 1) {v1 : Option Value} {vf : Int32} {Q : Outcome → fc_M → Prop} (hk : ∀ v4 : Option Value, fc_X g l yX6_thought cX6_thought 5 (some .int) 12 n0 s0 (tv g M T w) 115 [some (.ref (fc_B g + tw0)), v1, some (.int (nI wt)), some (.int vf), v4] [] (Q)) : ∀ (k i : Nat) (v : Int32), i ≤ n → n < i + k → mxW w n k i v = vf → fc_X g l yX6_thought cX6_thought 5 (some .int) 12 n0 s0 (tv g M T w) 72 [some (.ref (fc_B g + tw0)), v1, some (.int (nI wt)), some (.int v), some (.int (nI i))] [] (Q) := by
  intro k
  induction k with
  | zero => intro i v h1 h2 hvf; omega
  | succ k ih =>
    intro i v h1 h2 hvf
    refine x_iload dX6_thought_72 rfl ?_
    refine x_aload_n dX6_thought_74 rfl ?_
    refine v_geta 0 hM dX6_thought_75 (by decide) rfl q1130 ?_
    refine x_ic2 dX6_thought_78 ?_
    refine v_wld hM dX6_thought_79 rfl (by omega) ?_
    refine x_top hw ?_
    refine x_icmpN_ge (tgt := 115) dX6_thought_80 (by decide) (by omega) (by omega) (fun hc80 => ?_) (fun hc80 => ?_)
    · rw [show v = vf by rw [← hvf, mxW, if_neg (Nat.not_lt.mpr hc80)]]
      exact hk _
    · refine x_iload_n dX6_thought_83 rfl ?_
      refine x_ic1 dX6_thought_84 ?_
      refine x_icmpN_ne (tgt := 115) dX6_thought_85 (by decide) (by omega) (by omega) (fun hc85 => ?_) (fun hc85 => ?_)
      · exact absurd hwt hc85
      · refine x_aload_n dX6_thought_88 rfl ?_
        refine x_iload dX6_thought_89 rfl ?_
        refine v_V1ie hM dX6_thought_91 kG_X6_X6_over kP_X6_over rfl (by omega) (by decide) (Nat.le_of_ble_eq_true rfl) (c_over hM rfl (by omega)) ?_
        refine x_iload_n dX6_thought_94 rfl ?_
        refine x_icmp_le (tgt := 107) dX6_thought_95 (by decide) (fun hc95 => ?_) (fun hc95 => ?_)
        · refine x_iload_n dX6_thought_107 rfl ?_
          refine x_istore_n dX6_thought_108 (by decide) rfl ?_
          refine x_iincN (n := 1) dX6_thought_109 (by decide) rfl (by decide) rfl ?_
          refine x_goto (tgt := 72) dX6_thought_112 (by decide) ?_
          refine ih (i + 1) _ (by omega) (by omega) ?_
          rw [← hvf, mxW, if_pos hc80, if_neg (Int32.not_lt.mpr hc95)]
        · refine x_aload_n dX6_thought_98 rfl ?_
          refine x_iload dX6_thought_99 rfl ?_
          refine v_V1ie hM dX6_thought_101 kG_X6_X6_over kP_X6_over rfl (by omega) (by decide) (Nat.le_of_ble_eq_true rfl) (c_over hM rfl (by omega)) ?_
          refine x_goto (tgt := 108) dX6_thought_104 (by decide) ?_
          refine x_istore_n dX6_thought_108 (by decide) rfl ?_
          refine x_iincN (n := 1) dX6_thought_109 (by decide) rfl (by decide) rfl ?_
          refine x_goto (tgt := 72) dX6_thought_112 (by decide) ?_
          refine ih (i + 1) _ (by omega) (by omega) ?_
          rw [← hvf, mxW, if_pos hc80, if_pos (Int32.not_le.mp hc95)]
end T45
