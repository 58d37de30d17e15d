set_option maxRecDepth 100000
section T53
variable {g : fc_G} {l : Launch} {M : fc_M} {T : tT} {w : Nat → Int32}
abbrev tS : Type := (Nat → Int32) × (Nat → Int32) × Int32
def SimG (T T2 : tT) : Prop := ∀ a k, a ≠ 8 → a ≠ 9 → a ≠ 11 → a ≠ 12 → ¬ (a = 0 ∧ k = 26) → ¬ (a = 0 ∧ k = 31) → ¬ (a = 0 ∧ k = 33) → T2 a k = T a k
theorem SimG.rf {T : tT} : SimG T T := fun _ _ _ _ _ _ _ _ _ => rfl
theorem SimG.tr {T T2 T3 : tT} (h : SimG T T2) (h2 : SimG T2 T3) : SimG T T3 := fun a k a1 a2 a3 a4 a5 a6 a7 => (h2 a k a1 a2 a3 a4 a5 a6 a7).trans (h a k a1 a2 a3 a4 a5 a6 a7)
theorem SimE.gg {T T2 : tT} (h : SimE T T2) : SimG T T2 := fun a k a1 a2 _ _ a5 a6 _ => h a k a1 a2 a5 a6
theorem SimG.ll {T T2 : tT} {v : Int32} (h : SimG T T2) : SimG T (tu T2 0 33 v) := fun a k a1 a2 a3 a4 a5 a6 a7 => (if_neg (fun z => a7 z)).trans (h a k a1 a2 a3 a4 a5 a6 a7)
theorem SimG.r11 {T T2 : tT} {i : Nat} {v : Int32} (h : SimG T T2) : SimG T (tu T2 11 i v) := fun a k a1 a2 a3 a4 a5 a6 a7 => (if_neg (fun z => a3 z.1)).trans (h a k a1 a2 a3 a4 a5 a6 a7)
theorem SimG.r12 {T T2 : tT} {i : Nat} {v : Int32} (h : SimG T T2) : SimG T (tu T2 12 i v) := fun a k a1 a2 a3 a4 a5 a6 a7 => (if_neg (fun z => a4 z.1)).trans (h a k a1 a2 a3 a4 a5 a6 a7)
/-- the part of the memory that the search writes -/
def gS (T : tT) (s : tS) : Prop := T 11 = s.1 ∧ T 12 = s.2.1 ∧ T 0 33 = s.2.2
def lfW (sdf : (Nat → Int32) → (Nat → Int32) → (Nat → Int32)) (w : Nat → Int32) (n : Nat) (s : tS) : tS := if cnt (stp (edW (sdf s.1) n 3000 3001 0 w).1 3) n = n then (if s.2.2 = -1 ∨ ovW (edW (sdf s.1) n 3000 3001 0 w).1 (-1) n (n + 1) 0 (nI 0) < s.2.2 then (s.1, mixW n s.1 s.2.1, ovW (edW (sdf s.1) n 3000 3001 0 w).1 (-1) n (n + 1) 0 (nI 0)) else s) else s
def tgL (w : Nat → Int32) (p nC : Nat) (body : tS → tS) : Nat → Nat → tS → tS
  | 0, _, s => s
  | k + 1, c, s => if c < nC then tgL w p nC body k (c + 1) (if w (100 + 80 * c + wN w (820 + 8 * p + 1)) = nI 1 then (if w (100 + 80 * c + wN w (820 + 8 * p + 2)) = nI 1 then body (up s.1 p (nI c), s.2) else s) else s) else s
def tgR (sdf : (Nat → Int32) → (Nat → Int32) → (Nat → Int32)) (w : Nat → Int32) (n nC : Nat) : Nat → Nat → tS → tS
  | 0, _, s => lfW sdf w n s
  | m + 1, p, s => tgL w p nC (tgR sdf w n nC m (p + 1)) (nC + 1) 0 s
theorem tu_row {T : tT} {j i : Nat} {v : Int32} : tu T j i v j = up (T j) i v := by
  funext k
  simp [tu, up]
theorem tu_oth {T : tT} {j i a : Nat} {v : Int32} (h : a ≠ j) : tu T j i v a = T a := by
  funext k
  exact if_neg (fun z => h z.1)
set_option maxHeartbeats 1000000 in
theorem l_tryCopy {n0 s0 : Nat} (hM : tw0 + 17 ≤ fc_nx M) {n f nC : Nat} (hG : GI w n f nC) (hn6 : n ≤ 6) {T0 : tT} {tr bs : Nat → Int32} {ls : Int32} {d : Nat} {v1 v2 : Option Value} {x3 : Int32} : ∀ (k i : Nat) (T : tT), SimG T0 T → gS T (tr, mixW i tr bs, ls) → i ≤ n → n < i + k → fc_X g l yX6_triesGiving cX6_triesGiving 5 (none) d n0 s0 (tv g M T w) 129 [some (.ref (fc_B g + tw0)), v1, v2, some (.int x3), some (.int (nI i))] [] (tv_v g M (fun T2 w2 => SimG T0 T2 ∧ w2 = w ∧ gS T2 (tr, mixW n tr bs, ls))) := by
  intro k
  induction k with
  | zero => intro i T hS hg h1 h2; omega
  | succ k ih =>
    intro i T hS hg h1 h2
    refine x_iload dX6_triesGiving_129 rfl ?_
    refine x_aload_n dX6_triesGiving_131 rfl ?_
    refine v_geta 0 hM dX6_triesGiving_132 (by decide) rfl q1130 ?_
    refine x_ic2 dX6_triesGiving_135 ?_
    refine v_wld hM dX6_triesGiving_136 rfl (by omega) ?_
    refine x_top hG.2.2.2.1 ?_
    refine x_icmpN_ge (tgt := 160) dX6_triesGiving_137 (by decide) (by omega) (by omega) (fun hc137 => ?_) (fun hc137 => ?_)
    · obtain rfl : i = n := by omega
      exact x_vret dX6_triesGiving_160 rfl (tv_vp ⟨hS, rfl, hg⟩)
    · refine x_aload_n dX6_triesGiving_140 rfl ?_
      refine v_geta 32 hM dX6_triesGiving_141 (by decide) rfl q1162 ?_
      refine x_iload dX6_triesGiving_144 rfl ?_
      refine x_aload_n dX6_triesGiving_146 rfl ?_
      refine v_geta 27 hM dX6_triesGiving_147 (by decide) rfl q1157 ?_
      refine x_iload dX6_triesGiving_150 rfl ?_
      refine v_iald 11 hM dX6_triesGiving_152 (by decide) (by decide) rfl rfl (by show _ < 60; omega) ?_
      refine v_iast 12 hM dX6_triesGiving_153 (by decide) (by decide) rfl rfl (by show _ < 60; omega) ?_
      refine x_iincN (n := 1) dX6_triesGiving_154 (by decide) rfl (by decide) rfl ?_
      refine x_goto (tgt := 129) dX6_triesGiving_157 (by decide) ?_
      refine ih (i + 1) _ (SimG.r12 hS) ⟨?_, ?_, ?_⟩ (by omega) (by omega)
      · rw [tu_oth (by decide)]; exact hg.1
      · rw [tu_row, hg.1, hg.2.1]; exact mixW_s
      · rw [tu_oth (by decide)]; exact hg.2.2
set_option maxHeartbeats 1000000 in
theorem b_try74 {n0 s0 : Nat} (hM : tw0 + 17 ≤ fc_nx M) {n f nC ps rr : Nat} (hG : GI w n f nC) (hn6 : n ≤ 6) (hr : rr < 3) (h4 : w 4 = nI rr) (hpl : ps < 80) {T0 : tT} {B : Nat → Int32} (h3 : T0 3 = mixW 1300 w B) (h28 : T0 0 28 = nI 1) (hps : T0 0 30 = nI ps) {d : Nat} (hd : 12 ≤ d) {s : tS} (hS : SimG T0 T) (hg : gS T s) {x1 : Int32} {v2 v3 v4 : Option Value} : fc_X g l yX6_triesGiving cX6_triesGiving 5 (none) d n0 s0 (tv g M T w) 74 [some (.ref (fc_B g + tw0)), some (.int x1), v2, v3, v4] [] (tv_v g M (fun T2 w2 => SimG T0 T2 ∧ w2 = w ∧ gS T2 (lfW (fun tr => secW (some tr) (T0 0 29) ps n f rr (nlW w rr) nC) w n s))) := by
  have hC := hG.1.2.2
  have hF := hG.1.2.1
  have hN := hG.1.1
  refine x_aload_n dX6_triesGiving_74 rfl ?_
  refine x_sipush (v := nI 3000) dX6_triesGiving_75 (by decide) ?_
  have hps1 : T 0 30 = nI ps := (hS 0 30 (by decide) (by decide) (by decide) (by decide) (by decide) (by decide) (by decide)).trans hps
  refine v_V1i hM dX6_triesGiving_78 kG_X6_X6_ends kP_X6_ends rfl (by omega) (by decide) (Nat.le_of_ble_eq_true rfl) (c_ends (wi := 3000) (T := T) (w := w) hM (hG.bd hr) hpl hps1 (hG.ws hr h4) (by omega) rfl) (fun r1 T4 w1 q1 => ?_)
  obtain ⟨hS1, rfl, hnd, rfl⟩ := q1
  have hsd : sdW T ps n f rr (nlW w rr) nC = secW (some s.1) (T0 0 29) ps n f rr (nlW w rr) nC := by
    unfold sdW trO
    rw [hS 0 28 (by decide) (by decide) (by decide) (by decide) (by decide) (by decide) (by decide), h28, if_neg (by decide), hg.1, hS 0 29 (by decide) (by decide) (by decide) (by decide) (by decide) (by decide) (by decide)]
  rw [hsd] at hnd ⊢
  have hW2 := edW_WS (T := T) (wi := 3000) (hG.bd hr) hpl 3001 0 _ (hG.ws hr h4)
  have hF2 := edW_HF (T := T) (wi := 3000) (hG.bd hr) hpl 3001 0 _ (hG.ws hr h4)
  rw [hsd] at hW2 hF2
  have hlf : lfW (fun tr => secW (some tr) (T0 0 29) ps n f rr (nlW w rr) nC) w n s = (if cnt (stp (edW (secW (some s.1) (T0 0 29) ps n f rr (nlW w rr) nC) n 3000 3001 0 w).1 3) n = n then (if s.2.2 = -1 ∨ ovW (edW (secW (some s.1) (T0 0 29) ps n f rr (nlW w rr) nC) n 3000 3001 0 w).1 (-1) n (n + 1) 0 (nI 0) < s.2.2 then (s.1, mixW n s.1 s.2.1, ovW (edW (secW (some s.1) (T0 0 29) ps n f rr (nlW w rr) nC) n 3000 3001 0 w).1 (-1) n (n + 1) 0 (nI 0)) else s) else s) := rfl
  generalize hEE : (edW (secW (some s.1) (T0 0 29) ps n f rr (nlW w rr) nC) n 3000 3001 0 w) = E at hnd hW2 hF2 hlf ⊢
  have h34 : T4 3 = mixW 1300 w B := funext fun k => (hS1 3 k (by decide) (by decide) (fun z => absurd z.1 (by decide)) (fun z => absurd z.1 (by decide))).trans ((hS 3 k (by decide) (by decide) (by decide) (by decide) (fun z => absurd z.1 (by decide)) (fun z => absurd z.1 (by decide)) (fun z => absurd z.1 (by decide))).trans (congrFun h3 k))
  have hS4 : SimG T0 T4 := hS.tr hS1.gg
  have hg4 : gS T4 s := ⟨(funext fun k => hS1 11 k (by decide) (by decide) (fun z => absurd z.1 (by decide)) (fun z => absurd z.1 (by decide))).trans hg.1, (funext fun k => hS1 12 k (by decide) (by decide) (fun z => absurd z.1 (by decide)) (fun z => absurd z.1 (by decide))).trans hg.2.1, (hS1 0 33 (by decide) (by decide) (by decide) (by decide)).trans hg.2.2⟩
  refine x_istore_n dX6_triesGiving_81 (by decide) rfl ?_
  refine x_iload_n dX6_triesGiving_82 rfl ?_
  refine x_ifB_eq (tgt := 94) dX6_triesGiving_83 (by decide) (fun hc83 => ?_) (fun hc83 => ?_)
  · refine x_icm1 dX6_triesGiving_94 ?_
    refine x_istore_n dX6_triesGiving_95 (by decide) rfl ?_
    refine x_aload_n dX6_triesGiving_96 rfl ?_
    refine v_V0ve hM dX6_triesGiving_97 kG_X6_X6_comesBack kP_X6_comesBack rfl (by omega) (by decide) (Nat.le_of_ble_eq_true rfl) (c_comesBack hM) ?_
    refine x_eqM (congrArg (fun z => tv g M T4 z) (show mixW 1300 (T4 3) E.1 = w by rw [h34]; exact mixW_back hF2)) ?_
    refine x_iload_n dX6_triesGiving_100 rfl ?_
    refine x_ifB_eq (tgt := 120) dX6_triesGiving_101 (by decide) (fun hc101 => ?_) (fun hc101 => ?_)
    · rw [hlf, if_neg hc83]
      exact x_vret dX6_triesGiving_120 rfl (tv_vp ⟨hS4, rfl, hg4⟩)
    · exact absurd hc101 hc83
  · refine x_aload_n dX6_triesGiving_86 rfl ?_
    refine x_icm1 dX6_triesGiving_87 ?_
    refine v_V1ie hM dX6_triesGiving_88 kG_X6_X6_overAll kP_X6_overAll rfl (by omega) (by decide) (Nat.le_of_ble_eq_true rfl) (c_overAll hM hN hW2.1.2.2.1) ?_
    refine x_goto (tgt := 95) dX6_triesGiving_91 (by decide) ?_
    refine x_istore_n dX6_triesGiving_95 (by decide) rfl ?_
    refine x_aload_n dX6_triesGiving_96 rfl ?_
    refine v_V0ve hM dX6_triesGiving_97 kG_X6_X6_comesBack kP_X6_comesBack rfl (by omega) (by decide) (Nat.le_of_ble_eq_true rfl) (c_comesBack hM) ?_
    refine x_eqM (congrArg (fun z => tv g M T4 z) (show mixW 1300 (T4 3) E.1 = w by rw [h34]; exact mixW_back hF2)) ?_
    refine x_iload_n dX6_triesGiving_100 rfl ?_
    refine x_ifB_eq (tgt := 120) dX6_triesGiving_101 (by decide) (fun hc101 => ?_) (fun hc101 => ?_)
    · exact absurd hc83 hc101
    · refine x_aload_n dX6_triesGiving_104 rfl ?_
      refine v_geti 33 hM dX6_triesGiving_105 (by decide) rfl q1163 ?_
      refine x_top hg4.2.2 ?_
      refine x_icm1 dX6_triesGiving_108 ?_
      refine x_icmp_eq (tgt := 121) dX6_triesGiving_109 (by decide) (fun hc109 => ?_) (fun hc109 => ?_)
      · refine x_aload_n dX6_triesGiving_121 rfl ?_
        refine x_iload_n dX6_triesGiving_122 rfl ?_
        refine v_puti 33 hM dX6_triesGiving_123 (by decide) rfl q1163 rfl rfl rfl ?_
        refine x_ic0 dX6_triesGiving_126 ?_
        refine x_istore dX6_triesGiving_127 (by decide) rfl ?_
        rw [hlf, if_pos hc83, if_pos (Or.inl hc109)]
        exact l_tryCopy hM hG hn6 (n + 1) 0 _ (SimG.ll hS4) ⟨by rw [tu_oth (by decide)]; exact hg4.1, by rw [tu_oth (by decide), mixW_0]; exact hg4.2.1, rfl⟩ (by omega) (by omega)
      · refine x_iload_n dX6_triesGiving_112 rfl ?_
        refine x_aload_n dX6_triesGiving_113 rfl ?_
        refine v_geti 33 hM dX6_triesGiving_114 (by decide) rfl q1163 ?_
        refine x_top hg4.2.2 ?_
        refine x_icmp_lt (tgt := 121) dX6_triesGiving_117 (by decide) (fun hc117 => ?_) (fun hc117 => ?_)
        · refine x_aload_n dX6_triesGiving_121 rfl ?_
          refine x_iload_n dX6_triesGiving_122 rfl ?_
          refine v_puti 33 hM dX6_triesGiving_123 (by decide) rfl q1163 rfl rfl rfl ?_
          refine x_ic0 dX6_triesGiving_126 ?_
          refine x_istore dX6_triesGiving_127 (by decide) rfl ?_
          rw [hlf, if_pos hc83, if_pos (Or.inr hc117)]
          exact l_tryCopy hM hG hn6 (n + 1) 0 _ (SimG.ll hS4) ⟨by rw [tu_oth (by decide)]; exact hg4.1, by rw [tu_oth (by decide), mixW_0]; exact hg4.2.1, rfl⟩ (by omega) (by omega)
        · rw [hlf, if_pos hc83, if_neg (fun z => z.elim hc109 hc117)]
          exact x_vret dX6_triesGiving_120 rfl (tv_vp ⟨hS4, rfl, hg4⟩)
theorem kG_X6_X6_triesGiving : GoodIn lw_all (wsV RX6 365 RX6 yX6_triesGiving (ws_ yX6_triesGiving cX6_triesGiving 5 (none))) := lw_V q1570 q1572 qs107 q124 q1573
theorem kP_X6_triesGiving : kPar yX6_triesGiving 1 := by decide +kernel
set_option maxHeartbeats 1000000 in
theorem l_try12 {n0 s0 : Nat} (hM : tw0 + 17 ≤ fc_nx M) {n f nC pp d d2 : Nat} (hG : GI w n f nC) (hp : pp < n) (hp6 : pp < 6) {T0 : tT} (hd2 : d2 + 1 ≤ d) (hd0 : 3 ≤ d) {body : tS → tS} (hi : ∀ (T : tT) (s : tS), SimG T0 T → gS T s → fc_CX g l yX6_triesGiving cX6_triesGiving 5 (none) d2 [.ref (fc_B g + tw0), .int (nI (pp + 1))] (tv g M T w) (tv_v g M (fun T2 w2 => SimG T0 T2 ∧ w2 = w ∧ gS T2 (body s)))) {v3 v4 : Option Value} : ∀ (k c : Nat) (T : tT) (s : tS), SimG T0 T → gS T s → c ≤ nC → nC < c + k → fc_X g l yX6_triesGiving cX6_triesGiving 5 (none) d n0 s0 (tv g M T w) 12 [some (.ref (fc_B g + tw0)), some (.int (nI pp)), some (.int (nI c)), v3, v4] [] (tv_v g M (fun T2 w2 => SimG T0 T2 ∧ w2 = w ∧ gS T2 (tgL w pp nC body k c s))) := by
  intro k
  induction k with
  | zero => intro c T s hS hg h1 h2; omega
  | succ k ih =>
    intro c T s hS hg h1 h2
    have hC := hG.1.2.2
    have hF := hG.1.2.1
    have hN := hG.1.1
    obtain ⟨fa, fb, hfa, hfb, hfa2, hfb2, -⟩ := hG.2.2.2.2.2.1 pp hp
    have ea : wN w (820 + 8 * pp + 1) = fa := by rw [wN, hfa, nI_clamp (by omega)]
    have eb : wN w (820 + 8 * pp + 2) = fb := by rw [wN, hfb, nI_clamp (by omega)]
    refine x_iload_n dX6_triesGiving_12 rfl ?_
    refine x_aload_n dX6_triesGiving_13 rfl ?_
    refine v_geta 0 hM dX6_triesGiving_14 (by decide) rfl q1130 ?_
    refine x_ic1 dX6_triesGiving_17 ?_
    refine v_wld hM dX6_triesGiving_18 rfl (by omega) ?_
    refine x_top hG.2.2.1 ?_
    refine x_icmpN_ge (tgt := 73) dX6_triesGiving_19 (by decide) (by omega) (by omega) (fun hc19 => ?_) (fun hc19 => ?_)
    · rw [tgL, if_neg (Nat.not_lt.mpr hc19)]
      exact x_vret dX6_triesGiving_73 rfl (tv_vp ⟨hS, rfl, hg⟩)
    · refine x_aload_n dX6_triesGiving_22 rfl ?_
      refine x_iload_n dX6_triesGiving_23 rfl ?_
      refine x_aload_n dX6_triesGiving_24 rfl ?_
      refine x_iload_n dX6_triesGiving_25 rfl ?_
      refine x_ic1 dX6_triesGiving_26 ?_
      refine v_V2ie hM dX6_triesGiving_27 kG_X6_X6_own kP_X6_own rfl (by omega) (by decide) (Nat.le_of_ble_eq_true rfl) (c_own hM rfl rfl (by omega)) ?_
      refine x_top hfa ?_
      refine v_V2ie hM dX6_triesGiving_30 kG_X6_X6_serves kP_X6_serves rfl (by omega) (by decide) (Nat.le_of_ble_eq_true rfl) (c_serves hM rfl rfl (by omega)) ?_
      refine x_top (bI_congr (q := w (100 + 80 * c + wN w (820 + 8 * pp + 1)) = nI 1) (by rw [ea])) ?_
      refine x_ifB_eq (tgt := 67) dX6_triesGiving_33 (by decide) (fun hc33 => ?_) (fun hc33 => ?_)
      · refine x_iincN (n := 1) dX6_triesGiving_67 (by decide) rfl (by decide) rfl ?_
        refine x_goto (tgt := 12) dX6_triesGiving_70 (by decide) ?_
        rw [tgL, if_pos hc19, if_neg hc33]
        exact ih (c + 1) _ _ hS hg (by omega) (by omega)
      · refine x_aload_n dX6_triesGiving_36 rfl ?_
        refine x_iload_n dX6_triesGiving_37 rfl ?_
        refine x_aload_n dX6_triesGiving_38 rfl ?_
        refine x_iload_n dX6_triesGiving_39 rfl ?_
        refine x_ic2 dX6_triesGiving_40 ?_
        refine v_V2ie hM dX6_triesGiving_41 kG_X6_X6_own kP_X6_own rfl (by omega) (by decide) (Nat.le_of_ble_eq_true rfl) (c_own hM rfl rfl (by omega)) ?_
        refine x_top hfb ?_
        refine v_V2ie hM dX6_triesGiving_44 kG_X6_X6_serves kP_X6_serves rfl (by omega) (by decide) (Nat.le_of_ble_eq_true rfl) (c_serves hM rfl rfl (by omega)) ?_
        refine x_top (bI_congr (q := w (100 + 80 * c + wN w (820 + 8 * pp + 2)) = nI 1) (by rw [eb])) ?_
        refine x_ifB_ne (tgt := 53) dX6_triesGiving_47 (by decide) (fun hc47 => ?_) (fun hc47 => ?_)
        · refine x_aload_n dX6_triesGiving_53 rfl ?_
          refine v_geta 27 hM dX6_triesGiving_54 (by decide) rfl q1157 ?_
          refine x_iload_n dX6_triesGiving_57 rfl ?_
          refine x_iload_n dX6_triesGiving_58 rfl ?_
          refine v_iast 11 hM dX6_triesGiving_59 (by decide) (by decide) rfl rfl (by show _ < 60; omega) ?_
          refine x_aload_n dX6_triesGiving_60 rfl ?_
          refine x_iload_n dX6_triesGiving_61 rfl ?_
          refine x_ic1 dX6_triesGiving_62 ?_
          refine x_iaddN dX6_triesGiving_63 ?_
          refine v_V1v hM dX6_triesGiving_64 kG_X6_X6_triesGiving kP_X6_triesGiving rfl (by omega) (by decide) (Nat.le_of_ble_eq_true rfl) (hi _ (up s.1 pp (nI c), s.2) (SimG.r11 hS) ⟨by rw [tu_row, hg.1], by rw [tu_oth (by decide)]; exact hg.2.1, by rw [tu_oth (by decide)]; exact hg.2.2⟩) (fun T5 w5 q5 => ?_)
          obtain ⟨hS5, e5, hg5⟩ := q5
          rw [e5]
          refine x_iincN (n := 1) dX6_triesGiving_67 (by decide) rfl (by decide) rfl ?_
          refine x_goto (tgt := 12) dX6_triesGiving_70 (by decide) ?_
          rw [tgL, if_pos hc19, if_pos hc33, if_pos hc47]
          exact ih (c + 1) _ _ hS5 hg5 (by omega) (by omega)
        · refine x_goto (tgt := 67) dX6_triesGiving_50 (by decide) ?_
          refine x_iincN (n := 1) dX6_triesGiving_67 (by decide) rfl (by decide) rfl ?_
          refine x_goto (tgt := 12) dX6_triesGiving_70 (by decide) ?_
          rw [tgL, if_pos hc19, if_pos hc33, if_neg hc47]
          exact ih (c + 1) _ _ hS hg (by omega) (by omega)
set_option maxHeartbeats 1000000 in
theorem c_tries (hM : tw0 + 17 ≤ fc_nx M) {n f nC ps rr : Nat} (hG : GI w n f nC) (hn6 : n ≤ 6) (hr : rr < 3) (h4 : w 4 = nI rr) (hpl : ps < 80) {T0 : tT} {B : Nat → Int32} (h3 : T0 3 = mixW 1300 w B) (h28 : T0 0 28 = nI 1) (hps : T0 0 30 = nI ps) : ∀ (m pp : Nat) (T : tT) (s : tS), pp + m = n → SimG T0 T → gS T s → fc_CX g l yX6_triesGiving cX6_triesGiving 5 (none) (13 + m) [.ref (fc_B g + tw0), .int (nI pp)] (tv g M T w) (tv_v g M (fun T2 w2 => SimG T0 T2 ∧ w2 = w ∧ gS T2 (tgR (fun tr => secW (some tr) (T0 0 29) ps n f rr (nlW w rr) nC) w n nC m pp s))) := by
  have hN := hG.1.1
  intro m
  induction m with
  | zero =>
    intro pp T s hpm hS hg
    refine fc_enter (by decide) (Nat.le_of_ble_eq_true rfl) rfl ?_
    refine x_iload_n dX6_triesGiving_0 rfl ?_
    refine x_aload_n dX6_triesGiving_1 rfl ?_
    refine v_geta 0 hM dX6_triesGiving_2 (by decide) rfl q1130 ?_
    refine x_ic2 dX6_triesGiving_5 ?_
    refine v_wld hM dX6_triesGiving_6 rfl (by omega) ?_
    refine x_top hG.2.2.2.1 ?_
    refine x_icmpN_ge (tgt := 74) dX6_triesGiving_7 (by decide) (by omega) (by omega) (fun hc7 => ?_) (fun hc7 => ?_)
    · exact b_try74 hM hG hn6 hr h4 hpl h3 h28 hps (by omega) hS hg
    · exact absurd hc7 (by omega)
  | succ m ih =>
    intro pp T s hpm hS hg
    refine fc_enter (by decide) (Nat.le_of_ble_eq_true rfl) rfl ?_
    refine x_iload_n dX6_triesGiving_0 rfl ?_
    refine x_aload_n dX6_triesGiving_1 rfl ?_
    refine v_geta 0 hM dX6_triesGiving_2 (by decide) rfl q1130 ?_
    refine x_ic2 dX6_triesGiving_5 ?_
    refine v_wld hM dX6_triesGiving_6 rfl (by omega) ?_
    refine x_top hG.2.2.2.1 ?_
    refine x_icmpN_ge (tgt := 74) dX6_triesGiving_7 (by decide) (by omega) (by omega) (fun hc7 => ?_) (fun hc7 => ?_)
    · exact absurd hc7 (by omega)
    · refine x_ic0 dX6_triesGiving_10 ?_
      refine x_istore_n dX6_triesGiving_11 (by decide) rfl ?_
      exact l_try12 (d2 := 13 + m) hM hG (by omega) (by omega) (by omega) (by omega) (fun T9 s9 a1 a2 => ih (pp + 1) T9 s9 (by omega) a1 a2) (nC + 1) 0 T s hS hg (by omega) (by omega)
end T53
