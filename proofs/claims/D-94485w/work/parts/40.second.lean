set_option maxRecDepth 100000
section T40
variable {g : fc_G} {l : Launch} {M : fc_M} {T : tT} {w : Nat → Int32}
def wN (w : Nat → Int32) (i : Nat) : Nat := (w i).toNatClampNeg
def okC (w : Nat → Int32) (p c : Nat) : Prop := ¬ w (10 + 20 * c + 4) = nI 1 ∧ w (100 + 80 * c + wN w (820 + 8 * p + 1)) = nI 1 ∧ w (100 + 80 * c + wN w (820 + 8 * p + 2)) = nI 1
def bcW (w : Nat → Int32) (p n rr nl nC : Nat) : Nat → Nat → Int32 → Int32 → Int32
  | 0, _, best, _ => best
  | q + 1, c, best, least => if c < nC then (if ¬ w (10 + 20 * c + 4) = nI 1 ∧ w (100 + 80 * c + wN w (820 + 8 * p + 1)) = nI 1 ∧ w (100 + 80 * c + wN w (820 + 8 * p + 2)) = nI 1 then (match tlW w p c n rr nl with
      | none => bcW w p n rr nl nC q (c + 1) best least
      | some v => if best = -1 ∨ v < least then bcW w p n rr nl nC q (c + 1) (nI c) v else bcW w p n rr nl nC q (c + 1) best least) else bcW w p n rr nl nC q (c + 1) best least) else best
def gcW (tr : Option (Nat → Int32)) (p n rr nl nC : Nat) (w : Nat → Int32) : Nat → Int32 := match tr with
  | some f => up w (820 + 8 * p + 4) (f p)
  | none => up w (820 + 8 * p + 4) (bcW w p n rr nl nC (nC + 1) 0 (-1) (nI 0))
def trO (T : tT) : Option (Nat → Int32) := if T 0 28 = 0 then none else some (T 11)
theorem trO_sim {T T2 : tT} (h : Sim T T2) : trO T2 = trO T := by
  unfold trO
  rw [h 0 28 (by decide) (by decide) (by decide), show T2 11 = T 11 from funext fun k => h 11 k (by decide) (by decide) (fun z => absurd z.1 (by decide))]
theorem kG_X6_X6_serves : GoodIn lw_all (wsV RX6 302 RX6 yX6_serves (ws_ yX6_serves cX6_serves 3 (some .boolean))) := lw_V q1484 q1486 qs92 q124 q1487
theorem kP_X6_serves : kPar yX6_serves 2 := by decide +kernel
theorem kG_X6_X6_tells : GoodIn lw_all (wsV RX6 294 RX6 yX6_tells (ws_ yX6_tells cX6_tells 7 (some .boolean))) := lw_V q1441 q1443 qs84 q124 q1444
theorem kP_X6_tells : kPar yX6_tells 3 := by decide +kernel
set_option maxHeartbeats 1000000 in
theorem l_givesCall {n0 s0 : Nat} (hM : tw0 + 17 ≤ fc_nx M) {n rr nl nC f pp : Nat} (hn : n ≤ 60) (hw : w 2 = nI n) (hr : rr < 3) (hw4 : w 4 = nI rr) (hRV : RV w rr nl) (hC : nC ≤ 4) (hw1 : w 1 = nI nC) (hf : f ≤ 80) (hp : pp < n) (hPI : PI w n f) {T0 : tT} : ∀ (k c : Nat) (best least : Int32) (T : tT), Sim T0 T → c ≤ nC → nC < c + k → fc_X g l yX6_givesCall cX6_givesCall 5 (none) 4 n0 s0 (tv g M T w) 27 [some (.ref (fc_B g + tw0)), some (.int (nI pp)), some (.int best), some (.int least), some (.int (nI c))] [] (tv_v g M (fun T2 w2 => Sim T0 T2 ∧ w2 = up w (820 + 8 * pp + 4) (bcW w pp n rr nl nC k c best least))) := by
  intro k
  induction k with
  | zero => intro c best least T hS h1 h2; omega
  | succ k ih =>
    intro c best least T hS h1 h2
    obtain ⟨fa, fb, hfa, hfb, hfa2, hfb2, -⟩ := hPI pp hp
    have ea : wN w (820 + 8 * pp + 1) = fa := by rw [wN, hfa, nI_clamp (by omega)]
    have eb : wN w (820 + 8 * pp + 2) = fb := by rw [wN, hfb, nI_clamp (by omega)]
    refine x_iload dX6_givesCall_27 rfl ?_
    refine x_aload_n dX6_givesCall_29 rfl ?_
    refine v_geta 0 hM dX6_givesCall_30 (by decide) rfl q1130 ?_
    refine x_ic1 dX6_givesCall_33 ?_
    refine v_wld hM dX6_givesCall_34 rfl (by omega) ?_
    refine x_top hw1 ?_
    refine x_icmpN_ge (tgt := 128) dX6_givesCall_35 (by decide) (by omega) (by omega) (fun hc35 => ?_) (fun hc35 => ?_)
    · refine x_aload_n dX6_givesCall_128 rfl ?_
      refine x_iload_n dX6_givesCall_129 rfl ?_
      refine x_ic4 dX6_givesCall_130 ?_
      refine x_iload_n dX6_givesCall_131 rfl ?_
      refine v_V3ve hM dX6_givesCall_132 kG_X6_X6_gives kP_X6_gives rfl (by omega) (by decide) (Nat.le_of_ble_eq_true rfl) (c_gives hM rfl rfl (by omega)) ?_
      refine x_vret dX6_givesCall_135 rfl (tv_vp ⟨hS, ?_⟩)
      rw [bcW, if_neg (Nat.not_lt.mpr hc35)]
    · refine x_aload_n dX6_givesCall_38 rfl ?_
      refine x_iload dX6_givesCall_39 rfl ?_
      refine x_ic4 dX6_givesCall_41 ?_
      refine v_V2ie hM dX6_givesCall_42 kG_X6_X6_ofCar kP_X6_ofCar rfl (by omega) (by decide) (Nat.le_of_ble_eq_true rfl) (c_ofCar hM rfl rfl (by omega)) ?_
      refine x_ic1 dX6_givesCall_45 ?_
      refine x_icmp_eq (tgt := 122) dX6_givesCall_46 (by decide) (fun hc46 => ?_) (fun hc46 => ?_)
      · refine x_iincN (n := 1) dX6_givesCall_122 (by decide) rfl (by decide) rfl ?_
        refine x_goto (tgt := 27) dX6_givesCall_125 (by decide) ?_
        rw [show bcW w pp n rr nl nC (k + 1) c best least = bcW w pp n rr nl nC k (c + 1) best least by rw [bcW, if_pos hc35, if_neg (show ¬ (¬ w (10 + 20 * c + 4) = nI 1 ∧ w (100 + 80 * c + wN w (820 + 8 * pp + 1)) = nI 1 ∧ w (100 + 80 * c + wN w (820 + 8 * pp + 2)) = nI 1) from fun z => z.1 hc46)]]
        exact ih (c + 1) best least _ hS (by omega) (by omega)
      · refine x_aload_n dX6_givesCall_49 rfl ?_
        refine x_iload dX6_givesCall_50 rfl ?_
        refine x_aload_n dX6_givesCall_52 rfl ?_
        refine x_iload_n dX6_givesCall_53 rfl ?_
        refine x_ic1 dX6_givesCall_54 ?_
        refine v_V2ie hM dX6_givesCall_55 kG_X6_X6_own kP_X6_own rfl (by omega) (by decide) (Nat.le_of_ble_eq_true rfl) (c_own hM rfl rfl (by omega)) ?_
        refine x_top hfa ?_
        refine v_V2ie hM dX6_givesCall_58 kG_X6_X6_serves kP_X6_serves rfl (by omega) (by decide) (Nat.le_of_ble_eq_true rfl) (c_serves hM rfl rfl (by omega)) ?_
        refine x_top (bI_congr (q := w (100 + 80 * c + wN w (820 + 8 * pp + 1)) = nI 1) (by rw [ea])) ?_
        refine x_ifB_eq (tgt := 122) dX6_givesCall_61 (by decide) (fun hc61 => ?_) (fun hc61 => ?_)
        · refine x_iincN (n := 1) dX6_givesCall_122 (by decide) rfl (by decide) rfl ?_
          refine x_goto (tgt := 27) dX6_givesCall_125 (by decide) ?_
          rw [show bcW w pp n rr nl nC (k + 1) c best least = bcW w pp n rr nl nC k (c + 1) best least by rw [bcW, if_pos hc35, if_neg (show ¬ (¬ w (10 + 20 * c + 4) = nI 1 ∧ w (100 + 80 * c + wN w (820 + 8 * pp + 1)) = nI 1 ∧ w (100 + 80 * c + wN w (820 + 8 * pp + 2)) = nI 1) from fun z => hc61 z.2.1)]]
          exact ih (c + 1) best least _ hS (by omega) (by omega)
        · refine x_aload_n dX6_givesCall_64 rfl ?_
          refine x_iload dX6_givesCall_65 rfl ?_
          refine x_aload_n dX6_givesCall_67 rfl ?_
          refine x_iload_n dX6_givesCall_68 rfl ?_
          refine x_ic2 dX6_givesCall_69 ?_
          refine v_V2ie hM dX6_givesCall_70 kG_X6_X6_own kP_X6_own rfl (by omega) (by decide) (Nat.le_of_ble_eq_true rfl) (c_own hM rfl rfl (by omega)) ?_
          refine x_top hfb ?_
          refine v_V2ie hM dX6_givesCall_73 kG_X6_X6_serves kP_X6_serves rfl (by omega) (by decide) (Nat.le_of_ble_eq_true rfl) (c_serves hM rfl rfl (by omega)) ?_
          refine x_top (bI_congr (q := w (100 + 80 * c + wN w (820 + 8 * pp + 2)) = nI 1) (by rw [eb])) ?_
          refine x_ifB_eq (tgt := 122) dX6_givesCall_76 (by decide) (fun hc76 => ?_) (fun hc76 => ?_)
          · refine x_iincN (n := 1) dX6_givesCall_122 (by decide) rfl (by decide) rfl ?_
            refine x_goto (tgt := 27) dX6_givesCall_125 (by decide) ?_
            rw [show bcW w pp n rr nl nC (k + 1) c best least = bcW w pp n rr nl nC k (c + 1) best least by rw [bcW, if_pos hc35, if_neg (show ¬ (¬ w (10 + 20 * c + 4) = nI 1 ∧ w (100 + 80 * c + wN w (820 + 8 * pp + 1)) = nI 1 ∧ w (100 + 80 * c + wN w (820 + 8 * pp + 2)) = nI 1) from fun z => hc76 z.2.2)]]
            exact ih (c + 1) best least _ hS (by omega) (by omega)
          · refine x_aload_n dX6_givesCall_79 rfl ?_
            refine x_iload_n dX6_givesCall_80 rfl ?_
            refine x_iload dX6_givesCall_81 rfl ?_
            refine x_aload_n dX6_givesCall_83 rfl ?_
            refine v_geta 0 hM dX6_givesCall_84 (by decide) rfl q1130 ?_
            refine x_ic4 dX6_givesCall_87 ?_
            refine v_wld hM dX6_givesCall_88 rfl (by omega) ?_
            refine x_top hw4 ?_
            refine v_V3i hM dX6_givesCall_89 kG_X6_X6_tells kP_X6_tells rfl (by omega) (by decide) (Nat.le_of_ble_eq_true rfl) (c_tells hM hr hRV hn hw (by omega) (by omega) rfl rfl rfl) (fun r1 T1 w1 q1 => ?_)
            obtain ⟨rfl, hS2, hq⟩ := q1
            rcases ht : tlW w pp c n rr nl with _ | v <;> rw [ht] at hq
            · subst hq
              refine x_ifN_ne (tgt := 98) dX6_givesCall_92 (by decide) (by omega) (fun hc92 => ?_) (fun hc92 => ?_)
              · exact absurd hc92 (by decide)
              · refine x_goto (tgt := 122) dX6_givesCall_95 (by decide) ?_
                refine x_iincN (n := 1) dX6_givesCall_122 (by decide) rfl (by decide) rfl ?_
                refine x_goto (tgt := 27) dX6_givesCall_125 (by decide) ?_
                rw [show bcW w pp n rr nl nC (k + 1) c best least = bcW w pp n rr nl nC k (c + 1) best least by rw [bcW, if_pos hc35, if_pos (show ¬ w (10 + 20 * c + 4) = nI 1 ∧ w (100 + 80 * c + wN w (820 + 8 * pp + 1)) = nI 1 ∧ w (100 + 80 * c + wN w (820 + 8 * pp + 2)) = nI 1 from ⟨hc46, hc61, hc76⟩), ht]]
                exact ih (c + 1) best least _ (hS.tr hS2) (by omega) (by omega)
            · obtain ⟨rfl, hv⟩ := hq
              refine x_ifN_ne (tgt := 98) dX6_givesCall_92 (by decide) (by omega) (fun hc92 => ?_) (fun hc92 => ?_)
              · refine x_iload_n dX6_givesCall_98 rfl ?_
                refine x_icm1 dX6_givesCall_99 ?_
                refine x_icmp_eq (tgt := 114) dX6_givesCall_100 (by decide) (fun hc100 => ?_) (fun hc100 => ?_)
                · refine x_iload dX6_givesCall_114 rfl ?_
                  refine x_istore_n dX6_givesCall_116 (by decide) rfl ?_
                  refine x_aload_n dX6_givesCall_117 rfl ?_
                  refine v_geti 26 hM dX6_givesCall_118 (by decide) rfl q1156 ?_
                  refine x_top hv ?_
                  refine x_istore_n dX6_givesCall_121 (by decide) rfl ?_
                  refine x_iincN (n := 1) dX6_givesCall_122 (by decide) rfl (by decide) rfl ?_
                  refine x_goto (tgt := 27) dX6_givesCall_125 (by decide) ?_
                  rw [show bcW w pp n rr nl nC (k + 1) c best least = bcW w pp n rr nl nC k (c + 1) (nI c) v by rw [bcW, if_pos hc35, if_pos (show ¬ w (10 + 20 * c + 4) = nI 1 ∧ w (100 + 80 * c + wN w (820 + 8 * pp + 1)) = nI 1 ∧ w (100 + 80 * c + wN w (820 + 8 * pp + 2)) = nI 1 from ⟨hc46, hc61, hc76⟩), ht]; exact if_pos (Or.inl hc100)]
                  exact ih (c + 1) (nI c) v _ (hS.tr hS2) (by omega) (by omega)
                · refine x_aload_n dX6_givesCall_103 rfl ?_
                  refine v_geti 26 hM dX6_givesCall_104 (by decide) rfl q1156 ?_
                  refine x_top hv ?_
                  refine x_iload_n dX6_givesCall_107 rfl ?_
                  refine x_icmp_lt (tgt := 114) dX6_givesCall_108 (by decide) (fun hc108 => ?_) (fun hc108 => ?_)
                  · refine x_iload dX6_givesCall_114 rfl ?_
                    refine x_istore_n dX6_givesCall_116 (by decide) rfl ?_
                    refine x_aload_n dX6_givesCall_117 rfl ?_
                    refine v_geti 26 hM dX6_givesCall_118 (by decide) rfl q1156 ?_
                    refine x_top hv ?_
                    refine x_istore_n dX6_givesCall_121 (by decide) rfl ?_
                    refine x_iincN (n := 1) dX6_givesCall_122 (by decide) rfl (by decide) rfl ?_
                    refine x_goto (tgt := 27) dX6_givesCall_125 (by decide) ?_
                    rw [show bcW w pp n rr nl nC (k + 1) c best least = bcW w pp n rr nl nC k (c + 1) (nI c) v by rw [bcW, if_pos hc35, if_pos (show ¬ w (10 + 20 * c + 4) = nI 1 ∧ w (100 + 80 * c + wN w (820 + 8 * pp + 1)) = nI 1 ∧ w (100 + 80 * c + wN w (820 + 8 * pp + 2)) = nI 1 from ⟨hc46, hc61, hc76⟩), ht]; exact if_pos (Or.inr hc108)]
                    exact ih (c + 1) (nI c) v _ (hS.tr hS2) (by omega) (by omega)
                  · refine x_goto (tgt := 122) dX6_givesCall_111 (by decide) ?_
                    refine x_iincN (n := 1) dX6_givesCall_122 (by decide) rfl (by decide) rfl ?_
                    refine x_goto (tgt := 27) dX6_givesCall_125 (by decide) ?_
                    rw [show bcW w pp n rr nl nC (k + 1) c best least = bcW w pp n rr nl nC k (c + 1) best least by rw [bcW, if_pos hc35, if_pos (show ¬ w (10 + 20 * c + 4) = nI 1 ∧ w (100 + 80 * c + wN w (820 + 8 * pp + 1)) = nI 1 ∧ w (100 + 80 * c + wN w (820 + 8 * pp + 2)) = nI 1 from ⟨hc46, hc61, hc76⟩), ht]; exact if_neg (fun z => z.elim hc100 hc108)]
                    exact ih (c + 1) best least _ (hS.tr hS2) (by omega) (by omega)
              · exact absurd hc92 (by decide)
set_option maxHeartbeats 1000000 in
theorem c_givesCall (hM : tw0 + 17 ≤ fc_nx M) {n rr nl nC f pp : Nat} (hn : n ≤ 60) (hw : w 2 = nI n) (hr : rr < 3) (hw4 : w 4 = nI rr) (hRV : RV w rr nl) (hC : nC ≤ 4) (hw1 : w 1 = nI nC) (hf : f ≤ 80) (hp : pp < n) (hPI : PI w n f) {x : Int32} (hx : x = nI pp) : fc_CX g l yX6_givesCall cX6_givesCall 5 (none) 4 [.ref (fc_B g + tw0), .int x] (tv g M T w) (tv_v g M (fun T2 w2 => Sim T T2 ∧ w2 = gcW (trO T) pp n rr nl nC w)) := by
  refine fc_enter (by decide) (Nat.le_of_ble_eq_true rfl) rfl ?_
  subst hx
  refine x_aload_n dX6_givesCall_0 rfl ?_
  refine v_geti 28 hM dX6_givesCall_1 (by decide) rfl q1158 ?_
  refine x_if_eq (tgt := 20) dX6_givesCall_4 (by decide) (fun hc4 => ?_) (fun hc4 => ?_)
  · refine x_icm1 dX6_givesCall_20 ?_
    refine x_istore_n dX6_givesCall_21 (by decide) rfl ?_
    refine x_ic0 dX6_givesCall_22 ?_
    refine x_istore_n dX6_givesCall_23 (by decide) rfl ?_
    refine x_ic0 dX6_givesCall_24 ?_
    refine x_istore dX6_givesCall_25 (by decide) rfl ?_
    have e : gcW (trO T) pp n rr nl nC w = up w (820 + 8 * pp + 4) (bcW w pp n rr nl nC (nC + 1) 0 (-1) (nI 0)) := by rw [trO, if_pos hc4]; rfl
    rw [e]
    exact l_givesCall hM hn hw hr hw4 hRV hC hw1 hf hp hPI (nC + 1) 0 (-1) (nI 0) T Sim.rf (by omega) (by omega)
  · refine x_aload_n dX6_givesCall_7 rfl ?_
    refine x_iload_n dX6_givesCall_8 rfl ?_
    refine x_ic4 dX6_givesCall_9 ?_
    refine x_aload_n dX6_givesCall_10 rfl ?_
    refine v_geta 27 hM dX6_givesCall_11 (by decide) rfl q1157 ?_
    refine x_iload_n dX6_givesCall_14 rfl ?_
    refine v_iald 11 hM dX6_givesCall_15 (by decide) (by decide) rfl rfl (by show _ < 60; omega) ?_
    refine v_V3ve hM dX6_givesCall_16 kG_X6_X6_gives kP_X6_gives rfl (by omega) (by decide) (Nat.le_of_ble_eq_true rfl) (c_gives hM rfl rfl (by omega)) ?_
    refine x_vret dX6_givesCall_19 rfl (tv_vp ⟨Sim.rf, ?_⟩)
    rw [trO, if_neg hc4]
    rfl
def s1W (n : Nat) : Nat → Nat → (Nat → Int32) → (Nat → Int32)
  | 0, _, w => w
  | k + 1, i, w => if i < n then s1W n k (i + 1) (if w (820 + 8 * i + 3) = 0 then (if w (820 + 8 * i + 0) = w 3 then up w (820 + 8 * i + 3) (nI 1) else w) else w) else w
def s2W (tr : Option (Nat → Int32)) (n rr nl nC : Nat) : Nat → Nat → (Nat → Int32) → (Nat → Int32)
  | 0, _, w => w
  | k + 1, i, w => if i < n then s2W tr n rr nl nC k (i + 1) (if w (820 + 8 * i + 3) = nI 1 then (if w (820 + 8 * i + 4) = -1 then gcW tr i n rr nl nC w else w) else w) else w
def s3W (pr : Int32) (ps n f nC : Nat) : Nat → Nat → (Nat → Int32) → (Nat → Int32)
  | 0, _, w => w
  | k + 1, c, w => if c < nC then s3W pr ps n f nC k (c + 1) (csW pr ps c n f w) else w
/-- the cells that a step of the tower leaves -/
def Kp (w w' : Nat → Int32) (n : Nat) (q : Nat → Prop) : Prop := ∀ i, (∀ p, p < n → i ≠ 820 + 8 * p + 3 ∧ i ≠ 820 + 8 * p + 4 ∧ i ≠ 820 + 8 * p + 5 ∧ i ≠ 820 + 8 * p + 6) → ¬ q i → w' i = w i
theorem gcW_fr {tr : Option (Nat → Int32)} {pp n rr nl nC i : Nat} {w : Nat → Int32} (h : i ≠ 820 + 8 * pp + 4) : gcW tr pp n rr nl nC w i = w i := by
  unfold gcW
  split <;> exact up_n h
theorem RV_fr {w w' : Nat → Int32} {rr nl : Nat} (hr : rr < 3) (e : ∀ i, 1300 ≤ i → w' i = w i) (h : RV w rr nl) : RV w' rr nl := by
  have ev : ∀ (k e0 q i top : Nat), vR w k e0 q i top → vR w' k e0 q i top := by
    intro k e0 q
    induction q with
    | zero => intro i top _; trivial
    | succ q ih =>
      intro i top hv
      have es : stS w' k i = stS w k i := by unfold stS; rw [e _ (by omega)]
      have et : tpS w' k i top = tpS w k i top := by unfold tpS; rw [es]
      refine ⟨fun hi => ?_, hv.2⟩
      obtain ⟨h1, h2, h3⟩ := hv.1 hi
      refine ⟨?_, by rw [et]; exact h2, by rw [et]; exact ih _ _ h3⟩
      unfold okS at h1 ⊢
      rw [es, e _ (by omega), e (1510 + 820 * k + 2 * i + 1) (by omega)]
      exact h1
  obtain ⟨h1, h2, h3⟩ := h
  refine ⟨by rw [e _ (by omega)]; exact h1, h2, fun i hi => ?_⟩
  have a1 : frW w' rr i = frW w rr i := by unfold frW; rw [e _ (by omega)]
  have a2 : miW w' rr i = miW w rr i := by unfold miW; rw [e _ (by omega)]
  have a3 : toW w' rr i = toW w rr i := by unfold toW; rw [e _ (by omega)]
  obtain ⟨b1, b2, b3, b4, b5, b6, b7, b8⟩ := h3 i hi
  rw [a1, a2, a3, e _ (by omega), e _ (by omega), e _ (by omega), e _ (by omega)]
  exact ⟨b1, b2, b3, b4, b5, b6, fun z => ev _ _ _ _ _ (b7 z), fun z => ev _ _ _ _ _ (b8 z)⟩
end T40
