set_option maxRecDepth 100000
section T98
variable {g : fc_G} {l : Launch} {M : fc_M} {S : tT} {U : tU} {β : Nat} {w : Nat → Int32} {π f nC : Nat}
def cx_i (M : fc_M) (S : tT) (U : tU) (β f c a : Nat) (r : Int32) (w : Nat → Int32) : Outcome → fc_M → Prop := fun o M2 => o = .returned (some (.int r)) ∧ ∃ U', M2 = cR M S U' β w ∧ FBx U' β f c a w ∧ UF U U' β
theorem cx_of {c a : Nat} {r : Int32} {U0 : tU} (h : FBx U β f c a w) (h2 : UF U0 U β) : cx_i M S U0 β f c a r w (.returned (some (.int r))) (cR M S U β w) := ⟨rfl, U, rfl, h, h2⟩
theorem kG_X3_X5_isFun : GoodIn lw_all (wsV RX3 194 RX5 yX5_isFun (ws_ yX5_isFun cX5_isFun 2 (some .boolean))) := lw_V q937 q938 q939 q123 q940
theorem kP_X5_isFun : kPar yX5_isFun 1 := by decide +kernel
theorem kG_X3_X5_turnsFun : GoodIn lw_all (wsV RX3 197 RX5 yX5_turnsFun (ws_ yX5_turnsFun cX5_turnsFun 2 (none))) := lw_V q941 q942 q943 q123 q944
theorem kP_X5_turnsFun : kPar yX5_turnsFun 1 := by decide +kernel
set_option maxHeartbeats 2000000 in
theorem m_goIn {n0 s0 : Nat} (hL : LT g M β) {n ps c a rm r0 : Nat} (hn : n ≤ 60) (hc : c < 4) (haf : a < f) (hf : f ≤ 80) (hpj : S β 6 = -1 ∨ (S β 7 = nI ps ∧ ps < f)) (hps8 : ps < 80) (hrm2 : rm ≤ 12) (hr0 : r0 ≤ 60) {U0 : tU} : ∀ (k i : Nat) (w : Nat → Int32) (m : Nat) (U : tU) (o5 : Option Value), w 2 = nI n → FBx U β f c a w → UF U0 U β → w (10 + 20 * c + 6) = nI rm → w (10 + 20 * c + 0) = nI a → JK w (S β 6) ps n → m ≤ i → i ≤ n → n < i + k → fc_X g l yX3_goIn cX3_goIn 6 (some .int) 2 n0 s0 (cR M S U β w) 25 [some (.ref (fc_B g + β)), some (.int (nI c)), some (.int (nI m)), some (.int (nI rm - nI r0)), some (.int (nI i)), o5] [] (cx_i M S U0 β f c a (nI (giW (S β 6) ps c n k i w m (r0 + m)).2) (giW (S β 6) ps c n k i w m (r0 + m)).1) := by
  intro k
  induction k with
  | zero => intro i w m U o5 hw hF hUF hrm ha hJ hmi h1 h2; omega
  | succ k ih =>
    intro i w m U o5 hw hF hUF hrm ha hJ hmi h1 h2
    refine x_iload dX3_goIn_25 rfl ?_
    refine x_aload_n dX3_goIn_27 rfl ?_
    refine k_tget 2 hL dX3_goIn_28 (by decide) q351 ?_
    refine x_top hw ?_
    refine x_icmpN_ge (tgt := 165) dX3_goIn_31 (by decide) (by omega) (by omega) (fun hc31 => ?_) (fun hc31 => ?_)
    · refine x_iload_n dX3_goIn_165 rfl ?_
      rw [giW, if_neg (Nat.not_lt.mpr hc31)]
      exact x_iret dX3_goIn_166 rfl rfl (cx_of hF hUF)
    · refine x_iload_n dX3_goIn_34 rfl ?_
      refine x_iload_n dX3_goIn_35 rfl ?_
      refine x_icmp_ge (tgt := 165) dX3_goIn_36 (by decide) (fun hc36 => ?_) (fun hc36 => ?_)
      · refine x_iload_n dX3_goIn_165 rfl ?_
        have hlt : ¬ nI (r0 + m) < w (10 + 20 * c + 6) := by rw [hrm]; exact fun z => absurd ((nI_lt_sub (by omega) (by omega) (by omega)).mpr ((nI_ltI (by omega) (by omega)).mp z)) (Int32.not_lt.mpr hc36)
        rw [giW, if_pos hc31, if_neg hlt]
        exact x_iret dX3_goIn_166 rfl rfl (cx_of hF hUF)
      · refine x_aload_n dX3_goIn_39 rfl ?_
        refine k_people 0 rfl hL dX3_goIn_40 q347 ?_
        refine x_iload dX3_goIn_43 rfl ?_
        refine k_pald hL dX3_goIn_45 (by omega) ?_
        refine x_astore dX3_goIn_46 (by decide) rfl ?_
        refine x_aload dX3_goIn_48 rfl ?_
        refine k_pget 4 hL dX3_goIn_50 (by decide) q280 (by omega) ?_
        refine x_iload_n dX3_goIn_53 rfl ?_
        refine x_icmp_ne (tgt := 159) dX3_goIn_54 (by decide) (fun hc54 => ?_) (fun hc54 => ?_)
        · refine x_iincN (n := 1) dX3_goIn_159 (by decide) rfl (by decide) rfl ?_
          refine x_goto (tgt := 25) dX3_goIn_162 (by decide) ?_
          have hlt : nI (r0 + m) < w (10 + 20 * c + 6) := by rw [hrm]; exact (nI_ltI (by omega) (by omega)).mpr ((nI_lt_sub (by omega) (by omega) (by omega)).mp (Int32.not_le.mp hc36))
          rw [giW, if_pos hc31, if_pos hlt, if_neg (fun (z : w (820 + 8 * i + 3) = nI 1 ∧ w (820 + 8 * i + 4) = nI c ∧ w (820 + 8 * i + 1) = w (10 + 20 * c + 0) ∧ wayW w i = w (10 + 20 * c + 1)) => hc54 z.2.1)]
          exact ih (i + 1) w m U _ hw hF hUF hrm ha hJ (by omega) (by omega) (by omega)
        · refine x_aload dX3_goIn_57 rfl ?_
          refine k_pget 3 hL dX3_goIn_59 (by decide) q277 (by omega) ?_
          refine x_ic1 dX3_goIn_62 ?_
          refine x_icmp_ne (tgt := 159) dX3_goIn_63 (by decide) (fun hc63 => ?_) (fun hc63 => ?_)
          · refine x_iincN (n := 1) dX3_goIn_159 (by decide) rfl (by decide) rfl ?_
            refine x_goto (tgt := 25) dX3_goIn_162 (by decide) ?_
            have hlt : nI (r0 + m) < w (10 + 20 * c + 6) := by rw [hrm]; exact (nI_ltI (by omega) (by omega)).mpr ((nI_lt_sub (by omega) (by omega) (by omega)).mp (Int32.not_le.mp hc36))
            rw [giW, if_pos hc31, if_pos hlt, if_neg (fun (z : w (820 + 8 * i + 3) = nI 1 ∧ w (820 + 8 * i + 4) = nI c ∧ w (820 + 8 * i + 1) = w (10 + 20 * c + 0) ∧ wayW w i = w (10 + 20 * c + 1)) => hc63 z.1)]
            exact ih (i + 1) w m U _ hw hF hUF hrm ha hJ (by omega) (by omega) (by omega)
          · refine x_aload dX3_goIn_66 rfl ?_
            refine k_pget 1 hL dX3_goIn_68 (by decide) q271 (by omega) ?_
            refine x_aload_n dX3_goIn_71 rfl ?_
            refine k_cars 1 rfl hL dX3_goIn_72 q349 ?_
            refine x_iload_n dX3_goIn_75 rfl ?_
            refine k_cald hL dX3_goIn_76 (by omega) ?_
            refine k_cget 0 0 rfl hL dX3_goIn_77 (by decide) q309 (by omega) ?_
            refine x_icmp_ne (tgt := 159) dX3_goIn_80 (by decide) (fun hc80 => ?_) (fun hc80 => ?_)
            · refine x_iincN (n := 1) dX3_goIn_159 (by decide) rfl (by decide) rfl ?_
              refine x_goto (tgt := 25) dX3_goIn_162 (by decide) ?_
              have hlt : nI (r0 + m) < w (10 + 20 * c + 6) := by rw [hrm]; exact (nI_ltI (by omega) (by omega)).mpr ((nI_lt_sub (by omega) (by omega) (by omega)).mp (Int32.not_le.mp hc36))
              rw [giW, if_pos hc31, if_pos hlt, if_neg (fun (z : w (820 + 8 * i + 3) = nI 1 ∧ w (820 + 8 * i + 4) = nI c ∧ w (820 + 8 * i + 1) = w (10 + 20 * c + 0) ∧ wayW w i = w (10 + 20 * c + 1)) => hc80 z.2.2.1)]
              exact ih (i + 1) w m U _ hw hF hUF hrm ha hJ (by omega) (by omega) (by omega)
            · refine x_aload dX3_goIn_83 rfl ?_
              refine k_V0iP hL (by omega) dX3_goIn_85 kG_X3_X4_way kP_X4_way rfl (by omega) (by decide) (Nat.le_of_ble_eq_true rfl) (d_way hL (by omega)) ?_
              refine x_aload_n dX3_goIn_88 rfl ?_
              refine k_cars 1 rfl hL dX3_goIn_89 q349 ?_
              refine x_iload_n dX3_goIn_92 rfl ?_
              refine k_cald hL dX3_goIn_93 (by omega) ?_
              refine k_cget 1 1 rfl hL dX3_goIn_94 (by decide) q312 (by omega) ?_
              refine x_icmp_eq (tgt := 103) dX3_goIn_97 (by decide) (fun hc97 => ?_) (fun hc97 => ?_)
              · refine x_aload dX3_goIn_103 rfl ?_
                refine x_ic2 dX3_goIn_105 ?_
                refine k_pput 3 hL dX3_goIn_106 (by decide) q277 rfl (by omega) ?_
                refine x_aload dX3_goIn_109 rfl ?_
                refine x_aload_n dX3_goIn_111 rfl ?_
                refine k_tget 3 hL dX3_goIn_112 (by decide) q353 ?_
                refine x_top (up_n (by omega)) ?_
                refine k_pput 5 hL dX3_goIn_115 (by decide) q283 rfl (by omega) ?_
                refine x_iload dX3_goIn_118 rfl ?_
                refine x_aload_n dX3_goIn_120 rfl ?_
                refine k_tgetf 6 hL dX3_goIn_121 (by decide) q359 ?_
                refine x_icmp_ne (tgt := 156) dX3_goIn_124 (by decide) (fun hc124 => ?_) (fun hc124 => ?_)
                · refine x_iincN (n := 1) dX3_goIn_156 (by decide) rfl (by decide) rfl ?_
                  refine x_iincN (n := 1) dX3_goIn_159 (by decide) rfl (by decide) rfl ?_
                  refine x_goto (tgt := 25) dX3_goIn_162 (by decide) ?_
                  have hlt : nI (r0 + m) < w (10 + 20 * c + 6) := by rw [hrm]; exact (nI_ltI (by omega) (by omega)).mpr ((nI_lt_sub (by omega) (by omega) (by omega)).mp (Int32.not_le.mp hc36))
                  rw [giW, if_pos hc31, if_pos hlt, if_pos (show w (820 + 8 * i + 3) = nI 1 ∧ w (820 + 8 * i + 4) = nI c ∧ w (820 + 8 * i + 1) = w (10 + 20 * c + 0) ∧ wayW w i = w (10 + 20 * c + 1) from ⟨hc63, hc54, hc80, hc97⟩), if_neg hc124]
                  exact ih (i + 1) _ (m + 1) U _ (by rw [up_n (by omega), up_n (by omega)]; exact hw) (FBx_fr hF (fun c9 hc9 q9 hq9 => by rw [up_n (by omega), up_n (by omega)])) hUF (by rw [up_n (by omega), up_n (by omega)]; exact hrm) (by rw [up_n (by omega), up_n (by omega)]; exact ha) (fun j g1 g2 => by rw [up_n (by omega), up_n (by omega)]; exact hJ j g1 g2) (by omega) (by omega) (by omega)
                · obtain ⟨hps, hps2⟩ := hpj.resolve_left (fun z => by have e8 := congrArg Int32.toInt (hc124.trans z); rw [nI_toInt (by omega)] at e8; have e9 : (-1 : Int32).toInt = -1 := rfl; omega)
                  · refine x_aload_n dX3_goIn_127 rfl ?_
                    refine k_cars 1 rfl hL dX3_goIn_128 q349 ?_
                    refine x_iload_n dX3_goIn_131 rfl ?_
                    refine k_cald hL dX3_goIn_132 (by omega) ?_
                    refine x_aload_n dX3_goIn_133 rfl ?_
                    refine k_tgetf 7 hL dX3_goIn_134 (by decide) q361 ?_
                    refine x_top hps ?_
                    refine k_V1iC hL (by omega) dX3_goIn_137 kG_X3_X5_isFun kP_X5_isFun rfl (by omega) (by decide) (Nat.le_of_ble_eq_true rfl) (d_isFun hL (by omega) (by omega)) ?_
                    refine x_ifB_ne (tgt := 156) dX3_goIn_140 (by decide) (fun hc140 => ?_) (fun hc140 => ?_)
                    · refine x_iincN (n := 1) dX3_goIn_156 (by decide) rfl (by decide) rfl ?_
                      refine x_iincN (n := 1) dX3_goIn_159 (by decide) rfl (by decide) rfl ?_
                      refine x_goto (tgt := 25) dX3_goIn_162 (by decide) ?_
                      have hlt : nI (r0 + m) < w (10 + 20 * c + 6) := by rw [hrm]; exact (nI_ltI (by omega) (by omega)).mpr ((nI_lt_sub (by omega) (by omega) (by omega)).mp (Int32.not_le.mp hc36))
                      rw [giW, if_pos hc31, if_pos hlt, if_pos (show w (820 + 8 * i + 3) = nI 1 ∧ w (820 + 8 * i + 4) = nI c ∧ w (820 + 8 * i + 1) = w (10 + 20 * c + 0) ∧ wayW w i = w (10 + 20 * c + 1) from ⟨hc63, hc54, hc80, hc97⟩), if_pos hc124]
                      have hne : ps ≠ a := fun e => hJ i hc31 hc124 (by rw [hc80, ha, e])
                      refine x_eqM (congrArg (fun z => cl M z _) (clr_fn (i := 420 + 80 * c + ps) (x := nI 1) (by omega)).symm) ?_
                      exact ih (i + 1) _ (m + 1) _ _ (by rw [up_n (by omega), up_n (by omega), up_n (by omega)]; exact hw) (FBx_has (FBx_fr hF (fun c9 hc9 q9 hq9 => by rw [up_n (by omega), up_n (by omega)])) (by omega) hc140) hUF (by rw [up_n (by omega), up_n (by omega), up_n (by omega)]; exact hrm) (by rw [up_n (by omega), up_n (by omega), up_n (by omega)]; exact ha) (fun j g1 g2 => by rw [up_n (by omega), up_n (by omega), up_n (by omega)]; exact hJ j g1 g2) (by omega) (by omega) (by omega)
                    · refine x_aload_n dX3_goIn_143 rfl ?_
                      refine k_cars 1 rfl hL dX3_goIn_144 q349 ?_
                      refine x_iload_n dX3_goIn_147 rfl ?_
                      refine k_cald hL dX3_goIn_148 (by omega) ?_
                      refine x_aload_n dX3_goIn_149 rfl ?_
                      refine k_tgetf 7 hL dX3_goIn_150 (by decide) q361 ?_
                      refine x_top hps ?_
                      refine k_V1vC hL (by omega) dX3_goIn_153 kG_X3_X5_turnsFun kP_X5_turnsFun rfl (by omega) (by decide) (Nat.le_of_ble_eq_true rfl) (d_turnsFun hL (by omega) (by omega)) ?_
                      refine x_iincN (n := 1) dX3_goIn_156 (by decide) rfl (by decide) rfl ?_
                      refine x_iincN (n := 1) dX3_goIn_159 (by decide) rfl (by decide) rfl ?_
                      refine x_goto (tgt := 25) dX3_goIn_162 (by decide) ?_
                      have hlt : nI (r0 + m) < w (10 + 20 * c + 6) := by rw [hrm]; exact (nI_ltI (by omega) (by omega)).mpr ((nI_lt_sub (by omega) (by omega) (by omega)).mp (Int32.not_le.mp hc36))
                      rw [giW, if_pos hc31, if_pos hlt, if_pos (show w (820 + 8 * i + 3) = nI 1 ∧ w (820 + 8 * i + 4) = nI c ∧ w (820 + 8 * i + 1) = w (10 + 20 * c + 0) ∧ wayW w i = w (10 + 20 * c + 1) from ⟨hc63, hc54, hc80, hc97⟩), if_pos hc124]
                      have hne : ps ≠ a := fun e => hJ i hc31 hc124 (by rw [hc80, ha, e])
                      refine x_eqM (congrArg (fun z => cl M z _) (clr_fn (i := 420 + 80 * c + ps) (x := nI 1) (by omega)).symm) ?_
                      exact ih (i + 1) _ (m + 1) _ _ (by rw [up_n (by omega), up_n (by omega), up_n (by omega)]; exact hw) (FBx_set (FBx_fr hF (fun c9 hc9 q9 hq9 => by rw [up_n (by omega), up_n (by omega)])) (by omega) hps2 hne hc140) (hUF.trans (UF_tn (by omega))) (by rw [up_n (by omega), up_n (by omega), up_n (by omega)]; exact hrm) (by rw [up_n (by omega), up_n (by omega), up_n (by omega)]; exact ha) (fun j g1 g2 => by rw [up_n (by omega), up_n (by omega), up_n (by omega)]; exact hJ j g1 g2) (by omega) (by omega) (by omega)
              · refine x_goto (tgt := 159) dX3_goIn_100 (by decide) ?_
                refine x_iincN (n := 1) dX3_goIn_159 (by decide) rfl (by decide) rfl ?_
                refine x_goto (tgt := 25) dX3_goIn_162 (by decide) ?_
                have hlt : nI (r0 + m) < w (10 + 20 * c + 6) := by rw [hrm]; exact (nI_ltI (by omega) (by omega)).mpr ((nI_lt_sub (by omega) (by omega) (by omega)).mp (Int32.not_le.mp hc36))
                rw [giW, if_pos hc31, if_pos hlt, if_neg (fun (z : w (820 + 8 * i + 3) = nI 1 ∧ w (820 + 8 * i + 4) = nI c ∧ w (820 + 8 * i + 1) = w (10 + 20 * c + 0) ∧ wayW w i = w (10 + 20 * c + 1)) => hc97 z.2.2.2)]
                exact ih (i + 1) w m U _ hw hF hUF hrm ha hJ (by omega) (by omega) (by omega)
theorem kG_X3_X3_inCar : GoodIn lw_all (wsV RX3 106 RX3 yX3_inCar (ws_ yX3_inCar cX3_inCar 5 (some .int))) := lw_V q899 q900 q901 q121 q902
theorem kP_X3_inCar : kPar yX3_inCar 2 := by decide +kernel
set_option maxHeartbeats 1000000 in
theorem d_goIn (hL : LT g M β) (hO : PC g M S π β f nC w) {n : Nat} (hn : n ≤ 60) (hw : w 2 = nI n) {c a ps : Nat} (hc : c < 4) (hcn : c < nC) (ha : w (10 + 20 * c + 0) = nI a) (haf : a < f) (hpj : S β 6 = -1 ∨ (S β 7 = nI ps ∧ ps < f)) (hps8 : ps < 80) (hJ : JK w (S β 6) ps n) (hF : FBx U β f c a w) : fc_CX g l yX3_goIn cX3_goIn 6 (some .int) 2 [.ref (fc_B g + β), .int (nI c)] (cR M S U β w) (cx_i M S U β f c a (nI (giW (S β 6) ps c n (n + 1) 0 w 0 (cnt (rdp w 2 (nI c)) n)).2) (giW (S β 6) ps c n (n + 1) 0 w 0 (cnt (rdp w 2 (nI c)) n)).1) := by
  refine fc_enter (by decide) (Nat.le_of_ble_eq_true rfl) rfl ?_
  obtain ⟨rm, hrm2, hrm⟩ := hO.2.2.2.2.2.2.2.2 c hcn
  have hf80 := hO.2.2.2.2.2.1.2.2.2.1
  have hr0 := cnt_le (f := rdp w 2 (nI c)) n
  refine x_ic0 dX3_goIn_0 ?_
  refine x_istore_n dX3_goIn_1 (by decide) rfl ?_
  refine x_aload_n dX3_goIn_2 rfl ?_
  refine k_this0 11 rfl hL dX3_goIn_3 q367 ?_
  refine k_planN hO dX3_goIn_6 q411 ?_
  refine k_plA 3 0 hO rfl (by decide) dX3_goIn_9 q216 ?_
  refine x_iload_n dX3_goIn_12 rfl ?_
  refine k_plL 0 6 rfl hO (by decide) dX3_goIn_13 (by omega) ?_
  refine x_top hrm ?_
  refine x_aload_n dX3_goIn_14 rfl ?_
  refine x_iload_n dX3_goIn_15 rfl ?_
  refine x_ic2 dX3_goIn_16 ?_
  refine k_V2iT hL dX3_goIn_17 kG_X3_X3_inCar kP_X3_inCar rfl (by omega) (by decide) (Nat.le_of_ble_eq_true rfl) (d_inCar hL hn hw rfl) ?_
  refine x_isub dX3_goIn_20 ?_
  refine x_istore_n dX3_goIn_21 (by decide) rfl ?_
  refine x_ic0 dX3_goIn_22 ?_
  refine x_istore dX3_goIn_23 (by decide) rfl ?_
  exact m_goIn hL hn hc haf hf80 hpj hps8 hrm2 (by omega) (n + 1) 0 w 0 U _ hw hF UF.refl hrm ha hJ (by omega) (by omega) (by omega)
end T98
