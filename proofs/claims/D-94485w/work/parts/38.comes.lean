set_option maxRecDepth 100000
section T38
variable {g : fc_G} {l : Launch} {M : fc_M} {T : tT} {w : Nat → Int32}
def stS (w : Nat → Int32) (k i : Nat) : Nat := (w (1510 + 820 * k + 2 * i)).toNatClampNeg
/-- a step of a rule's code can be done with top values on the pile -/
def okS (w : Nat → Int32) (k i top : Nat) : Prop := w (1510 + 820 * k + 2 * i) = nI (stS w k i) ∧ ((stS w k i < 11 ∧ top < 420) ∨ (stS w k i = 16 ∧ 0 < top ∧ ¬ w (1510 + 820 * k + 2 * i + 1) = 0) ∨ (stS w k i = 20 ∧ 0 < top) ∨ (isTwo (stS w k i) ∧ 1 < top))
def tpS (w : Nat → Int32) (k i top : Nat) : Nat := if stS w k i < 13 then top + 1 else if stS w k i = 16 then top else if stS w k i = 20 then top else top - 1
def plS (w : Nat → Int32) (k : Nat) (fx : Nat → Int32) (i : Nat) (pl : Nat → Int32) (top : Nat) : Nat → Int32 :=
  if stS w k i < 13 then up pl top (if stS w k i = 0 then w (1510 + 820 * k + 2 * i + 1) else fx (stS w k i)) else if stS w k i = 16 then up pl (top - 1) (pl (top - 1) / w (1510 + 820 * k + 2 * i + 1)) else if stS w k i = 20 then up pl (top - 1) (nI 1 - pl (top - 1)) else up pl (top - 1 - 1) (bothN (stS w k i) (pl (top - 1 - 1)) (pl (top - 1)))
def evW (w : Nat → Int32) (k : Nat) (fx : Nat → Int32) (e : Nat) : Nat → Nat → (Nat → Int32) → Nat → (Nat → Int32)
  | 0, _, pl, _ => pl
  | q + 1, i, pl, top => if i < e then evW w k fx e q (i + 1) (plS w k fx i pl top) (tpS w k i top) else pl
def vR (w : Nat → Int32) (k e : Nat) : Nat → Nat → Nat → Prop
  | 0, _, _ => True
  | q + 1, i, top => (i < e → okS w k i top ∧ tpS w k i top ≤ 420 ∧ vR w k e q (i + 1) (tpS w k i top)) ∧ (¬ i < e → top = 1)
theorem kG_X6_X6_both : GoodIn lw_all (va_wsS RX6 252 yX6_both (ws_ yX6_both cX6_both 3 (some .int))) := lw_S q1464 q1465 q124 q1466
theorem kP_X6_both : kPar yX6_both 3 := by decide +kernel
set_option maxHeartbeats 1000000 in
theorem l_comesTo {n0 s0 : Nat} (hM : tw0 + 17 ≤ fc_nx M) {b e kk : Nat} (hk : kk < 3) (he : e ≤ 410) {v2 : Option Value} : ∀ (k i : Nat) (pl : Nat → Int32) (top : Nat) (v6 v7 : Option Value), i ≤ e → e < i + k → top ≤ 420 → vR w kk e k i top → fc_X g l yX6_comesTo cX6_comesTo 8 (some .int) 2 n0 s0 (tv g M (t8 T pl) w) 6 [some (.ref (fc_B g + tw0)), some (.int (nI kk)), v2, some (.int (nI e)), some (.int (nI top)), some (.int (nI i)), v6, v7] [] (tv_i g M (fun r T2 w2 => w2 = w ∧ (∃ pl2, T2 = t8 T pl2) ∧ r = evW w kk (T 9) e k i pl top 0)) := by
  intro k
  induction k with
  | zero => intro i pl top v6 v7 h1 h2 htop hv; omega
  | succ k ih =>
    intro i pl top v6 v7 h1 h2 htop hv
    refine x_iload dX6_comesTo_6 rfl ?_
    refine x_iload_n dX6_comesTo_8 rfl ?_
    refine x_icmpN_ge (tgt := 186) dX6_comesTo_9 (by decide) (by omega) (by omega) (fun hc9 => ?_) (fun hc9 => ?_)
    · refine x_aload_n dX6_comesTo_186 rfl ?_
      refine v_geta 8 hM dX6_comesTo_187 (by decide) rfl q1138 ?_
      refine x_ic0 dX6_comesTo_190 ?_
      refine v_iald 8 hM dX6_comesTo_191 (by decide) (by decide) rfl rfl (by show _ < 420; omega) ?_
      refine x_top (w := pl 0) rfl ?_
      refine x_iret dX6_comesTo_192 rfl rfl (tv_ip ⟨rfl, ⟨pl, rfl⟩, ?_⟩)
      simp only [evW, Nat.not_lt.mpr hc9, and_self, and_true, true_and, and_false, false_and, ↓reduceIte, if_true, if_false, not_true_eq_false, not_false_eq_true, eq_self]
      try rfl
    · obtain ⟨⟨hst, hok⟩, -, -⟩ := hv.1 hc9
      generalize hsg : stS w kk i = sN at hst hok
      rcases hok with ⟨h11, ht4⟩ | ⟨hs16, ht4, hne⟩ | ⟨hs20, ht4⟩ | ⟨hs2, ht4⟩
      · have h13 : sN < 13 := by omega
        refine x_aload_n dX6_comesTo_12 rfl ?_
        refine v_geta 0 hM dX6_comesTo_13 (by decide) rfl q1130 ?_
        refine x_sipush (v := nI 1510) dX6_comesTo_16 (by decide) ?_
        refine x_sipush (v := nI 820) dX6_comesTo_19 (by decide) ?_
        refine x_iload_n dX6_comesTo_22 rfl ?_
        refine x_imulN dX6_comesTo_23 ?_
        refine x_iaddN dX6_comesTo_24 ?_
        refine x_ic2 dX6_comesTo_25 ?_
        refine x_iload dX6_comesTo_26 rfl ?_
        refine x_imulN dX6_comesTo_28 ?_
        refine x_iaddN dX6_comesTo_29 ?_
        refine v_wld hM dX6_comesTo_30 rfl (by omega) ?_
        refine x_top hst ?_
        refine x_istore dX6_comesTo_31 (by decide) rfl ?_
        refine x_aload_n dX6_comesTo_33 rfl ?_
        refine v_geta 0 hM dX6_comesTo_34 (by decide) rfl q1130 ?_
        refine x_sipush (v := nI 1510) dX6_comesTo_37 (by decide) ?_
        refine x_sipush (v := nI 820) dX6_comesTo_40 (by decide) ?_
        refine x_iload_n dX6_comesTo_43 rfl ?_
        refine x_imulN dX6_comesTo_44 ?_
        refine x_iaddN dX6_comesTo_45 ?_
        refine x_ic2 dX6_comesTo_46 ?_
        refine x_iload dX6_comesTo_47 rfl ?_
        refine x_imulN dX6_comesTo_49 ?_
        refine x_iaddN dX6_comesTo_50 ?_
        refine x_ic1 dX6_comesTo_51 ?_
        refine x_iaddN dX6_comesTo_52 ?_
        refine v_wld hM dX6_comesTo_53 rfl (by omega) ?_
        refine x_istore dX6_comesTo_54 (by decide) rfl ?_
        refine x_iload dX6_comesTo_56 rfl ?_
        refine x_bipush (v := nI 13) dX6_comesTo_58 (by decide) ?_
        refine x_icmpN_ge (tgt := 93) dX6_comesTo_60 (by decide) (by omega) (by omega) (fun hc60 => ?_) (fun hc60 => ?_)
        · exact absurd hc60 (by omega)
        · refine x_aload_n dX6_comesTo_63 rfl ?_
          refine v_geta 8 hM dX6_comesTo_64 (by decide) rfl q1138 ?_
          refine x_iload dX6_comesTo_67 rfl ?_
          refine x_iload dX6_comesTo_69 rfl ?_
          refine x_ifN_ne (tgt := 79) dX6_comesTo_71 (by decide) (by omega) (fun hc71 => ?_) (fun hc71 => ?_)
          · refine x_aload_n dX6_comesTo_79 rfl ?_
            refine v_geta 9 hM dX6_comesTo_80 (by decide) rfl q1139 ?_
            refine x_iload dX6_comesTo_83 rfl ?_
            refine v_iald 9 hM dX6_comesTo_85 (by decide) (by decide) rfl rfl (by show _ < 11; omega) ?_
            refine x_top (w := T 9 sN) rfl ?_
            refine v_iast 8 hM dX6_comesTo_86 (by decide) (by decide) rfl rfl (by show _ < 420; omega) ?_
            refine x_eqM (congrArg (fun z => tv g M z w) t8_u) ?_
            refine x_iincN (n := 1) dX6_comesTo_87 (by decide) rfl (by decide) rfl ?_
            refine x_goto (tgt := 180) dX6_comesTo_90 (by decide) ?_
            refine x_iincN (n := 1) dX6_comesTo_180 (by decide) rfl (by decide) rfl ?_
            refine x_goto (tgt := 6) dX6_comesTo_183 (by decide) ?_
            obtain ⟨-, hle, hv2⟩ := hv.1 hc9
            simp only [evW, if_pos hc9, plS, tpS, hsg, if_pos h13, if_neg (Nat.ne_of_gt hc71)]
            simp only [tpS, hsg, if_pos h13] at hle hv2
            exact ih (i + 1) _ _ _ _ (by omega) (by omega) hle hv2
          · refine x_iload dX6_comesTo_74 rfl ?_
            refine x_goto (tgt := 86) dX6_comesTo_76 (by decide) ?_
            refine v_iast 8 hM dX6_comesTo_86 (by decide) (by decide) rfl rfl (by show _ < 420; omega) ?_
            refine x_eqM (congrArg (fun z => tv g M z w) t8_u) ?_
            refine x_iincN (n := 1) dX6_comesTo_87 (by decide) rfl (by decide) rfl ?_
            refine x_goto (tgt := 180) dX6_comesTo_90 (by decide) ?_
            refine x_iincN (n := 1) dX6_comesTo_180 (by decide) rfl (by decide) rfl ?_
            refine x_goto (tgt := 6) dX6_comesTo_183 (by decide) ?_
            obtain ⟨-, hle, hv2⟩ := hv.1 hc9
            simp only [evW, if_pos hc9, plS, tpS, hsg, if_pos h13, if_pos hc71]
            simp only [tpS, hsg, if_pos h13] at hle hv2
            exact ih (i + 1) _ _ _ _ (by omega) (by omega) hle hv2
      · have h13 : ¬ sN < 13 := by omega
        refine x_aload_n dX6_comesTo_12 rfl ?_
        refine v_geta 0 hM dX6_comesTo_13 (by decide) rfl q1130 ?_
        refine x_sipush (v := nI 1510) dX6_comesTo_16 (by decide) ?_
        refine x_sipush (v := nI 820) dX6_comesTo_19 (by decide) ?_
        refine x_iload_n dX6_comesTo_22 rfl ?_
        refine x_imulN dX6_comesTo_23 ?_
        refine x_iaddN dX6_comesTo_24 ?_
        refine x_ic2 dX6_comesTo_25 ?_
        refine x_iload dX6_comesTo_26 rfl ?_
        refine x_imulN dX6_comesTo_28 ?_
        refine x_iaddN dX6_comesTo_29 ?_
        refine v_wld hM dX6_comesTo_30 rfl (by omega) ?_
        refine x_top hst ?_
        refine x_istore dX6_comesTo_31 (by decide) rfl ?_
        refine x_aload_n dX6_comesTo_33 rfl ?_
        refine v_geta 0 hM dX6_comesTo_34 (by decide) rfl q1130 ?_
        refine x_sipush (v := nI 1510) dX6_comesTo_37 (by decide) ?_
        refine x_sipush (v := nI 820) dX6_comesTo_40 (by decide) ?_
        refine x_iload_n dX6_comesTo_43 rfl ?_
        refine x_imulN dX6_comesTo_44 ?_
        refine x_iaddN dX6_comesTo_45 ?_
        refine x_ic2 dX6_comesTo_46 ?_
        refine x_iload dX6_comesTo_47 rfl ?_
        refine x_imulN dX6_comesTo_49 ?_
        refine x_iaddN dX6_comesTo_50 ?_
        refine x_ic1 dX6_comesTo_51 ?_
        refine x_iaddN dX6_comesTo_52 ?_
        refine v_wld hM dX6_comesTo_53 rfl (by omega) ?_
        refine x_istore dX6_comesTo_54 (by decide) rfl ?_
        refine x_iload dX6_comesTo_56 rfl ?_
        refine x_bipush (v := nI 13) dX6_comesTo_58 (by decide) ?_
        refine x_icmpN_ge (tgt := 93) dX6_comesTo_60 (by decide) (by omega) (by omega) (fun hc60 => ?_) (fun hc60 => ?_)
        · refine x_iload dX6_comesTo_93 rfl ?_
          refine x_bipush (v := nI 16) dX6_comesTo_95 (by decide) ?_
          refine x_icmpN_ne (tgt := 117) dX6_comesTo_97 (by decide) (by omega) (by omega) (fun hc97 => ?_) (fun hc97 => ?_)
          · exact absurd hs16 hc97
          · refine x_aload_n dX6_comesTo_100 rfl ?_
            refine v_geta 8 hM dX6_comesTo_101 (by decide) rfl q1138 ?_
            refine x_iload dX6_comesTo_104 rfl ?_
            refine x_ic1 dX6_comesTo_106 ?_
            refine x_isubN dX6_comesTo_107 (by omega) ?_
            refine x_dup2 dX6_comesTo_108 rfl rfl ?_
            refine v_iald 8 hM dX6_comesTo_109 (by decide) (by decide) rfl rfl (by show _ < 420; omega) ?_
            refine x_top (w := pl (top - 1)) rfl ?_
            refine x_iload dX6_comesTo_110 rfl ?_
            refine x_idiv dX6_comesTo_112 hne ?_
            refine v_iast 8 hM dX6_comesTo_113 (by decide) (by decide) rfl rfl (by show _ < 420; omega) ?_
            refine x_eqM (congrArg (fun z => tv g M z w) t8_u) ?_
            refine x_goto (tgt := 180) dX6_comesTo_114 (by decide) ?_
            refine x_iincN (n := 1) dX6_comesTo_180 (by decide) rfl (by decide) rfl ?_
            refine x_goto (tgt := 6) dX6_comesTo_183 (by decide) ?_
            obtain ⟨-, hle, hv2⟩ := hv.1 hc9
            simp only [evW, if_pos hc9, plS, tpS, hsg, if_neg h13, if_pos hs16]
            simp only [tpS, hsg, if_neg h13, if_pos hs16] at hle hv2
            exact ih (i + 1) _ _ _ _ (by omega) (by omega) hle hv2
        · exact absurd hc60 (by omega)
      · have h13 : ¬ sN < 13 := by omega
        have hs16 : ¬ sN = 16 := by omega
        refine x_aload_n dX6_comesTo_12 rfl ?_
        refine v_geta 0 hM dX6_comesTo_13 (by decide) rfl q1130 ?_
        refine x_sipush (v := nI 1510) dX6_comesTo_16 (by decide) ?_
        refine x_sipush (v := nI 820) dX6_comesTo_19 (by decide) ?_
        refine x_iload_n dX6_comesTo_22 rfl ?_
        refine x_imulN dX6_comesTo_23 ?_
        refine x_iaddN dX6_comesTo_24 ?_
        refine x_ic2 dX6_comesTo_25 ?_
        refine x_iload dX6_comesTo_26 rfl ?_
        refine x_imulN dX6_comesTo_28 ?_
        refine x_iaddN dX6_comesTo_29 ?_
        refine v_wld hM dX6_comesTo_30 rfl (by omega) ?_
        refine x_top hst ?_
        refine x_istore dX6_comesTo_31 (by decide) rfl ?_
        refine x_aload_n dX6_comesTo_33 rfl ?_
        refine v_geta 0 hM dX6_comesTo_34 (by decide) rfl q1130 ?_
        refine x_sipush (v := nI 1510) dX6_comesTo_37 (by decide) ?_
        refine x_sipush (v := nI 820) dX6_comesTo_40 (by decide) ?_
        refine x_iload_n dX6_comesTo_43 rfl ?_
        refine x_imulN dX6_comesTo_44 ?_
        refine x_iaddN dX6_comesTo_45 ?_
        refine x_ic2 dX6_comesTo_46 ?_
        refine x_iload dX6_comesTo_47 rfl ?_
        refine x_imulN dX6_comesTo_49 ?_
        refine x_iaddN dX6_comesTo_50 ?_
        refine x_ic1 dX6_comesTo_51 ?_
        refine x_iaddN dX6_comesTo_52 ?_
        refine v_wld hM dX6_comesTo_53 rfl (by omega) ?_
        refine x_istore dX6_comesTo_54 (by decide) rfl ?_
        refine x_iload dX6_comesTo_56 rfl ?_
        refine x_bipush (v := nI 13) dX6_comesTo_58 (by decide) ?_
        refine x_icmpN_ge (tgt := 93) dX6_comesTo_60 (by decide) (by omega) (by omega) (fun hc60 => ?_) (fun hc60 => ?_)
        · refine x_iload dX6_comesTo_93 rfl ?_
          refine x_bipush (v := nI 16) dX6_comesTo_95 (by decide) ?_
          refine x_icmpN_ne (tgt := 117) dX6_comesTo_97 (by decide) (by omega) (by omega) (fun hc97 => ?_) (fun hc97 => ?_)
          · refine x_iload dX6_comesTo_117 rfl ?_
            refine x_bipush (v := nI 20) dX6_comesTo_119 (by decide) ?_
            refine x_icmpN_ne (tgt := 147) dX6_comesTo_121 (by decide) (by omega) (by omega) (fun hc121 => ?_) (fun hc121 => ?_)
            · exact absurd hs20 hc121
            · refine x_aload_n dX6_comesTo_124 rfl ?_
              refine v_geta 8 hM dX6_comesTo_125 (by decide) rfl q1138 ?_
              refine x_iload dX6_comesTo_128 rfl ?_
              refine x_ic1 dX6_comesTo_130 ?_
              refine x_isubN dX6_comesTo_131 (by omega) ?_
              refine x_ic1 dX6_comesTo_132 ?_
              refine x_aload_n dX6_comesTo_133 rfl ?_
              refine v_geta 8 hM dX6_comesTo_134 (by decide) rfl q1138 ?_
              refine x_iload dX6_comesTo_137 rfl ?_
              refine x_ic1 dX6_comesTo_139 ?_
              refine x_isubN dX6_comesTo_140 (by omega) ?_
              refine v_iald 8 hM dX6_comesTo_141 (by decide) (by decide) rfl rfl (by show _ < 420; omega) ?_
              refine x_top (w := pl (top - 1)) rfl ?_
              refine x_isub dX6_comesTo_142 ?_
              refine v_iast 8 hM dX6_comesTo_143 (by decide) (by decide) rfl rfl (by show _ < 420; omega) ?_
              refine x_eqM (congrArg (fun z => tv g M z w) t8_u) ?_
              refine x_goto (tgt := 180) dX6_comesTo_144 (by decide) ?_
              refine x_iincN (n := 1) dX6_comesTo_180 (by decide) rfl (by decide) rfl ?_
              refine x_goto (tgt := 6) dX6_comesTo_183 (by decide) ?_
              obtain ⟨-, hle, hv2⟩ := hv.1 hc9
              simp only [evW, if_pos hc9, plS, tpS, hsg, if_neg h13, if_neg hs16, if_pos hs20]
              simp only [tpS, hsg, if_neg h13, if_neg hs16, if_pos hs20] at hle hv2
              exact ih (i + 1) _ _ _ _ (by omega) (by omega) hle hv2
          · exact absurd hc97 hs16
        · exact absurd hc60 (by omega)
      · have h13 : ¬ sN < 13 := by rcases hs2 with h | h | h | h | h | h | h | h <;> omega
        have hs16 : ¬ sN = 16 := by rcases hs2 with h | h | h | h | h | h | h | h <;> omega
        have hs20 : ¬ sN = 20 := by rcases hs2 with h | h | h | h | h | h | h | h <;> omega
        have hs23 : sN < 23 := by rcases hs2 with h | h | h | h | h | h | h | h <;> omega
        refine x_aload_n dX6_comesTo_12 rfl ?_
        refine v_geta 0 hM dX6_comesTo_13 (by decide) rfl q1130 ?_
        refine x_sipush (v := nI 1510) dX6_comesTo_16 (by decide) ?_
        refine x_sipush (v := nI 820) dX6_comesTo_19 (by decide) ?_
        refine x_iload_n dX6_comesTo_22 rfl ?_
        refine x_imulN dX6_comesTo_23 ?_
        refine x_iaddN dX6_comesTo_24 ?_
        refine x_ic2 dX6_comesTo_25 ?_
        refine x_iload dX6_comesTo_26 rfl ?_
        refine x_imulN dX6_comesTo_28 ?_
        refine x_iaddN dX6_comesTo_29 ?_
        refine v_wld hM dX6_comesTo_30 rfl (by omega) ?_
        refine x_top hst ?_
        refine x_istore dX6_comesTo_31 (by decide) rfl ?_
        refine x_aload_n dX6_comesTo_33 rfl ?_
        refine v_geta 0 hM dX6_comesTo_34 (by decide) rfl q1130 ?_
        refine x_sipush (v := nI 1510) dX6_comesTo_37 (by decide) ?_
        refine x_sipush (v := nI 820) dX6_comesTo_40 (by decide) ?_
        refine x_iload_n dX6_comesTo_43 rfl ?_
        refine x_imulN dX6_comesTo_44 ?_
        refine x_iaddN dX6_comesTo_45 ?_
        refine x_ic2 dX6_comesTo_46 ?_
        refine x_iload dX6_comesTo_47 rfl ?_
        refine x_imulN dX6_comesTo_49 ?_
        refine x_iaddN dX6_comesTo_50 ?_
        refine x_ic1 dX6_comesTo_51 ?_
        refine x_iaddN dX6_comesTo_52 ?_
        refine v_wld hM dX6_comesTo_53 rfl (by omega) ?_
        refine x_istore dX6_comesTo_54 (by decide) rfl ?_
        refine x_iload dX6_comesTo_56 rfl ?_
        refine x_bipush (v := nI 13) dX6_comesTo_58 (by decide) ?_
        refine x_icmpN_ge (tgt := 93) dX6_comesTo_60 (by decide) (by omega) (by omega) (fun hc60 => ?_) (fun hc60 => ?_)
        · refine x_iload dX6_comesTo_93 rfl ?_
          refine x_bipush (v := nI 16) dX6_comesTo_95 (by decide) ?_
          refine x_icmpN_ne (tgt := 117) dX6_comesTo_97 (by decide) (by omega) (by omega) (fun hc97 => ?_) (fun hc97 => ?_)
          · refine x_iload dX6_comesTo_117 rfl ?_
            refine x_bipush (v := nI 20) dX6_comesTo_119 (by decide) ?_
            refine x_icmpN_ne (tgt := 147) dX6_comesTo_121 (by decide) (by omega) (by omega) (fun hc121 => ?_) (fun hc121 => ?_)
            · refine x_iinc (v := nI (top - 1)) dX6_comesTo_147 rfl (by show nI top + (-1) = _; rw [← pk_m1 (top - 1)]; congr 2; omega) (by decide) rfl ?_
              refine x_aload_n dX6_comesTo_150 rfl ?_
              refine v_geta 8 hM dX6_comesTo_151 (by decide) rfl q1138 ?_
              refine x_iload dX6_comesTo_154 rfl ?_
              refine x_ic1 dX6_comesTo_156 ?_
              refine x_isubN dX6_comesTo_157 (by omega) ?_
              refine x_iload dX6_comesTo_158 rfl ?_
              refine x_aload_n dX6_comesTo_160 rfl ?_
              refine v_geta 8 hM dX6_comesTo_161 (by decide) rfl q1138 ?_
              refine x_iload dX6_comesTo_164 rfl ?_
              refine x_ic1 dX6_comesTo_166 ?_
              refine x_isubN dX6_comesTo_167 (by omega) ?_
              refine v_iald 8 hM dX6_comesTo_168 (by decide) (by decide) rfl rfl (by show _ < 420; omega) ?_
              refine x_top (w := pl (top - 1 - 1)) rfl ?_
              refine x_aload_n dX6_comesTo_169 rfl ?_
              refine v_geta 8 hM dX6_comesTo_170 (by decide) rfl q1138 ?_
              refine x_iload dX6_comesTo_173 rfl ?_
              refine v_iald 8 hM dX6_comesTo_175 (by decide) (by decide) rfl rfl (by show _ < 420; omega) ?_
              refine x_top (w := pl (top - 1)) rfl ?_
              refine v_S3ie dX6_comesTo_176 kG_X6_X6_both kP_X6_both (by omega) (by decide) (Nat.le_of_ble_eq_true rfl) (c_both hs2) ?_
              refine v_iast 8 hM dX6_comesTo_179 (by decide) (by decide) rfl rfl (by show _ < 420; omega) ?_
              refine x_eqM (congrArg (fun z => tv g M z w) t8_u) ?_
              refine x_iincN (n := 1) dX6_comesTo_180 (by decide) rfl (by decide) rfl ?_
              refine x_goto (tgt := 6) dX6_comesTo_183 (by decide) ?_
              obtain ⟨-, hle, hv2⟩ := hv.1 hc9
              simp only [evW, if_pos hc9, plS, tpS, hsg, if_neg h13, if_neg hs16, if_neg hs20]
              simp only [tpS, hsg, if_neg h13, if_neg hs16, if_neg hs20] at hle hv2
              exact ih (i + 1) _ _ _ _ (by omega) (by omega) hle hv2
            · exact absurd hc121 hs20
          · exact absurd hc97 hs16
        · exact absurd hc60 (by omega)
end T38
