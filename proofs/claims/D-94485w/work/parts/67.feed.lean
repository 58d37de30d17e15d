set_option maxRecDepth 100000
section T67
variable {g : fc_G} {l : Launch} {M : fc_M} {T : tT} {w : Nat → Int32}
def tfd (T : tT) (C : Nat → Int32) (v : Int32) : tT := fun a k => if a = 7 then C k else if a = 0 ∧ k = 16 then v else T a k
theorem tfd_c {T : tT} {C : Nat → Int32} {v x : Int32} {i : Nat} : tu (tfd T C v) 7 i x = tfd T (up C i x) v := by
  funext a k
  by_cases h : a = 7
  · subst h
    simp [tu, tfd, up]
  · simp [tu, tfd, h]
theorem tfd_n {T : tT} {C : Nat → Int32} {v x : Int32} : tu (tfd T C v) 0 16 x = tfd T C x := by
  funext a k
  by_cases h : a = 7
  · subst h
    simp [tu, tfd]
  · by_cases h2 : a = 0 ∧ k = 16
    · simp [tu, tfd, h2]
    · simp [tu, tfd, h, h2]
theorem tfd_self {T : tT} : tfd T (T 7) (T 0 16) = T := by
  funext a k
  by_cases h : a = 7
  · subst h
    simp [tfd]
  · by_cases h2 : a = 0 ∧ k = 16
    · obtain ⟨rfl, rfl⟩ := h2
      simp [tfd]
    · simp [tfd, h, h2]
def feV (a b c d e : Int32) (k : Nat) : Int32 := if k < 4 then a else if k < 8 then b else if k < 12 then c else if k < 16 then d else e
def feB (v : Int32) (k : Nat) : Int32 := (v >>> (nI (24 - 8 * (k % 4)) &&& 31)) &&& nI 255
def feL (a b c d e : Int32) (t : Nat) : Nat → Nat → (Nat → Int32) → (Nat → Int32)
  | 0, _, C => C
  | k + 1, i, C => if i < 20 then feL a b c d e t k (i + 1) (up C (t + i) (feB (feV a b c d e i) i)) else C
def feQ (T : tT) (t : Nat) (a b c d e : Int32) : Int32 × tT := if t + 20 ≤ 400 then (nI (t + 20), tfd T (feL a b c d e t 21 0 (T 7)) (nI (t + 20))) else (-1, T)
set_option maxHeartbeats 1000000 in
theorem l_feed {n0 s0 : Nat} (hM : tw0 + 17 ≤ fc_nx M) {t : Nat} (ht : t + 20 ≤ 400) {a b c d e : Int32} : ∀ (k i : Nat) (C : Nat → Int32) (v7 : Option Value), i ≤ 20 → 20 < i + k → fc_X g l yX6_feed cX6_feed 8 (some .int) 1 n0 s0 (tv g M (tfd T C (nI (t + i))) w) 18 [some (.ref (fc_B g + tw0)), some (.int (a)), some (.int (b)), some (.int (c)), some (.int (d)), some (.int (e)), some (.int (nI i)), v7] [] (tv_ie g M (nI (t + 20)) (tfd T (feL a b c d e t k i C) (nI (t + 20))) w) := by
  intro k
  induction k with
  | zero => intro i C v7 h1 h2; omega
  | succ k ih =>
    intro i C v7 h1 h2
    refine x_iload dX6_feed_18 rfl ?_
    refine x_bipush (v := nI 20) dX6_feed_20 (by decide) ?_
    refine x_icmpN_ge (tgt := 115) dX6_feed_22 (by decide) (by omega) (by omega) (fun hc22 => ?_) (fun hc22 => ?_)
    · refine x_aload_n dX6_feed_115 rfl ?_
      refine v_geti 16 hM dX6_feed_116 (by decide) rfl q1146 ?_
      refine x_top (show tfd T C (nI (t + i)) 0 16 = nI (t + i) from rfl) ?_
      obtain rfl : i = 20 := by omega
      rw [feL, if_neg (by omega)]
      exact x_iret dX6_feed_119 rfl rfl tv_i1
    · refine x_iload dX6_feed_25 rfl ?_
      refine x_ic4 dX6_feed_27 ?_
      refine x_icmpN_ge (tgt := 35) dX6_feed_28 (by decide) (by omega) (by omega) (fun hc28 => ?_) (fun hc28 => ?_)
      · refine x_iload dX6_feed_35 rfl ?_
        refine x_bipush (v := nI 8) dX6_feed_37 (by decide) ?_
        refine x_icmpN_ge (tgt := 46) dX6_feed_39 (by decide) (by omega) (by omega) (fun hc39 => ?_) (fun hc39 => ?_)
        · refine x_iload dX6_feed_46 rfl ?_
          refine x_bipush (v := nI 12) dX6_feed_48 (by decide) ?_
          refine x_icmpN_ge (tgt := 57) dX6_feed_50 (by decide) (by omega) (by omega) (fun hc50 => ?_) (fun hc50 => ?_)
          · refine x_iload dX6_feed_57 rfl ?_
            refine x_bipush (v := nI 16) dX6_feed_59 (by decide) ?_
            refine x_icmpN_ge (tgt := 69) dX6_feed_61 (by decide) (by omega) (by omega) (fun hc61 => ?_) (fun hc61 => ?_)
            · refine x_iload dX6_feed_69 rfl ?_
              refine x_istore dX6_feed_71 (by decide) rfl ?_
              refine x_aload_n dX6_feed_73 rfl ?_
              refine v_geta 7 hM dX6_feed_74 (by decide) rfl q1137 ?_
              refine x_aload_n dX6_feed_77 rfl ?_
              refine v_geti 16 hM dX6_feed_78 (by decide) rfl q1146 ?_
              refine x_top (show tfd T C (nI (t + i)) 0 16 = nI (t + i) from rfl) ?_
              refine x_iload dX6_feed_81 rfl ?_
              refine x_bipush (v := nI 24) dX6_feed_83 (by decide) ?_
              refine x_bipush (v := nI 8) dX6_feed_85 (by decide) ?_
              refine x_iload dX6_feed_87 rfl ?_
              refine x_ic4 dX6_feed_89 ?_
              refine x_iremN dX6_feed_90 (by omega) (by omega) (by omega) ?_
              refine x_imulN dX6_feed_91 ?_
              refine x_isubN dX6_feed_92 (by omega) ?_
              refine x_ishr dX6_feed_93 ?_
              refine x_sipush (v := nI 255) dX6_feed_94 (by decide) ?_
              refine x_iand dX6_feed_97 ?_
              refine v_iast 7 hM dX6_feed_98 (by decide) (by decide) rfl rfl (by show _ < 400; omega) ?_
              refine x_eqM (congrArg (fun z => tv g M z w) tfd_c) ?_
              refine x_aload_n dX6_feed_99 rfl ?_
              refine x_dup dX6_feed_100 rfl ?_
              refine v_geti 16 hM dX6_feed_101 (by decide) rfl q1146 ?_
              refine x_top (show tfd T _ (nI (t + i)) 0 16 = nI (t + i) from rfl) ?_
              refine x_ic1 dX6_feed_104 ?_
              refine x_iaddN dX6_feed_105 ?_
              refine v_puti 16 hM dX6_feed_106 (by decide) rfl q1146 rfl rfl rfl ?_
              refine x_eqM (congrArg (fun z => tv g M z w) tfd_n) ?_
              refine x_iincN (n := 1) dX6_feed_109 (by decide) rfl (by decide) rfl ?_
              refine x_goto (tgt := 18) dX6_feed_112 (by decide) ?_
              have ev : feV a b c d e i = e := by rw [feV, if_neg (Nat.not_lt.mpr hc28), if_neg (Nat.not_lt.mpr hc39), if_neg (Nat.not_lt.mpr hc50), if_neg (Nat.not_lt.mpr hc61)]
              rw [feL, if_pos hc22, ev, feB]
              exact ih (i + 1) _ _ (by omega) (by omega)
            · refine x_iload dX6_feed_64 rfl ?_
              refine x_goto (tgt := 71) dX6_feed_66 (by decide) ?_
              refine x_istore dX6_feed_71 (by decide) rfl ?_
              refine x_aload_n dX6_feed_73 rfl ?_
              refine v_geta 7 hM dX6_feed_74 (by decide) rfl q1137 ?_
              refine x_aload_n dX6_feed_77 rfl ?_
              refine v_geti 16 hM dX6_feed_78 (by decide) rfl q1146 ?_
              refine x_top (show tfd T C (nI (t + i)) 0 16 = nI (t + i) from rfl) ?_
              refine x_iload dX6_feed_81 rfl ?_
              refine x_bipush (v := nI 24) dX6_feed_83 (by decide) ?_
              refine x_bipush (v := nI 8) dX6_feed_85 (by decide) ?_
              refine x_iload dX6_feed_87 rfl ?_
              refine x_ic4 dX6_feed_89 ?_
              refine x_iremN dX6_feed_90 (by omega) (by omega) (by omega) ?_
              refine x_imulN dX6_feed_91 ?_
              refine x_isubN dX6_feed_92 (by omega) ?_
              refine x_ishr dX6_feed_93 ?_
              refine x_sipush (v := nI 255) dX6_feed_94 (by decide) ?_
              refine x_iand dX6_feed_97 ?_
              refine v_iast 7 hM dX6_feed_98 (by decide) (by decide) rfl rfl (by show _ < 400; omega) ?_
              refine x_eqM (congrArg (fun z => tv g M z w) tfd_c) ?_
              refine x_aload_n dX6_feed_99 rfl ?_
              refine x_dup dX6_feed_100 rfl ?_
              refine v_geti 16 hM dX6_feed_101 (by decide) rfl q1146 ?_
              refine x_top (show tfd T _ (nI (t + i)) 0 16 = nI (t + i) from rfl) ?_
              refine x_ic1 dX6_feed_104 ?_
              refine x_iaddN dX6_feed_105 ?_
              refine v_puti 16 hM dX6_feed_106 (by decide) rfl q1146 rfl rfl rfl ?_
              refine x_eqM (congrArg (fun z => tv g M z w) tfd_n) ?_
              refine x_iincN (n := 1) dX6_feed_109 (by decide) rfl (by decide) rfl ?_
              refine x_goto (tgt := 18) dX6_feed_112 (by decide) ?_
              have ev : feV a b c d e i = d := by rw [feV, if_neg (Nat.not_lt.mpr hc28), if_neg (Nat.not_lt.mpr hc39), if_neg (Nat.not_lt.mpr hc50), if_pos hc61]
              rw [feL, if_pos hc22, ev, feB]
              exact ih (i + 1) _ _ (by omega) (by omega)
          · refine x_iload_n dX6_feed_53 rfl ?_
            refine x_goto (tgt := 71) dX6_feed_54 (by decide) ?_
            refine x_istore dX6_feed_71 (by decide) rfl ?_
            refine x_aload_n dX6_feed_73 rfl ?_
            refine v_geta 7 hM dX6_feed_74 (by decide) rfl q1137 ?_
            refine x_aload_n dX6_feed_77 rfl ?_
            refine v_geti 16 hM dX6_feed_78 (by decide) rfl q1146 ?_
            refine x_top (show tfd T C (nI (t + i)) 0 16 = nI (t + i) from rfl) ?_
            refine x_iload dX6_feed_81 rfl ?_
            refine x_bipush (v := nI 24) dX6_feed_83 (by decide) ?_
            refine x_bipush (v := nI 8) dX6_feed_85 (by decide) ?_
            refine x_iload dX6_feed_87 rfl ?_
            refine x_ic4 dX6_feed_89 ?_
            refine x_iremN dX6_feed_90 (by omega) (by omega) (by omega) ?_
            refine x_imulN dX6_feed_91 ?_
            refine x_isubN dX6_feed_92 (by omega) ?_
            refine x_ishr dX6_feed_93 ?_
            refine x_sipush (v := nI 255) dX6_feed_94 (by decide) ?_
            refine x_iand dX6_feed_97 ?_
            refine v_iast 7 hM dX6_feed_98 (by decide) (by decide) rfl rfl (by show _ < 400; omega) ?_
            refine x_eqM (congrArg (fun z => tv g M z w) tfd_c) ?_
            refine x_aload_n dX6_feed_99 rfl ?_
            refine x_dup dX6_feed_100 rfl ?_
            refine v_geti 16 hM dX6_feed_101 (by decide) rfl q1146 ?_
            refine x_top (show tfd T _ (nI (t + i)) 0 16 = nI (t + i) from rfl) ?_
            refine x_ic1 dX6_feed_104 ?_
            refine x_iaddN dX6_feed_105 ?_
            refine v_puti 16 hM dX6_feed_106 (by decide) rfl q1146 rfl rfl rfl ?_
            refine x_eqM (congrArg (fun z => tv g M z w) tfd_n) ?_
            refine x_iincN (n := 1) dX6_feed_109 (by decide) rfl (by decide) rfl ?_
            refine x_goto (tgt := 18) dX6_feed_112 (by decide) ?_
            have ev : feV a b c d e i = c := by rw [feV, if_neg (Nat.not_lt.mpr hc28), if_neg (Nat.not_lt.mpr hc39), if_pos hc50]
            rw [feL, if_pos hc22, ev, feB]
            exact ih (i + 1) _ _ (by omega) (by omega)
        · refine x_iload_n dX6_feed_42 rfl ?_
          refine x_goto (tgt := 71) dX6_feed_43 (by decide) ?_
          refine x_istore dX6_feed_71 (by decide) rfl ?_
          refine x_aload_n dX6_feed_73 rfl ?_
          refine v_geta 7 hM dX6_feed_74 (by decide) rfl q1137 ?_
          refine x_aload_n dX6_feed_77 rfl ?_
          refine v_geti 16 hM dX6_feed_78 (by decide) rfl q1146 ?_
          refine x_top (show tfd T C (nI (t + i)) 0 16 = nI (t + i) from rfl) ?_
          refine x_iload dX6_feed_81 rfl ?_
          refine x_bipush (v := nI 24) dX6_feed_83 (by decide) ?_
          refine x_bipush (v := nI 8) dX6_feed_85 (by decide) ?_
          refine x_iload dX6_feed_87 rfl ?_
          refine x_ic4 dX6_feed_89 ?_
          refine x_iremN dX6_feed_90 (by omega) (by omega) (by omega) ?_
          refine x_imulN dX6_feed_91 ?_
          refine x_isubN dX6_feed_92 (by omega) ?_
          refine x_ishr dX6_feed_93 ?_
          refine x_sipush (v := nI 255) dX6_feed_94 (by decide) ?_
          refine x_iand dX6_feed_97 ?_
          refine v_iast 7 hM dX6_feed_98 (by decide) (by decide) rfl rfl (by show _ < 400; omega) ?_
          refine x_eqM (congrArg (fun z => tv g M z w) tfd_c) ?_
          refine x_aload_n dX6_feed_99 rfl ?_
          refine x_dup dX6_feed_100 rfl ?_
          refine v_geti 16 hM dX6_feed_101 (by decide) rfl q1146 ?_
          refine x_top (show tfd T _ (nI (t + i)) 0 16 = nI (t + i) from rfl) ?_
          refine x_ic1 dX6_feed_104 ?_
          refine x_iaddN dX6_feed_105 ?_
          refine v_puti 16 hM dX6_feed_106 (by decide) rfl q1146 rfl rfl rfl ?_
          refine x_eqM (congrArg (fun z => tv g M z w) tfd_n) ?_
          refine x_iincN (n := 1) dX6_feed_109 (by decide) rfl (by decide) rfl ?_
          refine x_goto (tgt := 18) dX6_feed_112 (by decide) ?_
          have ev : feV a b c d e i = b := by rw [feV, if_neg (Nat.not_lt.mpr hc28), if_pos hc39]
          rw [feL, if_pos hc22, ev, feB]
          exact ih (i + 1) _ _ (by omega) (by omega)
      · refine x_iload_n dX6_feed_31 rfl ?_
        refine x_goto (tgt := 71) dX6_feed_32 (by decide) ?_
        refine x_istore dX6_feed_71 (by decide) rfl ?_
        refine x_aload_n dX6_feed_73 rfl ?_
        refine v_geta 7 hM dX6_feed_74 (by decide) rfl q1137 ?_
        refine x_aload_n dX6_feed_77 rfl ?_
        refine v_geti 16 hM dX6_feed_78 (by decide) rfl q1146 ?_
        refine x_top (show tfd T C (nI (t + i)) 0 16 = nI (t + i) from rfl) ?_
        refine x_iload dX6_feed_81 rfl ?_
        refine x_bipush (v := nI 24) dX6_feed_83 (by decide) ?_
        refine x_bipush (v := nI 8) dX6_feed_85 (by decide) ?_
        refine x_iload dX6_feed_87 rfl ?_
        refine x_ic4 dX6_feed_89 ?_
        refine x_iremN dX6_feed_90 (by omega) (by omega) (by omega) ?_
        refine x_imulN dX6_feed_91 ?_
        refine x_isubN dX6_feed_92 (by omega) ?_
        refine x_ishr dX6_feed_93 ?_
        refine x_sipush (v := nI 255) dX6_feed_94 (by decide) ?_
        refine x_iand dX6_feed_97 ?_
        refine v_iast 7 hM dX6_feed_98 (by decide) (by decide) rfl rfl (by show _ < 400; omega) ?_
        refine x_eqM (congrArg (fun z => tv g M z w) tfd_c) ?_
        refine x_aload_n dX6_feed_99 rfl ?_
        refine x_dup dX6_feed_100 rfl ?_
        refine v_geti 16 hM dX6_feed_101 (by decide) rfl q1146 ?_
        refine x_top (show tfd T _ (nI (t + i)) 0 16 = nI (t + i) from rfl) ?_
        refine x_ic1 dX6_feed_104 ?_
        refine x_iaddN dX6_feed_105 ?_
        refine v_puti 16 hM dX6_feed_106 (by decide) rfl q1146 rfl rfl rfl ?_
        refine x_eqM (congrArg (fun z => tv g M z w) tfd_n) ?_
        refine x_iincN (n := 1) dX6_feed_109 (by decide) rfl (by decide) rfl ?_
        refine x_goto (tgt := 18) dX6_feed_112 (by decide) ?_
        have ev : feV a b c d e i = a := by rw [feV, if_pos hc28]
        rw [feL, if_pos hc22, ev, feB]
        exact ih (i + 1) _ _ (by omega) (by omega)
set_option maxHeartbeats 1000000 in
theorem c_feed (hM : tw0 + 17 ≤ fc_nx M) {t : Nat} (ht : T 0 16 = nI t) (htl : t ≤ 400) {a b c d e : Int32} : fc_CX g l yX6_feed cX6_feed 8 (some .int) 1 [.ref (fc_B g + tw0), .int a, .int b, .int c, .int d, .int e] (tv g M T w) (tv_ie g M (feQ T t a b c d e).1 (feQ T t a b c d e).2 w) := by
  refine fc_enter (by decide) (Nat.le_of_ble_eq_true rfl) rfl ?_
  refine x_aload_n dX6_feed_0 rfl ?_
  refine v_geti 16 hM dX6_feed_1 (by decide) rfl q1146 ?_
  refine x_top ht ?_
  refine x_bipush (v := nI 20) dX6_feed_4 (by decide) ?_
  refine x_iaddN dX6_feed_6 ?_
  refine x_sipush (v := nI 400) dX6_feed_7 (by decide) ?_
  refine x_icmpN_le (tgt := 15) dX6_feed_10 (by decide) (by omega) (by omega) (fun hc10 => ?_) (fun hc10 => ?_)
  · refine x_ic0 dX6_feed_15 ?_
    refine x_istore dX6_feed_16 (by decide) rfl ?_
    have e9 : feQ T t a b c d e = (nI (t + 20), tfd T (feL a b c d e t 21 0 (T 7)) (nI (t + 20))) := if_pos hc10
    rw [e9]
    refine x_eqM (congrArg (fun z => tv g M z w) (show T = tfd T (T 7) (nI (t + 0)) from (ht ▸ tfd_self (T := T)).symm)) ?_
    exact l_feed hM hc10 21 0 (T 7) _ (by omega) (by omega)
  · refine x_icm1 dX6_feed_13 ?_
    have e9 : feQ T t a b c d e = (-1, T) := if_neg (by omega)
    rw [e9]
    exact x_iret dX6_feed_14 rfl rfl tv_i1
end T67
