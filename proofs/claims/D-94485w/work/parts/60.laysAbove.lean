set_option maxRecDepth 100000
section T60
variable {g : fc_G} {l : Launch} {M : fc_M} {T : tT} {w : Nat → Int32}
def t13 (T : tT) (b : Nat → Int32) : tT := fun a k => if a = 13 then b k else T a k
theorem t13_u {T : tT} {b : Nat → Int32} {i : Nat} {v : Int32} : tu (t13 T b) 13 i v = t13 T (up b i v) := by
  funext a k
  by_cases h : a = 13
  · subst h
    simp [tu, t13, up]
  · simp [tu, t13, h]
theorem t13_self {T : tT} : t13 T (T 13) = T := by
  funext a k
  by_cases h : a = 13
  · subst h; rfl
  · exact if_neg h
def laZ (w : Nat → Int32) (F : Nat) : Nat → Nat → (Nat → Int32) → (Nat → Int32)
  | 0, _, A => A
  | k + 1, i, A => if i < F then laZ w F k (i + 1) (up A i (bwQ w F i (-1))) else A
def laS (w : Nat → Int32) (F m f : Nat) (A : Nat → Int32) : Nat → Nat → Int32 → Int32
  | 0, _, v => v
  | k + 1, i, v => if i < F then (if A (80 * (m - 1) + i) = -1 then laS w F m f A k (i + 1) v else laS w F m f A k (i + 1) (if v = -1 then bwQ w F f (nI i) + A (80 * (m - 1) + i) else if bwQ w F f (nI i) + A (80 * (m - 1) + i) < v then bwQ w F f (nI i) + A (80 * (m - 1) + i) else v)) else v
def laI (w : Nat → Int32) (F m : Nat) : Nat → Nat → (Nat → Int32) → (Nat → Int32)
  | 0, _, A => A
  | k + 1, f, A => if f < F then laI w F m k (f + 1) (up A (80 * m + f) (laS w F m f A (F - f) (f + 1) (-1))) else A
def laO (w : Nat → Int32) (F n : Nat) : Nat → Nat → (Nat → Int32) → (Nat → Int32)
  | 0, _, A => A
  | k + 1, m, A => if m < n then laO w F n k (m + 1) (laI w F m (F + 1) 0 A) else A
def laA (w : Nat → Int32) (F n : Nat) (A : Nat → Int32) : Nat → Int32 := laO w F n n 1 (laZ w F (F + 1) 0 A)
theorem kG_X6_X6_between : GoodIn lw_all (wsV RX6 386 RX6 yX6_between (ws_ yX6_between cX6_between 5 (some .int))) := lw_V q1600 q1602 qs111 q124 q1603
theorem kP_X6_between : kPar yX6_between 2 := by decide +kernel
set_option maxHeartbeats 1000000 in
theorem l_la57 {n0 s0 : Nat} (hM : tw0 + 17 ≤ fc_nx M) {F n : Nat} (hF : F ≤ 80) (hn : n ≤ 4) (h0 : w 0 = nI F) {m f : Nat} (hm0 : 0 < m) (hm : m < n) (hf : f < F) {A : Nat → Int32} {Q : Outcome → fc_M → Prop} : ∀ (k i : Nat) (v : Int32) (v6 v7 : Option Value), f < i → i ≤ F → F < i + k → (∀ v5 v6 v7, fc_X g l yX6_laysAbove cX6_laysAbove 8 none 4 n0 s0 (tv g M (t13 T A) w) 133 [some (.ref (fc_B g + tw0)), some (.int (nI n)), some (.int (nI m)), some (.int (nI f)), some (.int (laS w F m f A k i v)), v5, v6, v7] [] Q) → fc_X g l yX6_laysAbove cX6_laysAbove 8 (none) 4 n0 s0 (tv g M (t13 T A) w) 57 [some (.ref (fc_B g + tw0)), some (.int (nI n)), some (.int (nI m)), some (.int (nI f)), some (.int (v)), some (.int (nI i)), v6, v7] [] (Q) := by
  intro k
  induction k with
  | zero => intro i v v6 v7 hfi h1 h2 kk; omega
  | succ k ih =>
    intro i v v6 v7 hfi h1 h2 kk
    refine x_iload dX6_laysAbove_57 rfl ?_
    refine x_aload_n dX6_laysAbove_59 rfl ?_
    refine v_geta 0 hM dX6_laysAbove_60 (by decide) rfl q1130 ?_
    refine x_ic0 dX6_laysAbove_63 ?_
    refine v_wld hM dX6_laysAbove_64 rfl (by omega) ?_
    refine x_top h0 ?_
    refine x_icmpN_ge (tgt := 133) dX6_laysAbove_65 (by decide) (by omega) (by omega) (fun hc65 => ?_) (fun hc65 => ?_)
    · rw [laS, if_neg (Nat.not_lt.mpr hc65)] at kk
      exact kk _ _ _
    · refine x_aload_n dX6_laysAbove_68 rfl ?_
      refine v_geta 34 hM dX6_laysAbove_69 (by decide) rfl q1164 ?_
      refine x_bipush (v := nI 80) dX6_laysAbove_72 (by decide) ?_
      refine x_iload_n dX6_laysAbove_74 rfl ?_
      refine x_ic1 dX6_laysAbove_75 ?_
      refine x_isubN dX6_laysAbove_76 (by omega) ?_
      refine x_imulN dX6_laysAbove_77 ?_
      refine x_iload dX6_laysAbove_78 rfl ?_
      refine x_iaddN dX6_laysAbove_80 ?_
      refine v_iald 13 hM dX6_laysAbove_81 (by decide) (by decide) rfl rfl (by show _ < 320; omega) ?_
      refine x_top (show t13 T A 13 (80 * (m - 1) + i) = A (80 * (m - 1) + i) from rfl) ?_
      refine x_istore dX6_laysAbove_82 (by decide) rfl ?_
      refine x_iload dX6_laysAbove_84 rfl ?_
      refine x_icm1 dX6_laysAbove_86 ?_
      refine x_icmp_ne (tgt := 93) dX6_laysAbove_87 (by decide) (fun hc87 => ?_) (fun hc87 => ?_)
      · refine x_aload_n dX6_laysAbove_93 rfl ?_
        refine x_iload_n dX6_laysAbove_94 rfl ?_
        refine x_iload dX6_laysAbove_95 rfl ?_
        refine v_V2ie hM dX6_laysAbove_97 kG_X6_X6_between kP_X6_between rfl (by omega) (by decide) (Nat.le_of_ble_eq_true rfl) (c_between hM (by omega) h0 (by omega) rfl) ?_
        refine x_iload dX6_laysAbove_100 rfl ?_
        refine x_iadd dX6_laysAbove_102 ?_
        refine x_istore dX6_laysAbove_103 (by decide) rfl ?_
        refine x_iload dX6_laysAbove_105 rfl ?_
        refine x_icm1 dX6_laysAbove_107 ?_
        refine x_icmp_eq (tgt := 118) dX6_laysAbove_108 (by decide) (fun hc108 => ?_) (fun hc108 => ?_)
        · refine x_iload dX6_laysAbove_118 rfl ?_
          refine x_goto (tgt := 125) dX6_laysAbove_120 (by decide) ?_
          refine x_istore dX6_laysAbove_125 (by decide) rfl ?_
          refine x_iincN (n := 1) dX6_laysAbove_127 (by decide) rfl (by decide) rfl ?_
          refine x_goto (tgt := 57) dX6_laysAbove_130 (by decide) ?_
          rw [laS, if_pos hc65, if_neg hc87, if_pos hc108] at kk
          exact ih (i + 1) _ _ _ (by omega) (by omega) (by omega) kk
        · refine x_iload dX6_laysAbove_111 rfl ?_
          refine x_iload dX6_laysAbove_113 rfl ?_
          refine x_icmp_ge (tgt := 123) dX6_laysAbove_115 (by decide) (fun hc115 => ?_) (fun hc115 => ?_)
          · refine x_iload dX6_laysAbove_123 rfl ?_
            refine x_istore dX6_laysAbove_125 (by decide) rfl ?_
            refine x_iincN (n := 1) dX6_laysAbove_127 (by decide) rfl (by decide) rfl ?_
            refine x_goto (tgt := 57) dX6_laysAbove_130 (by decide) ?_
            rw [laS, if_pos hc65, if_neg hc87, if_neg hc108, if_neg (Int32.not_lt.mpr hc115)] at kk
            exact ih (i + 1) _ _ _ (by omega) (by omega) (by omega) kk
          · refine x_iload dX6_laysAbove_118 rfl ?_
            refine x_goto (tgt := 125) dX6_laysAbove_120 (by decide) ?_
            refine x_istore dX6_laysAbove_125 (by decide) rfl ?_
            refine x_iincN (n := 1) dX6_laysAbove_127 (by decide) rfl (by decide) rfl ?_
            refine x_goto (tgt := 57) dX6_laysAbove_130 (by decide) ?_
            rw [laS, if_pos hc65, if_neg hc87, if_neg hc108, if_pos (Int32.not_le.mp hc115)] at kk
            exact ih (i + 1) _ _ _ (by omega) (by omega) (by omega) kk
      · refine x_goto (tgt := 127) dX6_laysAbove_90 (by decide) ?_
        refine x_iincN (n := 1) dX6_laysAbove_127 (by decide) rfl (by decide) rfl ?_
        refine x_goto (tgt := 57) dX6_laysAbove_130 (by decide) ?_
        rw [laS, if_pos hc65, if_pos hc87] at kk
        exact ih (i + 1) _ _ _ (by omega) (by omega) (by omega) kk
set_option maxHeartbeats 1000000 in
theorem b_la133 {n0 s0 : Nat} (hM : tw0 + 17 ≤ fc_nx M) {F n : Nat} (hF : F ≤ 80) (hn : n ≤ 4) (h0 : w 0 = nI F) {m f : Nat} (hm : m < n) (hf : f < F) {A : Nat → Int32} {v : Int32} {v5 v6 v7 : Option Value} {Q : Outcome → fc_M → Prop} (kk : fc_X g l yX6_laysAbove cX6_laysAbove 8 none 4 n0 s0 (tv g M (t13 T (up A (80 * m + f) v)) w) 39 [some (.ref (fc_B g + tw0)), some (.int (nI n)), some (.int (nI m)), some (.int (nI (f + 1))), some (.int (v)), v5, v6, v7] [] Q) : fc_X g l yX6_laysAbove cX6_laysAbove 8 (none) 4 n0 s0 (tv g M (t13 T A) w) 133 [some (.ref (fc_B g + tw0)), some (.int (nI n)), some (.int (nI m)), some (.int (nI f)), some (.int (v)), v5, v6, v7] [] (Q) := by
  refine x_aload_n dX6_laysAbove_133 rfl ?_
  refine v_geta 34 hM dX6_laysAbove_134 (by decide) rfl q1164 ?_
  refine x_bipush (v := nI 80) dX6_laysAbove_137 (by decide) ?_
  refine x_iload_n dX6_laysAbove_139 rfl ?_
  refine x_imulN dX6_laysAbove_140 ?_
  refine x_iload_n dX6_laysAbove_141 rfl ?_
  refine x_iaddN dX6_laysAbove_142 ?_
  refine x_iload dX6_laysAbove_143 rfl ?_
  refine v_iast 13 hM dX6_laysAbove_145 (by decide) (by decide) rfl rfl (by show _ < 320; omega) ?_
  refine x_eqM (congrArg (fun z => tv g M z w) t13_u) ?_
  refine x_iincN (n := 1) dX6_laysAbove_146 (by decide) rfl (by decide) rfl ?_
  refine x_goto (tgt := 39) dX6_laysAbove_149 (by decide) ?_
  exact kk
set_option maxHeartbeats 1000000 in
theorem l_la39 {n0 s0 : Nat} (hM : tw0 + 17 ≤ fc_nx M) {F n : Nat} (hF : F ≤ 80) (hn : n ≤ 4) (h0 : w 0 = nI F) {m : Nat} (hm0 : 0 < m) (hm : m < n) {Q : Outcome → fc_M → Prop} : ∀ (k f : Nat) (A : Nat → Int32) (v4 v5 v6 v7 : Option Value), f ≤ F → F < f + k → (∀ v3 v4 v5 v6 v7, fc_X g l yX6_laysAbove cX6_laysAbove 8 none 4 n0 s0 (tv g M (t13 T (laI w F m k f A)) w) 152 [some (.ref (fc_B g + tw0)), some (.int (nI n)), some (.int (nI m)), v3, v4, v5, v6, v7] [] Q) → fc_X g l yX6_laysAbove cX6_laysAbove 8 (none) 4 n0 s0 (tv g M (t13 T A) w) 39 [some (.ref (fc_B g + tw0)), some (.int (nI n)), some (.int (nI m)), some (.int (nI f)), v4, v5, v6, v7] [] (Q) := by
  intro k
  induction k with
  | zero => intro f A v4 v5 v6 v7 h1 h2 kk; omega
  | succ k ih =>
    intro f A v4 v5 v6 v7 h1 h2 kk
    refine x_iload_n dX6_laysAbove_39 rfl ?_
    refine x_aload_n dX6_laysAbove_40 rfl ?_
    refine v_geta 0 hM dX6_laysAbove_41 (by decide) rfl q1130 ?_
    refine x_ic0 dX6_laysAbove_44 ?_
    refine v_wld hM dX6_laysAbove_45 rfl (by omega) ?_
    refine x_top h0 ?_
    refine x_icmpN_ge (tgt := 152) dX6_laysAbove_46 (by decide) (by omega) (by omega) (fun hc46 => ?_) (fun hc46 => ?_)
    · rw [laI, if_neg (Nat.not_lt.mpr hc46)] at kk
      exact kk _ _ _ _ _
    · refine x_icm1 dX6_laysAbove_49 ?_
      refine x_istore dX6_laysAbove_50 (by decide) rfl ?_
      refine x_iload_n dX6_laysAbove_52 rfl ?_
      refine x_ic1 dX6_laysAbove_53 ?_
      refine x_iaddN dX6_laysAbove_54 ?_
      refine x_istore dX6_laysAbove_55 (by decide) rfl ?_
      rw [laI, if_pos hc46] at kk
      refine l_la57 hM hF hn h0 hm0 hm hc46 (F - f) (f + 1) _ _ _ (by omega) (by omega) (by omega) (fun v5 v6 v7 => ?_)
      exact b_la133 hM hF hn h0 hm hc46 (ih (f + 1) _ _ _ _ _ (by omega) (by omega) kk)
set_option maxHeartbeats 1000000 in
theorem l_la32 {n0 s0 : Nat} (hM : tw0 + 17 ≤ fc_nx M) {F n : Nat} (hF : F ≤ 80) (hn : n ≤ 4) (h0 : w 0 = nI F) : ∀ (k m : Nat) (A : Nat → Int32) (v3 v4 v5 v6 v7 : Option Value), 0 < m → m ≤ n → n < m + k → fc_X g l yX6_laysAbove cX6_laysAbove 8 (none) 4 n0 s0 (tv g M (t13 T A) w) 32 [some (.ref (fc_B g + tw0)), some (.int (nI n)), some (.int (nI m)), v3, v4, v5, v6, v7] [] (tv_ve g M (t13 T (laO w F n k m A)) w) := by
  intro k
  induction k with
  | zero => intro m A v3 v4 v5 v6 v7 h3 h1 h2; omega
  | succ k ih =>
    intro m A v3 v4 v5 v6 v7 h3 h1 h2
    refine x_iload_n dX6_laysAbove_32 rfl ?_
    refine x_iload_n dX6_laysAbove_33 rfl ?_
    refine x_icmpN_ge (tgt := 158) dX6_laysAbove_34 (by decide) (by omega) (by omega) (fun hc34 => ?_) (fun hc34 => ?_)
    · rw [laO, if_neg (Nat.not_lt.mpr hc34)]
      exact x_vret dX6_laysAbove_158 rfl tv_v1
    · refine x_ic0 dX6_laysAbove_37 ?_
      refine x_istore_n dX6_laysAbove_38 (by decide) rfl ?_
      rw [laO, if_pos hc34]
      refine l_la39 hM hF hn h0 h3 hc34 (F + 1) 0 _ _ _ _ _ (by omega) (by omega) (fun v3 v4 v5 v6 v7 => ?_)
      refine x_iincN (n := 1) dX6_laysAbove_152 (by decide) rfl (by decide) rfl ?_
      refine x_goto (tgt := 32) dX6_laysAbove_155 (by decide) ?_
      exact ih (m + 1) _ _ _ _ _ _ (by omega) (by omega) (by omega)
set_option maxHeartbeats 1000000 in
theorem l_la2 {n0 s0 : Nat} (hM : tw0 + 17 ≤ fc_nx M) {F n : Nat} (hF : F ≤ 80) (hn : n ≤ 4) (h0 : w 0 = nI F) (hn1 : 1 ≤ n) : ∀ (k i : Nat) (A : Nat → Int32), i ≤ F → F < i + k → fc_X g l yX6_laysAbove cX6_laysAbove 8 (none) 4 n0 s0 (tv g M (t13 T A) w) 2 [some (.ref (fc_B g + tw0)), some (.int (nI n)), some (.int (nI i)), none, none, none, none, none] [] (tv_ve g M (t13 T (laO w F n n 1 (laZ w F k i A))) w) := by
  intro k
  induction k with
  | zero => intro i A h1 h2; omega
  | succ k ih =>
    intro i A h1 h2
    refine x_iload_n dX6_laysAbove_2 rfl ?_
    refine x_aload_n dX6_laysAbove_3 rfl ?_
    refine v_geta 0 hM dX6_laysAbove_4 (by decide) rfl q1130 ?_
    refine x_ic0 dX6_laysAbove_7 ?_
    refine v_wld hM dX6_laysAbove_8 rfl (by omega) ?_
    refine x_top h0 ?_
    refine x_icmpN_ge (tgt := 30) dX6_laysAbove_9 (by decide) (by omega) (by omega) (fun hc9 => ?_) (fun hc9 => ?_)
    · refine x_ic1 dX6_laysAbove_30 ?_
      refine x_istore_n dX6_laysAbove_31 (by decide) rfl ?_
      rw [laZ, if_neg (Nat.not_lt.mpr hc9)]
      exact l_la32 hM hF hn h0 n 1 A _ _ _ _ _ (by omega) (by omega) (by omega)
    · refine x_aload_n dX6_laysAbove_12 rfl ?_
      refine v_geta 34 hM dX6_laysAbove_13 (by decide) rfl q1164 ?_
      refine x_iload_n dX6_laysAbove_16 rfl ?_
      refine x_aload_n dX6_laysAbove_17 rfl ?_
      refine x_iload_n dX6_laysAbove_18 rfl ?_
      refine x_icm1 dX6_laysAbove_19 ?_
      refine v_V2ie hM dX6_laysAbove_20 kG_X6_X6_between kP_X6_between rfl (by omega) (by decide) (Nat.le_of_ble_eq_true rfl) (c_between hM (by omega) h0 (by omega) rfl) ?_
      refine v_iast 13 hM dX6_laysAbove_23 (by decide) (by decide) rfl rfl (by show _ < 320; omega) ?_
      refine x_eqM (congrArg (fun z => tv g M z w) t13_u) ?_
      refine x_iincN (n := 1) dX6_laysAbove_24 (by decide) rfl (by decide) rfl ?_
      refine x_goto (tgt := 2) dX6_laysAbove_27 (by decide) ?_
      rw [laZ, if_pos hc9]
      exact ih (i + 1) _ (by omega) (by omega)
set_option maxHeartbeats 1000000 in
theorem c_laysAbove (hM : tw0 + 17 ≤ fc_nx M) {F n : Nat} (hF : F ≤ 80) (hn : n ≤ 4) (h0 : w 0 = nI F) (hn1 : 1 ≤ n) {x : Int32} (hx : x = nI n) : fc_CX g l yX6_laysAbove cX6_laysAbove 8 (none) 4 [.ref (fc_B g + tw0), .int x] (tv g M T w) (tv_ve g M (t13 T (laA w F n (T 13))) w) := by
  refine fc_enter (by decide) (Nat.le_of_ble_eq_true rfl) rfl ?_
  subst hx
  refine x_eqM (congrArg (fun z => tv g M z w) t13_self.symm) ?_
  refine x_ic0 dX6_laysAbove_0 ?_
  refine x_istore_n dX6_laysAbove_1 (by decide) rfl ?_
  exact l_la2 hM hF hn h0 hn1 (F + 1) 0 (T 13) (by omega) (by omega)
end T60
