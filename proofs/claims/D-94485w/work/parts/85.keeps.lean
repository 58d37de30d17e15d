set_option maxRecDepth 100000
section T85
variable {g : fc_G} {l : Launch} {M : fc_M} {T : tT} {w : Nat → Int32}
def klL (T : tT) (r ln : Nat) : Nat → Nat → (Nat → Int32) → (Nat → Int32)
  | 0, _, w => w
  | f + 1, i, w => if i < ln then klL T r ln f (i + 1) (up (up (up (up w (1310 + 16 * r + i) (T 4 (4 * i))) (1360 + 16 * r + i) (T 4 (4 * i + 1))) (1410 + 16 * r + i) (T 4 (4 * i + 2))) (1460 + 16 * r + i) (T 4 (4 * i + 3))) else w
def ksL (T : tT) (r n : Nat) : Nat → Nat → (Nat → Int32) → (Nat → Int32)
  | 0, _, w => w
  | f + 1, i, w => if i < 2 * n then ksL T r n f (i + 1) (up w (1510 + 820 * r + i) (T 5 i)) else w
def krW (T : tT) (r ln n : Nat) (w : Nat → Int32) : Nat → Int32 := ksL T r n 821 0 (klL T r ln 17 0 (up w (1300 + r) (nI ln)))
def ztL : Nat → Nat → (Nat → Int32) → (Nat → Int32)
  | 0, _, w => w
  | f + 1, i, w => if i < 1300 then ztL f (i + 1) (up w i (nI 0)) else w
def kcL (T : tT) (c : Nat) : Nat → Nat → (Nat → Int32) → (Nat → Int32)
  | 0, _, w => w
  | f + 1, i, w => if i < 4 then kcL T c f (i + 1) (up w (10 + 20 * c + (6 + i)) (T 6 (10 * c + i))) else w
def kdL (T : tT) (c F : Nat) : Nat → Nat → (Nat → Int32) → (Nat → Int32)
  | 0, _, w => w
  | f + 1, i, w => if i < F then kdL T c F f (i + 1) (up w (100 + 80 * c + i) (if T 10 (80 * c + i) = 0 then nI 1 else nI 0)) else w
def kbL (T : tT) (F nc : Nat) : Nat → Nat → (Nat → Int32) → (Nat → Int32)
  | 0, _, w => w
  | f + 1, c, w => if c < nc then kbL T F nc f (c + 1) (up (kdL T c F 81 0 (up (kcL T c 5 0 w) (10 + 20 * c + 10) (T 6 (10 * c + 4)))) (10 + 20 * c + 5) (-1)) else w
def keL (F : Nat) : Nat → Nat → (Nat → Int32) → (Nat → Int32)
  | 0, _, w => w
  | f + 1, i, w => if i < F then keL F f (i + 1) (up w (740 + i) (nI 1)) else w
def ktW (T : tT) (F nc ln : Nat) (w : Nat → Int32) : Nat → Int32 := pkW nc (nc + 1) 0 (keL F 81 0 (kbL T F nc 5 0 (up (up (up (up (ztL 1301 0 w) 4 (w 4)) 0 (nI F)) 1 (nI nc)) 5 (nI ln))))
theorem kcL_lo {T : tT} {c x : Nat} (hx : x < 10) : ∀ (f i : Nat) (w : Nat → Int32), kcL T c f i w x = w x := by
  intro f
  induction f with
  | zero => intro i w; rfl
  | succ f ih =>
    intro i w
    rw [kcL]
    by_cases h : i < 4
    · rw [if_pos h, ih, up_n (by omega)]
    · rw [if_neg h]
theorem kdL_lo {T : tT} {c F x : Nat} (hx : x < 10) : ∀ (f i : Nat) (w : Nat → Int32), kdL T c F f i w x = w x := by
  intro f
  induction f with
  | zero => intro i w; rfl
  | succ f ih =>
    intro i w
    rw [kdL]
    by_cases h : i < F
    · rw [if_pos h, ih, up_n (by omega)]
    · rw [if_neg h]
theorem kbL_lo {T : tT} {F nc x : Nat} (hx : x < 10) : ∀ (f c : Nat) (w : Nat → Int32), kbL T F nc f c w x = w x := by
  intro f
  induction f with
  | zero => intro c w; rfl
  | succ f ih =>
    intro c w
    rw [kbL]
    by_cases h : c < nc
    · rw [if_pos h, ih, up_n (by omega), kdL_lo hx, up_n (by omega), kcL_lo hx]
    · rw [if_neg h]
theorem keL_lo {F x : Nat} (hx : x < 10) : ∀ (f i : Nat) (w : Nat → Int32), keL F f i w x = w x := by
  intro f
  induction f with
  | zero => intro i w; rfl
  | succ f ih =>
    intro i w
    rw [keL]
    by_cases h : i < F
    · rw [if_pos h, ih, up_n (by omega)]
    · rw [if_neg h]
set_option maxHeartbeats 1000000 in
theorem l_kr2 {n0 s0 : Nat} (hM : tw0 + 17 ≤ fc_nx M) {r ln n : Nat} (hr : r < 3) (hl : T 0 12 = nI ln) (hln : ln ≤ 16) (hn : T 0 13 = nI n) (hnn : n ≤ 400) : ∀ (k i : Nat) (w : Nat → Int32), i ≤ 2 * n → 2 * n < i + k → fc_X g l yX6_keepsRule cX6_keepsRule 3 (none) 1 n0 s0 (tv g M T w) 130 [some (.ref (fc_B g + tw0)), some (.int (nI r)), some (.int (nI i))] [] (tv_ve g M T (ksL T r n k i w)) := by
  intro k
  induction k with
  | zero => intro i w h1 h2; omega
  | succ k ih =>
    intro i w h1 h2
    refine x_iload_n dX6_keepsRule_130 rfl ?_
    refine x_ic2 dX6_keepsRule_131 ?_
    refine x_aload_n dX6_keepsRule_132 rfl ?_
    refine v_geti 13 hM dX6_keepsRule_133 (by decide) rfl q1143 ?_
    refine x_top hn ?_
    refine x_imulN dX6_keepsRule_136 ?_
    refine x_icmpN_ge (tgt := 168) dX6_keepsRule_137 (by decide) (by omega) (by omega) (fun hc137 => ?_) (fun hc137 => ?_)
    · exact x_vret dX6_keepsRule_168 rfl (tv_v2 rfl (by rw [ksL, if_neg (by omega)]))
    · refine x_aload_n dX6_keepsRule_140 rfl ?_
      refine v_geta 0 hM dX6_keepsRule_141 (by decide) rfl q1130 ?_
      refine x_sipush (v := nI 1510) dX6_keepsRule_144 (by decide) ?_
      refine x_sipush (v := nI 820) dX6_keepsRule_147 (by decide) ?_
      refine x_iload_n dX6_keepsRule_150 rfl ?_
      refine x_imulN dX6_keepsRule_151 ?_
      refine x_iaddN dX6_keepsRule_152 ?_
      refine x_iload_n dX6_keepsRule_153 rfl ?_
      refine x_iaddN dX6_keepsRule_154 ?_
      refine x_aload_n dX6_keepsRule_155 rfl ?_
      refine v_geta 5 hM dX6_keepsRule_156 (by decide) rfl q1135 ?_
      refine x_iload_n dX6_keepsRule_159 rfl ?_
      refine v_iald 5 hM dX6_keepsRule_160 (by decide) (by decide) rfl rfl (by show _ < 820; omega) ?_
      refine v_wst hM dX6_keepsRule_161 rfl (by omega) ?_
      refine x_iincN (n := 1) dX6_keepsRule_162 (by decide) rfl (by decide) rfl ?_
      refine x_goto (tgt := 130) dX6_keepsRule_165 (by decide) ?_
      rw [ksL, if_pos hc137]
      exact ih (i + 1) _ (by omega) (by omega)
set_option maxHeartbeats 1000000 in
theorem l_kr1 {n0 s0 : Nat} (hM : tw0 + 17 ≤ fc_nx M) {r ln n : Nat} (hr : r < 3) (hl : T 0 12 = nI ln) (hln : ln ≤ 16) (hn : T 0 13 = nI n) (hnn : n ≤ 400) : ∀ (k i : Nat) (w : Nat → Int32), i ≤ ln → ln < i + k → fc_X g l yX6_keepsRule cX6_keepsRule 3 (none) 1 n0 s0 (tv g M T w) 16 [some (.ref (fc_B g + tw0)), some (.int (nI r)), some (.int (nI i))] [] (tv_ve g M T (ksL T r n 821 0 (klL T r ln k i w))) := by
  intro k
  induction k with
  | zero => intro i w h1 h2; omega
  | succ k ih =>
    intro i w h1 h2
    refine x_iload_n dX6_keepsRule_16 rfl ?_
    refine x_aload_n dX6_keepsRule_17 rfl ?_
    refine v_geti 12 hM dX6_keepsRule_18 (by decide) rfl q1142 ?_
    refine x_top hl ?_
    refine x_icmpN_ge (tgt := 128) dX6_keepsRule_21 (by decide) (by omega) (by omega) (fun hc21 => ?_) (fun hc21 => ?_)
    · refine x_ic0 dX6_keepsRule_128 ?_
      refine x_istore_n dX6_keepsRule_129 (by decide) rfl ?_
      rw [klL, if_neg (by omega)]
      exact l_kr2 hM hr hl hln hn hnn 821 0 _ (by omega) (by omega)
    · refine x_aload_n dX6_keepsRule_24 rfl ?_
      refine v_geta 0 hM dX6_keepsRule_25 (by decide) rfl q1130 ?_
      refine x_sipush (v := nI 1310) dX6_keepsRule_28 (by decide) ?_
      refine x_bipush (v := nI 16) dX6_keepsRule_31 (by decide) ?_
      refine x_iload_n dX6_keepsRule_33 rfl ?_
      refine x_imulN dX6_keepsRule_34 ?_
      refine x_iaddN dX6_keepsRule_35 ?_
      refine x_iload_n dX6_keepsRule_36 rfl ?_
      refine x_iaddN dX6_keepsRule_37 ?_
      refine x_aload_n dX6_keepsRule_38 rfl ?_
      refine v_geta 4 hM dX6_keepsRule_39 (by decide) rfl q1134 ?_
      refine x_ic4 dX6_keepsRule_42 ?_
      refine x_iload_n dX6_keepsRule_43 rfl ?_
      refine x_imulN dX6_keepsRule_44 ?_
      refine v_iald 4 hM dX6_keepsRule_45 (by decide) (by decide) rfl rfl (by show _ < 64; omega) ?_
      refine v_wst hM dX6_keepsRule_46 rfl (by omega) ?_
      refine x_aload_n dX6_keepsRule_47 rfl ?_
      refine v_geta 0 hM dX6_keepsRule_48 (by decide) rfl q1130 ?_
      refine x_sipush (v := nI 1360) dX6_keepsRule_51 (by decide) ?_
      refine x_bipush (v := nI 16) dX6_keepsRule_54 (by decide) ?_
      refine x_iload_n dX6_keepsRule_56 rfl ?_
      refine x_imulN dX6_keepsRule_57 ?_
      refine x_iaddN dX6_keepsRule_58 ?_
      refine x_iload_n dX6_keepsRule_59 rfl ?_
      refine x_iaddN dX6_keepsRule_60 ?_
      refine x_aload_n dX6_keepsRule_61 rfl ?_
      refine v_geta 4 hM dX6_keepsRule_62 (by decide) rfl q1134 ?_
      refine x_ic4 dX6_keepsRule_65 ?_
      refine x_iload_n dX6_keepsRule_66 rfl ?_
      refine x_imulN dX6_keepsRule_67 ?_
      refine x_ic1 dX6_keepsRule_68 ?_
      refine x_iaddN dX6_keepsRule_69 ?_
      refine v_iald 4 hM dX6_keepsRule_70 (by decide) (by decide) rfl rfl (by show _ < 64; omega) ?_
      refine v_wst hM dX6_keepsRule_71 rfl (by omega) ?_
      refine x_aload_n dX6_keepsRule_72 rfl ?_
      refine v_geta 0 hM dX6_keepsRule_73 (by decide) rfl q1130 ?_
      refine x_sipush (v := nI 1410) dX6_keepsRule_76 (by decide) ?_
      refine x_bipush (v := nI 16) dX6_keepsRule_79 (by decide) ?_
      refine x_iload_n dX6_keepsRule_81 rfl ?_
      refine x_imulN dX6_keepsRule_82 ?_
      refine x_iaddN dX6_keepsRule_83 ?_
      refine x_iload_n dX6_keepsRule_84 rfl ?_
      refine x_iaddN dX6_keepsRule_85 ?_
      refine x_aload_n dX6_keepsRule_86 rfl ?_
      refine v_geta 4 hM dX6_keepsRule_87 (by decide) rfl q1134 ?_
      refine x_ic4 dX6_keepsRule_90 ?_
      refine x_iload_n dX6_keepsRule_91 rfl ?_
      refine x_imulN dX6_keepsRule_92 ?_
      refine x_ic2 dX6_keepsRule_93 ?_
      refine x_iaddN dX6_keepsRule_94 ?_
      refine v_iald 4 hM dX6_keepsRule_95 (by decide) (by decide) rfl rfl (by show _ < 64; omega) ?_
      refine v_wst hM dX6_keepsRule_96 rfl (by omega) ?_
      refine x_aload_n dX6_keepsRule_97 rfl ?_
      refine v_geta 0 hM dX6_keepsRule_98 (by decide) rfl q1130 ?_
      refine x_sipush (v := nI 1460) dX6_keepsRule_101 (by decide) ?_
      refine x_bipush (v := nI 16) dX6_keepsRule_104 (by decide) ?_
      refine x_iload_n dX6_keepsRule_106 rfl ?_
      refine x_imulN dX6_keepsRule_107 ?_
      refine x_iaddN dX6_keepsRule_108 ?_
      refine x_iload_n dX6_keepsRule_109 rfl ?_
      refine x_iaddN dX6_keepsRule_110 ?_
      refine x_aload_n dX6_keepsRule_111 rfl ?_
      refine v_geta 4 hM dX6_keepsRule_112 (by decide) rfl q1134 ?_
      refine x_ic4 dX6_keepsRule_115 ?_
      refine x_iload_n dX6_keepsRule_116 rfl ?_
      refine x_imulN dX6_keepsRule_117 ?_
      refine x_ic3 dX6_keepsRule_118 ?_
      refine x_iaddN dX6_keepsRule_119 ?_
      refine v_iald 4 hM dX6_keepsRule_120 (by decide) (by decide) rfl rfl (by show _ < 64; omega) ?_
      refine v_wst hM dX6_keepsRule_121 rfl (by omega) ?_
      refine x_iincN (n := 1) dX6_keepsRule_122 (by decide) rfl (by decide) rfl ?_
      refine x_goto (tgt := 16) dX6_keepsRule_125 (by decide) ?_
      rw [klL, if_pos hc21]
      exact ih (i + 1) _ (by omega) (by omega)
set_option maxHeartbeats 1000000 in
theorem c_keepsRule (hM : tw0 + 17 ≤ fc_nx M) {r ln n : Nat} (hr : r < 3) (hl : T 0 12 = nI ln) (hln : ln ≤ 16) (hn : T 0 13 = nI n) (hnn : n ≤ 400) {x : Int32} (hx : x = nI r) : fc_CX g l yX6_keepsRule cX6_keepsRule 3 (none) 1 [.ref (fc_B g + tw0), .int x] (tv g M T w) (tv_ve g M T (krW T r ln n w)) := by
  refine fc_enter (by decide) (Nat.le_of_ble_eq_true rfl) rfl ?_
  subst hx
  refine x_aload_n dX6_keepsRule_0 rfl ?_
  refine v_geta 0 hM dX6_keepsRule_1 (by decide) rfl q1130 ?_
  refine x_sipush (v := nI 1300) dX6_keepsRule_4 (by decide) ?_
  refine x_iload_n dX6_keepsRule_7 rfl ?_
  refine x_iaddN dX6_keepsRule_8 ?_
  refine x_aload_n dX6_keepsRule_9 rfl ?_
  refine v_geti 12 hM dX6_keepsRule_10 (by decide) rfl q1142 ?_
  refine x_top hl ?_
  refine v_wst hM dX6_keepsRule_13 rfl (by omega) ?_
  refine x_ic0 dX6_keepsRule_14 ?_
  refine x_istore_n dX6_keepsRule_15 (by decide) rfl ?_
  rw [krW]
  exact l_kr1 hM hr hl hln hn hnn 17 0 _ (by omega) (by omega)
set_option maxHeartbeats 1000000 in
theorem l_kt5 {n0 s0 : Nat} (hM : tw0 + 17 ≤ fc_nx M) {F nc ln : Nat} (hF : T 0 14 = nI F) (hF2 : F ≤ 80) (hN : T 0 15 = nI nc) (hnc : nc ≤ 4) (hl : T 0 12 = nI ln) : ∀ (k i : Nat) (w : Nat → Int32) (v1 : Int32) (o3 : Option Value), w 1 = nI nc → i ≤ F → F < i + k → fc_X g l yX6_keepsTower cX6_keepsTower 4 (none) 3 n0 s0 (tv g M T w) 191 [some (.ref (fc_B g + tw0)), some (.int (v1)), some (.int (nI i)), o3] [] (tv_ve g M T (pkW nc (nc + 1) 0 (keL F k i w))) := by
  intro k
  induction k with
  | zero => intro i w v1 o3 hw h1 h2; omega
  | succ k ih =>
    intro i w v1 o3 hw h1 h2
    refine x_iload_n dX6_keepsTower_191 rfl ?_
    refine x_aload_n dX6_keepsTower_192 rfl ?_
    refine v_geti 14 hM dX6_keepsTower_193 (by decide) rfl q1144 ?_
    refine x_top hF ?_
    refine x_icmpN_ge (tgt := 216) dX6_keepsTower_196 (by decide) (by omega) (by omega) (fun hc196 => ?_) (fun hc196 => ?_)
    · have hp1 := hw
      refine x_aload_n dX6_keepsTower_216 rfl ?_
      refine v_V0ve hM dX6_keepsTower_217 kG_X6_X6_parks kP_X6_parks rfl (by omega) (by decide) (Nat.le_of_ble_eq_true rfl) (c_parks hM hnc hp1) ?_
      exact x_vret dX6_keepsTower_220 rfl (tv_v2 rfl (by rw [keL, if_neg (by omega)]))
    · refine x_aload_n dX6_keepsTower_199 rfl ?_
      refine v_geta 0 hM dX6_keepsTower_200 (by decide) rfl q1130 ?_
      refine x_sipush (v := nI 740) dX6_keepsTower_203 (by decide) ?_
      refine x_iload_n dX6_keepsTower_206 rfl ?_
      refine x_iaddN dX6_keepsTower_207 ?_
      refine x_ic1 dX6_keepsTower_208 ?_
      refine v_wst hM dX6_keepsTower_209 rfl (by omega) ?_
      refine x_iincN (n := 1) dX6_keepsTower_210 (by decide) rfl (by decide) rfl ?_
      refine x_goto (tgt := 191) dX6_keepsTower_213 (by decide) ?_
      rw [keL, if_pos hc196]
      exact ih (i + 1) _ _ _ (by rw [up_n (by omega)]; exact hw) (by omega) (by omega)
set_option maxHeartbeats 1000000 in
theorem l_kt1 {n0 s0 : Nat} {Q : Outcome → fc_M → Prop} (hM : tw0 + 17 ≤ fc_nx M) : ∀ (k i : Nat) (w : Nat → Int32) (v1 : Int32) (o3 : Option Value), i ≤ 1300 → 1300 < i + k → fc_X g l yX6_keepsTower cX6_keepsTower 4 (none) 3 n0 s0 (tv g M T (ztL k i w)) 29 [some (.ref (fc_B g + tw0)), some (.int (v1)), some (.int (nI 1300)), o3] [] (Q) → fc_X g l yX6_keepsTower cX6_keepsTower 4 (none) 3 n0 s0 (tv g M T w) 9 [some (.ref (fc_B g + tw0)), some (.int (v1)), some (.int (nI i)), o3] [] (Q) := by
  intro k
  induction k with
  | zero => intro i w v1 o3 h1 h2 kk; omega
  | succ k ih =>
    intro i w v1 o3 h1 h2 kk
    refine x_iload_n dX6_keepsTower_9 rfl ?_
    refine x_sipush (v := nI 1300) dX6_keepsTower_10 (by decide) ?_
    refine x_icmpN_ge (tgt := 29) dX6_keepsTower_13 (by decide) (by omega) (by omega) (fun hc13 => ?_) (fun hc13 => ?_)
    · obtain rfl : i = 1300 := by omega
      rw [ztL, if_neg (by omega)] at kk
      exact kk
    · refine x_aload_n dX6_keepsTower_16 rfl ?_
      refine v_geta 0 hM dX6_keepsTower_17 (by decide) rfl q1130 ?_
      refine x_iload_n dX6_keepsTower_20 rfl ?_
      refine x_ic0 dX6_keepsTower_21 ?_
      refine v_wst hM dX6_keepsTower_22 rfl (by omega) ?_
      refine x_iincN (n := 1) dX6_keepsTower_23 (by decide) rfl (by decide) rfl ?_
      refine x_goto (tgt := 9) dX6_keepsTower_26 (by decide) ?_
      rw [ztL, if_pos hc13] at kk
      exact ih (i + 1) _ _ _ (by omega) (by omega) kk
set_option maxHeartbeats 1000000 in
theorem l_kt2 {n0 s0 : Nat} {Q : Outcome → fc_M → Prop} (hM : tw0 + 17 ≤ fc_nx M) {c : Nat} (hc : c < 4) : ∀ (k i : Nat) (w : Nat → Int32) (v1 : Int32), i ≤ 4 → 4 < i + k → fc_X g l yX6_keepsTower cX6_keepsTower 4 (none) 3 n0 s0 (tv g M T (kcL T c k i w)) 109 [some (.ref (fc_B g + tw0)), some (.int (v1)), some (.int (nI c)), some (.int (nI 4))] [] (Q) → fc_X g l yX6_keepsTower cX6_keepsTower 4 (none) 3 n0 s0 (tv g M T w) 78 [some (.ref (fc_B g + tw0)), some (.int (v1)), some (.int (nI c)), some (.int (nI i))] [] (Q) := by
  intro k
  induction k with
  | zero => intro i w v1 h1 h2 kk; omega
  | succ k ih =>
    intro i w v1 h1 h2 kk
    refine x_iload_n dX6_keepsTower_78 rfl ?_
    refine x_ic4 dX6_keepsTower_79 ?_
    refine x_icmpN_ge (tgt := 109) dX6_keepsTower_80 (by decide) (by omega) (by omega) (fun hc80 => ?_) (fun hc80 => ?_)
    · obtain rfl : i = 4 := by omega
      rw [kcL, if_neg (by omega)] at kk
      exact kk
    · refine x_aload_n dX6_keepsTower_83 rfl ?_
      refine x_iload_n dX6_keepsTower_84 rfl ?_
      refine x_bipush (v := nI 6) dX6_keepsTower_85 (by decide) ?_
      refine x_iload_n dX6_keepsTower_87 rfl ?_
      refine x_iaddN dX6_keepsTower_88 ?_
      refine x_aload_n dX6_keepsTower_89 rfl ?_
      refine v_geta 6 hM dX6_keepsTower_90 (by decide) rfl q1136 ?_
      refine x_bipush (v := nI 10) dX6_keepsTower_93 (by decide) ?_
      refine x_iload_n dX6_keepsTower_95 rfl ?_
      refine x_imulN dX6_keepsTower_96 ?_
      refine x_iload_n dX6_keepsTower_97 rfl ?_
      refine x_iaddN dX6_keepsTower_98 ?_
      refine v_iald 6 hM dX6_keepsTower_99 (by decide) (by decide) rfl rfl (by show _ < 40; omega) ?_
      refine v_V3ve hM dX6_keepsTower_100 kG_X6_X6_sets kP_X6_sets rfl (by omega) (by decide) (Nat.le_of_ble_eq_true rfl) (c_sets hM rfl rfl (by omega)) ?_
      refine x_iincN (n := 1) dX6_keepsTower_103 (by decide) rfl (by decide) rfl ?_
      refine x_goto (tgt := 78) dX6_keepsTower_106 (by decide) ?_
      rw [kcL, if_pos hc80] at kk
      exact ih (i + 1) _ _ (by omega) (by omega) kk
set_option maxHeartbeats 1000000 in
theorem l_kt3 {n0 s0 : Nat} {Q : Outcome → fc_M → Prop} (hM : tw0 + 17 ≤ fc_nx M) {c F : Nat} (hF : T 0 14 = nI F) (hF2 : F ≤ 80) (hc : c < 4) : ∀ (k i : Nat) (w : Nat → Int32) (v1 : Int32), i ≤ F → F < i + k → fc_X g l yX6_keepsTower cX6_keepsTower 4 (none) 3 n0 s0 (tv g M T (kdL T c F k i w)) 176 [some (.ref (fc_B g + tw0)), some (.int (v1)), some (.int (nI c)), some (.int (nI F))] [] (Q) → fc_X g l yX6_keepsTower cX6_keepsTower 4 (none) 3 n0 s0 (tv g M T w) 129 [some (.ref (fc_B g + tw0)), some (.int (v1)), some (.int (nI c)), some (.int (nI i))] [] (Q) := by
  intro k
  induction k with
  | zero => intro i w v1 h1 h2 kk; omega
  | succ k ih =>
    intro i w v1 h1 h2 kk
    refine x_iload_n dX6_keepsTower_129 rfl ?_
    refine x_aload_n dX6_keepsTower_130 rfl ?_
    refine v_geti 14 hM dX6_keepsTower_131 (by decide) rfl q1144 ?_
    refine x_top hF ?_
    refine x_icmpN_ge (tgt := 176) dX6_keepsTower_134 (by decide) (by omega) (by omega) (fun hc134 => ?_) (fun hc134 => ?_)
    · obtain rfl : i = F := by omega
      rw [kdL, if_neg (by omega)] at kk
      exact kk
    · refine x_aload_n dX6_keepsTower_137 rfl ?_
      refine v_geta 0 hM dX6_keepsTower_138 (by decide) rfl q1130 ?_
      refine x_bipush (v := nI 100) dX6_keepsTower_141 (by decide) ?_
      refine x_bipush (v := nI 80) dX6_keepsTower_143 (by decide) ?_
      refine x_iload_n dX6_keepsTower_145 rfl ?_
      refine x_imulN dX6_keepsTower_146 ?_
      refine x_iaddN dX6_keepsTower_147 ?_
      refine x_iload_n dX6_keepsTower_148 rfl ?_
      refine x_iaddN dX6_keepsTower_149 ?_
      refine x_aload_n dX6_keepsTower_150 rfl ?_
      refine v_geta 10 hM dX6_keepsTower_151 (by decide) rfl q1140 ?_
      refine x_bipush (v := nI 80) dX6_keepsTower_154 (by decide) ?_
      refine x_iload_n dX6_keepsTower_156 rfl ?_
      refine x_imulN dX6_keepsTower_157 ?_
      refine x_iload_n dX6_keepsTower_158 rfl ?_
      refine x_iaddN dX6_keepsTower_159 ?_
      refine v_zald 10 hM dX6_keepsTower_160 (by decide) (by decide) rfl rfl (by show _ < 320; omega) ?_
      refine x_if_eq (tgt := 168) dX6_keepsTower_161 (by decide) (fun hc161 => ?_) (fun hc161 => ?_)
      · refine x_ic1 dX6_keepsTower_168 ?_
        refine v_wst hM dX6_keepsTower_169 rfl (by omega) ?_
        refine x_iincN (n := 1) dX6_keepsTower_170 (by decide) rfl (by decide) rfl ?_
        refine x_goto (tgt := 129) dX6_keepsTower_173 (by decide) ?_
        rw [kdL, if_pos hc134, if_pos hc161] at kk
        exact ih (i + 1) _ _ (by omega) (by omega) kk
      · refine x_ic0 dX6_keepsTower_164 ?_
        refine x_goto (tgt := 169) dX6_keepsTower_165 (by decide) ?_
        refine v_wst hM dX6_keepsTower_169 rfl (by omega) ?_
        refine x_iincN (n := 1) dX6_keepsTower_170 (by decide) rfl (by decide) rfl ?_
        refine x_goto (tgt := 129) dX6_keepsTower_173 (by decide) ?_
        rw [kdL, if_pos hc134, if_neg hc161] at kk
        exact ih (i + 1) _ _ (by omega) (by omega) kk
set_option maxHeartbeats 1000000 in
theorem l_kt4 {n0 s0 : Nat} (hM : tw0 + 17 ≤ fc_nx M) {F nc ln : Nat} (hF : T 0 14 = nI F) (hF2 : F ≤ 80) (hN : T 0 15 = nI nc) (hnc : nc ≤ 4) (hl : T 0 12 = nI ln) : ∀ (k i : Nat) (w : Nat → Int32) (v1 : Int32) (o3 : Option Value), w 1 = nI nc → i ≤ nc → nc < i + k → fc_X g l yX6_keepsTower cX6_keepsTower 4 (none) 3 n0 s0 (tv g M T w) 68 [some (.ref (fc_B g + tw0)), some (.int (v1)), some (.int (nI i)), o3] [] (tv_ve g M T (pkW nc (nc + 1) 0 (keL F 81 0 (kbL T F nc k i w)))) := by
  intro k
  induction k with
  | zero => intro i w v1 o3 hw h1 h2; omega
  | succ k ih =>
    intro i w v1 o3 hw h1 h2
    refine x_iload_n dX6_keepsTower_68 rfl ?_
    refine x_aload_n dX6_keepsTower_69 rfl ?_
    refine v_geti 15 hM dX6_keepsTower_70 (by decide) rfl q1145 ?_
    refine x_top hN ?_
    refine x_icmpN_ge (tgt := 189) dX6_keepsTower_73 (by decide) (by omega) (by omega) (fun hc73 => ?_) (fun hc73 => ?_)
    · refine x_ic0 dX6_keepsTower_189 ?_
      refine x_istore_n dX6_keepsTower_190 (by decide) rfl ?_
      rw [kbL, if_neg (by omega)]
      exact l_kt5 hM hF hF2 hN hnc hl 81 0 _ _ _ hw (by omega) (by omega)
    · refine x_ic0 dX6_keepsTower_76 ?_
      refine x_istore_n dX6_keepsTower_77 (by decide) rfl ?_
      refine l_kt2 hM (c := i) (by omega) 5 0 _ _ (by omega) (by omega) ?_
      refine x_aload_n dX6_keepsTower_109 rfl ?_
      refine x_iload_n dX6_keepsTower_110 rfl ?_
      refine x_bipush (v := nI 10) dX6_keepsTower_111 (by decide) ?_
      refine x_aload_n dX6_keepsTower_113 rfl ?_
      refine v_geta 6 hM dX6_keepsTower_114 (by decide) rfl q1136 ?_
      refine x_bipush (v := nI 10) dX6_keepsTower_117 (by decide) ?_
      refine x_iload_n dX6_keepsTower_119 rfl ?_
      refine x_imulN dX6_keepsTower_120 ?_
      refine x_ic4 dX6_keepsTower_121 ?_
      refine x_iaddN dX6_keepsTower_122 ?_
      refine v_iald 6 hM dX6_keepsTower_123 (by decide) (by decide) rfl rfl (by show _ < 40; omega) ?_
      refine v_V3ve hM dX6_keepsTower_124 kG_X6_X6_sets kP_X6_sets rfl (by omega) (by decide) (Nat.le_of_ble_eq_true rfl) (c_sets hM rfl rfl (by omega)) ?_
      refine x_ic0 dX6_keepsTower_127 ?_
      refine x_istore_n dX6_keepsTower_128 (by decide) rfl ?_
      refine l_kt3 hM (c := i) hF hF2 (by omega) 81 0 _ _ (by omega) (by omega) ?_
      refine x_aload_n dX6_keepsTower_176 rfl ?_
      refine x_iload_n dX6_keepsTower_177 rfl ?_
      refine x_ic5 dX6_keepsTower_178 ?_
      refine x_icm1 dX6_keepsTower_179 ?_
      refine v_V3ve hM dX6_keepsTower_180 kG_X6_X6_sets kP_X6_sets rfl (by omega) (by decide) (Nat.le_of_ble_eq_true rfl) (c_sets hM rfl rfl (by omega)) ?_
      refine x_iincN (n := 1) dX6_keepsTower_183 (by decide) rfl (by decide) rfl ?_
      refine x_goto (tgt := 68) dX6_keepsTower_186 (by decide) ?_
      rw [kbL, if_pos hc73]
      exact ih (i + 1) _ _ _ (by rw [up_n (by omega), kdL_lo (by omega), up_n (by omega), kcL_lo (by omega)]; exact hw) (by omega) (by omega)
set_option maxHeartbeats 1000000 in
theorem c_keepsTower (hM : tw0 + 17 ≤ fc_nx M) {F nc ln : Nat} (hF : T 0 14 = nI F) (hF2 : F ≤ 80) (hN : T 0 15 = nI nc) (hnc : nc ≤ 4) (hl : T 0 12 = nI ln) : fc_CX g l yX6_keepsTower cX6_keepsTower 4 (none) 3 [.ref (fc_B g + tw0)] (tv g M T w) (tv_ve g M T (ktW T F nc ln w)) := by
  refine fc_enter (by decide) (Nat.le_of_ble_eq_true rfl) rfl ?_
  refine x_aload_n dX6_keepsTower_0 rfl ?_
  refine v_geta 0 hM dX6_keepsTower_1 (by decide) rfl q1130 ?_
  refine x_ic4 dX6_keepsTower_4 ?_
  refine v_wld hM dX6_keepsTower_5 rfl (by omega) ?_
  refine x_istore_n dX6_keepsTower_6 (by decide) rfl ?_
  refine x_ic0 dX6_keepsTower_7 ?_
  refine x_istore_n dX6_keepsTower_8 (by decide) rfl ?_
  refine l_kt1 hM 1301 0 _ _ _ (by omega) (by omega) ?_
  refine x_aload_n dX6_keepsTower_29 rfl ?_
  refine v_geta 0 hM dX6_keepsTower_30 (by decide) rfl q1130 ?_
  refine x_ic4 dX6_keepsTower_33 ?_
  refine x_iload_n dX6_keepsTower_34 rfl ?_
  refine v_wst hM dX6_keepsTower_35 rfl (by omega) ?_
  refine x_aload_n dX6_keepsTower_36 rfl ?_
  refine v_geta 0 hM dX6_keepsTower_37 (by decide) rfl q1130 ?_
  refine x_ic0 dX6_keepsTower_40 ?_
  refine x_aload_n dX6_keepsTower_41 rfl ?_
  refine v_geti 14 hM dX6_keepsTower_42 (by decide) rfl q1144 ?_
  refine x_top hF ?_
  refine v_wst hM dX6_keepsTower_45 rfl (by omega) ?_
  refine x_aload_n dX6_keepsTower_46 rfl ?_
  refine v_geta 0 hM dX6_keepsTower_47 (by decide) rfl q1130 ?_
  refine x_ic1 dX6_keepsTower_50 ?_
  refine x_aload_n dX6_keepsTower_51 rfl ?_
  refine v_geti 15 hM dX6_keepsTower_52 (by decide) rfl q1145 ?_
  refine x_top hN ?_
  refine v_wst hM dX6_keepsTower_55 rfl (by omega) ?_
  refine x_aload_n dX6_keepsTower_56 rfl ?_
  refine v_geta 0 hM dX6_keepsTower_57 (by decide) rfl q1130 ?_
  refine x_ic5 dX6_keepsTower_60 ?_
  refine x_aload_n dX6_keepsTower_61 rfl ?_
  refine v_geti 12 hM dX6_keepsTower_62 (by decide) rfl q1142 ?_
  refine x_top hl ?_
  refine v_wst hM dX6_keepsTower_65 rfl (by omega) ?_
  refine x_ic0 dX6_keepsTower_66 ?_
  refine x_istore_n dX6_keepsTower_67 (by decide) rfl ?_
  rw [ktW]
  exact l_kt4 hM hF hF2 hN hnc hl 5 0 _ _ _ (by rw [up_n (by omega), up_s]) (by omega) (by omega)
end T85
