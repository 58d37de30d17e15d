set_option maxRecDepth 100000
section T35
variable {g : fc_G} {l : Launch} {M : fc_M} {T : tT} {w : Nat → Int32}
def giW (pr : Int32) (ps c n : Nat) : Nat → Nat → (Nat → Int32) → Nat → Nat → (Nat → Int32) × Nat
  | 0, _, w, m, _ => (w, m)
  | k + 1, i, w, m, r => if i < n then (if nI r < w (10 + 20 * c + 6) then (if w (820 + 8 * i + 3) = nI 1 ∧ w (820 + 8 * i + 4) = nI c ∧ w (820 + 8 * i + 1) = w (10 + 20 * c + 0) ∧ wayW w i = w (10 + 20 * c + 1) then
      giW pr ps c n k (i + 1) (if nI i = pr then up (up (up w (820 + 8 * i + 3) (nI 2)) (820 + 8 * i + 5) (w 3)) (420 + 80 * c + ps) (nI 1) else up (up w (820 + 8 * i + 3) (nI 2)) (820 + 8 * i + 5) (w 3)) (m + 1) (r + 1)
      else giW pr ps c n k (i + 1) w m r) else (w, m)) else (w, m)
theorem c_wayW (hM : tw0 + 17 ≤ fc_nx M) {x : Int32} {p : Nat} (hx : x = nI p) (h : p < 60) : fc_CX g l yX6_wayOf cX6_wayOf 2 (some .int) 2 [.ref (fc_B g + tw0), .int x] (tv g M T w) (tv_ie g M (wayW w p) T w) := c_wayOf hM hx h
set_option maxHeartbeats 1000000 in
theorem l_goIn {n0 s0 : Nat} (hM : tw0 + 17 ≤ fc_nx M) {n ps : Nat} (hn : n ≤ 60) {c : Nat} (hc : c < 4) (hps : T 0 30 = nI ps) (hpl : ps < 80) : ∀ (k i : Nat) (w : Nat → Int32) (m r : Nat), w 2 = nI n → i ≤ n → n < i + k → fc_X g l yX6_goIn cX6_goIn 5 (some .int) 3 n0 s0 (tv g M T w) 11 [some (.ref (fc_B g + tw0)), some (.int (nI c)), some (.int (nI m)), some (.int (nI r)), some (.int (nI i))] [] (tv_ie g M (nI (giW (T 0 29) ps c n k i w m r).2) T (giW (T 0 29) ps c n k i w m r).1) := by
  intro k
  induction k with
  | zero => intro i w m r hw h1 h2; omega
  | succ k ih =>
    intro i w m r hw h1 h2
    refine x_iload dX6_goIn_11 rfl ?_
    refine x_aload_n dX6_goIn_13 rfl ?_
    refine v_geta 0 hM dX6_goIn_14 (by decide) rfl q1130 ?_
    refine x_ic2 dX6_goIn_17 ?_
    refine v_wld hM dX6_goIn_18 rfl (by omega) ?_
    refine x_top hw ?_
    refine x_icmpN_ge (tgt := 150) dX6_goIn_19 (by decide) (by omega) (by omega) (fun hc19 => ?_) (fun hc19 => ?_)
    · refine x_iload_n dX6_goIn_150 rfl ?_
      refine x_iret dX6_goIn_151 rfl rfl (tv_i2 ?_ rfl ?_) <;> simp only [giW, Nat.not_lt.mpr hc19, and_self, and_true, true_and, and_false, false_and, ↓reduceIte, if_true, if_false, not_true_eq_false, not_false_eq_true, eq_self]
    · refine x_iload_n dX6_goIn_22 rfl ?_
      refine x_aload_n dX6_goIn_23 rfl ?_
      refine x_iload_n dX6_goIn_24 rfl ?_
      refine x_bipush (v := nI 6) dX6_goIn_25 (by decide) ?_
      refine v_V2ie hM dX6_goIn_27 kG_X6_X6_ofCar kP_X6_ofCar rfl (by omega) (by decide) (Nat.le_of_ble_eq_true rfl) (c_ofCar hM rfl rfl (by omega)) ?_
      refine x_icmp_ge (tgt := 150) dX6_goIn_30 (by decide) (fun hc30 => ?_) (fun hc30 => ?_)
      · refine x_iload_n dX6_goIn_150 rfl ?_
        refine x_iret dX6_goIn_151 rfl rfl (tv_i2 ?_ rfl ?_) <;> simp only [giW, hc19, Int32.not_lt.mpr hc30, and_self, and_true, true_and, and_false, false_and, ↓reduceIte, if_true, if_false, not_true_eq_false, not_false_eq_true, eq_self]
      · refine x_aload_n dX6_goIn_33 rfl ?_
        refine x_iload dX6_goIn_34 rfl ?_
        refine x_ic3 dX6_goIn_36 ?_
        refine v_V2ie hM dX6_goIn_37 kG_X6_X6_own kP_X6_own rfl (by omega) (by decide) (Nat.le_of_ble_eq_true rfl) (c_own hM rfl rfl (by omega)) ?_
        refine x_ic1 dX6_goIn_40 ?_
        refine x_icmp_ne (tgt := 144) dX6_goIn_41 (by decide) (fun hc41 => ?_) (fun hc41 => ?_)
        · refine x_iincN (n := 1) dX6_goIn_144 (by decide) rfl (by decide) rfl ?_
          refine x_goto (tgt := 11) dX6_goIn_147 (by decide) ?_
          rw [show giW (T 0 29) ps c n (k + 1) i w m r = giW (T 0 29) ps c n k (i + 1) w m r by simp only [giW, hc19, Int32.not_le.mp hc30, hc41, and_self, and_true, true_and, and_false, false_and, ↓reduceIte, if_true, if_false, not_true_eq_false, not_false_eq_true, eq_self]]
          exact ih (i + 1) w m r hw (by omega) (by omega)
        · refine x_aload_n dX6_goIn_44 rfl ?_
          refine x_iload dX6_goIn_45 rfl ?_
          refine x_ic4 dX6_goIn_47 ?_
          refine v_V2ie hM dX6_goIn_48 kG_X6_X6_own kP_X6_own rfl (by omega) (by decide) (Nat.le_of_ble_eq_true rfl) (c_own hM rfl rfl (by omega)) ?_
          refine x_iload_n dX6_goIn_51 rfl ?_
          refine x_icmp_ne (tgt := 144) dX6_goIn_52 (by decide) (fun hc52 => ?_) (fun hc52 => ?_)
          · refine x_iincN (n := 1) dX6_goIn_144 (by decide) rfl (by decide) rfl ?_
            refine x_goto (tgt := 11) dX6_goIn_147 (by decide) ?_
            rw [show giW (T 0 29) ps c n (k + 1) i w m r = giW (T 0 29) ps c n k (i + 1) w m r by simp only [giW, hc19, Int32.not_le.mp hc30, hc41, hc52, and_self, and_true, true_and, and_false, false_and, ↓reduceIte, if_true, if_false, not_true_eq_false, not_false_eq_true, eq_self]]
            exact ih (i + 1) w m r hw (by omega) (by omega)
          · refine x_aload_n dX6_goIn_55 rfl ?_
            refine x_iload dX6_goIn_56 rfl ?_
            refine x_ic1 dX6_goIn_58 ?_
            refine v_V2ie hM dX6_goIn_59 kG_X6_X6_own kP_X6_own rfl (by omega) (by decide) (Nat.le_of_ble_eq_true rfl) (c_own hM rfl rfl (by omega)) ?_
            refine x_aload_n dX6_goIn_62 rfl ?_
            refine x_iload_n dX6_goIn_63 rfl ?_
            refine x_ic0 dX6_goIn_64 ?_
            refine v_V2ie hM dX6_goIn_65 kG_X6_X6_ofCar kP_X6_ofCar rfl (by omega) (by decide) (Nat.le_of_ble_eq_true rfl) (c_ofCar hM rfl rfl (by omega)) ?_
            refine x_icmp_ne (tgt := 144) dX6_goIn_68 (by decide) (fun hc68 => ?_) (fun hc68 => ?_)
            · refine x_iincN (n := 1) dX6_goIn_144 (by decide) rfl (by decide) rfl ?_
              refine x_goto (tgt := 11) dX6_goIn_147 (by decide) ?_
              rw [show giW (T 0 29) ps c n (k + 1) i w m r = giW (T 0 29) ps c n k (i + 1) w m r by simp only [giW, hc19, Int32.not_le.mp hc30, hc41, hc52, hc68, and_self, and_true, true_and, and_false, false_and, ↓reduceIte, if_true, if_false, not_true_eq_false, not_false_eq_true, eq_self]]
              exact ih (i + 1) w m r hw (by omega) (by omega)
            · refine x_aload_n dX6_goIn_71 rfl ?_
              refine x_iload dX6_goIn_72 rfl ?_
              refine v_V1ie hM dX6_goIn_74 kG_X6_X6_wayOf kP_X6_wayOf rfl (by omega) (by decide) (Nat.le_of_ble_eq_true rfl) (c_wayW hM rfl (by omega)) ?_
              refine x_aload_n dX6_goIn_77 rfl ?_
              refine x_iload_n dX6_goIn_78 rfl ?_
              refine x_ic1 dX6_goIn_79 ?_
              refine v_V2ie hM dX6_goIn_80 kG_X6_X6_ofCar kP_X6_ofCar rfl (by omega) (by decide) (Nat.le_of_ble_eq_true rfl) (c_ofCar hM rfl rfl (by omega)) ?_
              refine x_icmp_eq (tgt := 89) dX6_goIn_83 (by decide) (fun hc83 => ?_) (fun hc83 => ?_)
              · refine x_aload_n dX6_goIn_89 rfl ?_
                refine x_iload dX6_goIn_90 rfl ?_
                refine x_ic3 dX6_goIn_92 ?_
                refine x_ic2 dX6_goIn_93 ?_
                refine v_V3ve hM dX6_goIn_94 kG_X6_X6_gives kP_X6_gives rfl (by omega) (by decide) (Nat.le_of_ble_eq_true rfl) (c_gives hM rfl rfl (by omega)) ?_
                refine x_aload_n dX6_goIn_97 rfl ?_
                refine x_iload dX6_goIn_98 rfl ?_
                refine x_ic5 dX6_goIn_100 ?_
                refine x_aload_n dX6_goIn_101 rfl ?_
                refine v_geta 0 hM dX6_goIn_102 (by decide) rfl q1130 ?_
                refine x_ic3 dX6_goIn_105 ?_
                refine v_wld hM dX6_goIn_106 rfl (by omega) ?_
                refine x_top (up_n (by omega)) ?_
                refine v_V3ve hM dX6_goIn_107 kG_X6_X6_gives kP_X6_gives rfl (by omega) (by decide) (Nat.le_of_ble_eq_true rfl) (c_gives hM rfl rfl (by omega)) ?_
                refine x_iload dX6_goIn_110 rfl ?_
                refine x_aload_n dX6_goIn_112 rfl ?_
                refine v_geti 29 hM dX6_goIn_113 (by decide) rfl q1159 ?_
                refine x_icmp_ne (tgt := 138) dX6_goIn_116 (by decide) (fun hc116 => ?_) (fun hc116 => ?_)
                · refine x_iincN (n := 1) dX6_goIn_138 (by decide) rfl (by decide) rfl ?_
                  refine x_iincN (n := 1) dX6_goIn_141 (by decide) rfl (by decide) rfl ?_
                  refine x_iincN (n := 1) dX6_goIn_144 (by decide) rfl (by decide) rfl ?_
                  refine x_goto (tgt := 11) dX6_goIn_147 (by decide) ?_
                  rw [show giW (T 0 29) ps c n (k + 1) i w m r = giW (T 0 29) ps c n k (i + 1) (up (up w (820 + 8 * i + 3) (nI 2)) (820 + 8 * i + 5) (w 3)) (m + 1) (r + 1) by simp only [giW, hc19, Int32.not_le.mp hc30, hc41, hc52, hc68, hc83, hc116, and_self, and_true, true_and, and_false, false_and, ↓reduceIte, if_true, if_false, not_true_eq_false, not_false_eq_true, eq_self]]
                  exact ih (i + 1) (up (up w (820 + 8 * i + 3) (nI 2)) (820 + 8 * i + 5) (w 3)) (m + 1) (r + 1) (by rw [up_n (by omega), up_n (by omega)]; exact hw) (by omega) (by omega)
                · refine x_aload_n dX6_goIn_119 rfl ?_
                  refine v_geta 0 hM dX6_goIn_120 (by decide) rfl q1130 ?_
                  refine x_sipush (v := nI 420) dX6_goIn_123 (by decide) ?_
                  refine x_bipush (v := nI 80) dX6_goIn_126 (by decide) ?_
                  refine x_iload_n dX6_goIn_128 rfl ?_
                  refine x_imulN dX6_goIn_129 ?_
                  refine x_iaddN dX6_goIn_130 ?_
                  refine x_aload_n dX6_goIn_131 rfl ?_
                  refine v_geti 30 hM dX6_goIn_132 (by decide) rfl q1160 ?_
                  refine x_top hps ?_
                  refine x_iaddN dX6_goIn_135 ?_
                  refine x_ic1 dX6_goIn_136 ?_
                  refine v_wst hM dX6_goIn_137 rfl (by omega) ?_
                  refine x_iincN (n := 1) dX6_goIn_138 (by decide) rfl (by decide) rfl ?_
                  refine x_iincN (n := 1) dX6_goIn_141 (by decide) rfl (by decide) rfl ?_
                  refine x_iincN (n := 1) dX6_goIn_144 (by decide) rfl (by decide) rfl ?_
                  refine x_goto (tgt := 11) dX6_goIn_147 (by decide) ?_
                  rw [show giW (T 0 29) ps c n (k + 1) i w m r = giW (T 0 29) ps c n k (i + 1) (up (up (up w (820 + 8 * i + 3) (nI 2)) (820 + 8 * i + 5) (w 3)) (420 + 80 * c + ps) (nI 1)) (m + 1) (r + 1) by simp only [giW, hc19, Int32.not_le.mp hc30, hc41, hc52, hc68, hc83, hc116, and_self, and_true, true_and, and_false, false_and, ↓reduceIte, if_true, if_false, not_true_eq_false, not_false_eq_true, eq_self]]
                  exact ih (i + 1) (up (up (up w (820 + 8 * i + 3) (nI 2)) (820 + 8 * i + 5) (w 3)) (420 + 80 * c + ps) (nI 1)) (m + 1) (r + 1) (by rw [up_n (by omega), up_n (by omega), up_n (by omega)]; exact hw) (by omega) (by omega)
              · refine x_goto (tgt := 144) dX6_goIn_86 (by decide) ?_
                refine x_iincN (n := 1) dX6_goIn_144 (by decide) rfl (by decide) rfl ?_
                refine x_goto (tgt := 11) dX6_goIn_147 (by decide) ?_
                rw [show giW (T 0 29) ps c n (k + 1) i w m r = giW (T 0 29) ps c n k (i + 1) w m r by simp only [giW, hc19, Int32.not_le.mp hc30, hc41, hc52, hc68, hc83, and_self, and_true, true_and, and_false, false_and, ↓reduceIte, if_true, if_false, not_true_eq_false, not_false_eq_true, eq_self]]
                exact ih (i + 1) w m r hw (by omega) (by omega)
theorem kG_X6_X6_riding : GoodIn lw_all (wsV RX6 280 RX6 yX6_riding (ws_ yX6_riding cX6_riding 4 (some .int))) := lw_V q1452 q1454 qs86 q124 q1455
theorem kP_X6_riding : kPar yX6_riding 1 := by decide +kernel
set_option maxHeartbeats 1000000 in
theorem c_goIn (hM : tw0 + 17 ≤ fc_nx M) {n ps : Nat} (hn : n ≤ 60) (hw : w 2 = nI n) {c : Nat} (hc : c < 4) (hps : T 0 30 = nI ps) (hpl : ps < 80) : fc_CX g l yX6_goIn cX6_goIn 5 (some .int) 3 [.ref (fc_B g + tw0), .int (nI c)] (tv g M T w) (tv_ie g M (nI (giW (T 0 29) ps c n (n + 1) 0 w 0 (cnt (rdp w 2 (nI c)) n)).2) T (giW (T 0 29) ps c n (n + 1) 0 w 0 (cnt (rdp w 2 (nI c)) n)).1) := by
  refine fc_enter (by decide) (Nat.le_of_ble_eq_true rfl) rfl ?_
  refine x_ic0 dX6_goIn_0 ?_
  refine x_istore_n dX6_goIn_1 (by decide) rfl ?_
  refine x_aload_n dX6_goIn_2 rfl ?_
  refine x_iload_n dX6_goIn_3 rfl ?_
  refine v_V1ie hM dX6_goIn_4 kG_X6_X6_riding kP_X6_riding rfl (by omega) (by decide) (Nat.le_of_ble_eq_true rfl) (c_riding hM hn hw) ?_
  refine x_istore_n dX6_goIn_7 (by decide) rfl ?_
  refine x_ic0 dX6_goIn_8 ?_
  refine x_istore dX6_goIn_9 (by decide) rfl ?_
  exact l_goIn hM hn hc hps hpl (n + 1) 0 w 0 _ hw (by omega) (by omega)
def stW (c nn : Nat) (S : Prop) [Decidable S] (w : Nat → Int32) : Nat → Int32 :=
  up (up w (10 + 20 * c + 2) (if S then nI 2 else if w (10 + 20 * c + 1) = 0 then nI 0 else nI 1)) (10 + 20 * c + 3) (if S then w (10 + 20 * c + 8) + nI nn * w (10 + 20 * c + 9) else if w (10 + 20 * c + 1) = 0 then nI 0 else w (10 + 20 * c + 7))
theorem up3 {w : Nat → Int32} {i k : Nat} {v x : Int32} (h : k ≠ i) (e : w k = x) : up w i v k = x := by rw [up_n h]; exact e
theorem kG_X6_X6_sets : GoodIn lw_all (wsV RX6 241 RX6 yX6_sets (ws_ yX6_sets cX6_sets 4 (none))) := lw_V q1385 q1387 qs74 q124 q1388
theorem kP_X6_sets : kPar yX6_sets 3 := by decide +kernel
set_option maxHeartbeats 1000000 in
theorem b_looks105 {n0 s0 : Nat} (hM : tw0 + 17 ≤ fc_nx M) {nn c : Nat} (hc : c < 4) {S : Prop} [Decidable S] {v3 v4 : Option Value} : fc_X g l yX6_looks cX6_looks 6 (none) 2 n0 s0 (tv g M T w) 105 [some (.ref (fc_B g + tw0)), some (.int (nI c)), some (.int (nI nn)), v3, v4, some (.int (bI S))] [] (tv_ve g M T (stW c nn S w)) := by
  refine x_aload_n dX6_looks_105 rfl ?_
  refine x_iload_n dX6_looks_106 rfl ?_
  refine x_ic2 dX6_looks_107 ?_
  refine x_iload dX6_looks_108 rfl ?_
  refine x_ifB_eq (tgt := 117) dX6_looks_110 (by decide) (fun hc110 => ?_) (fun hc110 => ?_)
  · refine x_aload_n dX6_looks_117 rfl ?_
    refine x_iload_n dX6_looks_118 rfl ?_
    refine x_ic1 dX6_looks_119 ?_
    refine v_V2ie hM dX6_looks_120 kG_X6_X6_ofCar kP_X6_ofCar rfl (by omega) (by decide) (Nat.le_of_ble_eq_true rfl) (c_ofCar hM rfl rfl (by omega)) ?_
    refine x_if_eq (tgt := 130) dX6_looks_123 (by decide) (fun hc123 => ?_) (fun hc123 => ?_)
    · refine x_ic0 dX6_looks_130 ?_
      refine v_V3ve hM dX6_looks_131 kG_X6_X6_sets kP_X6_sets rfl (by omega) (by decide) (Nat.le_of_ble_eq_true rfl) (c_sets hM rfl rfl (by omega)) ?_
      refine x_aload_n dX6_looks_134 rfl ?_
      refine x_iload_n dX6_looks_135 rfl ?_
      refine x_ic3 dX6_looks_136 ?_
      refine x_iload dX6_looks_137 rfl ?_
      refine x_ifB_eq (tgt := 162) dX6_looks_139 (by decide) (fun hc139 => ?_) (fun hc139 => ?_)
      · refine x_aload_n dX6_looks_162 rfl ?_
        refine x_iload_n dX6_looks_163 rfl ?_
        refine x_ic1 dX6_looks_164 ?_
        refine v_V2ie hM dX6_looks_165 kG_X6_X6_ofCar kP_X6_ofCar rfl (by omega) (by decide) (Nat.le_of_ble_eq_true rfl) (c_ofCar hM rfl rfl (by omega)) ?_
        refine x_top (up_n (by omega)) ?_
        refine x_if_eq (tgt := 181) dX6_looks_168 (by decide) (fun hc168 => ?_) (fun hc168 => ?_)
        · refine x_ic0 dX6_looks_181 ?_
          refine v_V3ve hM dX6_looks_182 kG_X6_X6_sets kP_X6_sets rfl (by omega) (by decide) (Nat.le_of_ble_eq_true rfl) (c_sets hM rfl rfl (by omega)) ?_
          refine x_vret dX6_looks_185 rfl (tv_v2 rfl ?_)
          simp only [stW, hc110, hc123, hc139, hc168, and_self, and_true, true_and, and_false, false_and, ↓reduceIte, if_true, if_false, not_true_eq_false, not_false_eq_true, eq_self]
        · exact absurd hc123 hc168
      · exact absurd hc139 hc110
    · refine x_ic1 dX6_looks_126 ?_
      refine x_goto (tgt := 131) dX6_looks_127 (by decide) ?_
      refine v_V3ve hM dX6_looks_131 kG_X6_X6_sets kP_X6_sets rfl (by omega) (by decide) (Nat.le_of_ble_eq_true rfl) (c_sets hM rfl rfl (by omega)) ?_
      refine x_aload_n dX6_looks_134 rfl ?_
      refine x_iload_n dX6_looks_135 rfl ?_
      refine x_ic3 dX6_looks_136 ?_
      refine x_iload dX6_looks_137 rfl ?_
      refine x_ifB_eq (tgt := 162) dX6_looks_139 (by decide) (fun hc139 => ?_) (fun hc139 => ?_)
      · refine x_aload_n dX6_looks_162 rfl ?_
        refine x_iload_n dX6_looks_163 rfl ?_
        refine x_ic1 dX6_looks_164 ?_
        refine v_V2ie hM dX6_looks_165 kG_X6_X6_ofCar kP_X6_ofCar rfl (by omega) (by decide) (Nat.le_of_ble_eq_true rfl) (c_ofCar hM rfl rfl (by omega)) ?_
        refine x_top (up_n (by omega)) ?_
        refine x_if_eq (tgt := 181) dX6_looks_168 (by decide) (fun hc168 => ?_) (fun hc168 => ?_)
        · exact absurd hc168 hc123
        · refine x_aload_n dX6_looks_171 rfl ?_
          refine x_iload_n dX6_looks_172 rfl ?_
          refine x_bipush (v := nI 7) dX6_looks_173 (by decide) ?_
          refine v_V2ie hM dX6_looks_175 kG_X6_X6_ofCar kP_X6_ofCar rfl (by omega) (by decide) (Nat.le_of_ble_eq_true rfl) (c_ofCar hM rfl rfl (by omega)) ?_
          refine x_top (up_n (by omega)) ?_
          refine x_goto (tgt := 182) dX6_looks_178 (by decide) ?_
          refine v_V3ve hM dX6_looks_182 kG_X6_X6_sets kP_X6_sets rfl (by omega) (by decide) (Nat.le_of_ble_eq_true rfl) (c_sets hM rfl rfl (by omega)) ?_
          refine x_vret dX6_looks_185 rfl (tv_v2 rfl ?_)
          simp only [stW, hc110, hc123, hc139, hc168, and_self, and_true, true_and, and_false, false_and, ↓reduceIte, if_true, if_false, not_true_eq_false, not_false_eq_true, eq_self]
      · exact absurd hc139 hc110
  · refine x_ic2 dX6_looks_113 ?_
    refine x_goto (tgt := 131) dX6_looks_114 (by decide) ?_
    refine v_V3ve hM dX6_looks_131 kG_X6_X6_sets kP_X6_sets rfl (by omega) (by decide) (Nat.le_of_ble_eq_true rfl) (c_sets hM rfl rfl (by omega)) ?_
    refine x_aload_n dX6_looks_134 rfl ?_
    refine x_iload_n dX6_looks_135 rfl ?_
    refine x_ic3 dX6_looks_136 ?_
    refine x_iload dX6_looks_137 rfl ?_
    refine x_ifB_eq (tgt := 162) dX6_looks_139 (by decide) (fun hc139 => ?_) (fun hc139 => ?_)
    · exact absurd hc110 hc139
    · refine x_aload_n dX6_looks_142 rfl ?_
      refine x_iload_n dX6_looks_143 rfl ?_
      refine x_bipush (v := nI 8) dX6_looks_144 (by decide) ?_
      refine v_V2ie hM dX6_looks_146 kG_X6_X6_ofCar kP_X6_ofCar rfl (by omega) (by decide) (Nat.le_of_ble_eq_true rfl) (c_ofCar hM rfl rfl (by omega)) ?_
      refine x_top (up_n (by omega)) ?_
      refine x_iload_n dX6_looks_149 rfl ?_
      refine x_aload_n dX6_looks_150 rfl ?_
      refine x_iload_n dX6_looks_151 rfl ?_
      refine x_bipush (v := nI 9) dX6_looks_152 (by decide) ?_
      refine v_V2ie hM dX6_looks_154 kG_X6_X6_ofCar kP_X6_ofCar rfl (by omega) (by decide) (Nat.le_of_ble_eq_true rfl) (c_ofCar hM rfl rfl (by omega)) ?_
      refine x_top (up_n (by omega)) ?_
      refine x_imul dX6_looks_157 ?_
      refine x_iadd dX6_looks_158 ?_
      refine x_goto (tgt := 182) dX6_looks_159 (by decide) ?_
      refine v_V3ve hM dX6_looks_182 kG_X6_X6_sets kP_X6_sets rfl (by omega) (by decide) (Nat.le_of_ble_eq_true rfl) (c_sets hM rfl rfl (by omega)) ?_
      refine x_vret dX6_looks_185 rfl (tv_v2 rfl ?_)
      simp only [stW, hc110, hc139, and_self, and_true, true_and, and_false, false_and, ↓reduceIte, if_true, if_false, not_true_eq_false, not_false_eq_true, eq_self]
set_option maxHeartbeats 1000000 in
theorem b_looks89 {n0 s0 : Nat} (hM : tw0 + 17 ≤ fc_nx M) {nn c : Nat} (hc : c < 4) (hnn : nn < 2000) {F : Prop} [Decidable F] {v3 v5 : Option Value} : fc_X g l yX6_looks cX6_looks 6 (none) 2 n0 s0 (tv g M T w) 89 [some (.ref (fc_B g + tw0)), some (.int (nI c)), some (.int (nI nn)), v3, some (.int (bI F)), v5] [] (tv_ve g M T (stW c nn (0 < nn ∨ F) w)) := by
  refine x_iload_n dX6_looks_89 rfl ?_
  refine x_ifN_gt (tgt := 98) dX6_looks_90 (by decide) (by omega) (fun hc90 => ?_) (fun hc90 => ?_)
  · refine x_ic1 dX6_looks_98 ?_
    refine x_top (bI_t (p := 0 < nn ∨ F) (by first | exact Or.inl hc90 | exact Or.inr hc95)).symm ?_
    refine x_goto (tgt := 103) dX6_looks_99 (by decide) ?_
    refine x_istore dX6_looks_103 (by decide) rfl ?_
    exact b_looks105 hM hc
  · refine x_iload dX6_looks_93 rfl ?_
    refine x_ifB_eq (tgt := 102) dX6_looks_95 (by decide) (fun hc95 => ?_) (fun hc95 => ?_)
    · refine x_ic0 dX6_looks_102 ?_
      refine x_top (bI_f (p := 0 < nn ∨ F) (fun z => z.elim (by omega) hc95)).symm ?_
      refine x_istore dX6_looks_103 (by decide) rfl ?_
      exact b_looks105 hM hc
    · refine x_ic1 dX6_looks_98 ?_
      refine x_top (bI_t (p := 0 < nn ∨ F) (by first | exact Or.inl hc90 | exact Or.inr hc95)).symm ?_
      refine x_goto (tgt := 103) dX6_looks_99 (by decide) ?_
      refine x_istore dX6_looks_103 (by decide) rfl ?_
      exact b_looks105 hM hc
theorem goW_fr {c n : Nat} {q : Nat} (hq : ∀ p, p < n → q ≠ 820 + 8 * p + 3 ∧ q ≠ 820 + 8 * p + 6) : ∀ (k i : Nat) (w : Nat → Int32) (m : Nat), (goW c n k i w m).1 q = w q
  | 0, _, _, _ => rfl
  | k + 1, i, w, m => by
    simp only [goW]
    split
    · rename_i h
      split
      · rw [goW_fr hq k, up_n (hq i h).2, up_n (hq i h).1]
      · exact goW_fr hq k _ _ _
    · rfl
theorem giW_fr {pr : Int32} {ps c n : Nat} {q : Nat} (hq : ∀ p, p < n → q ≠ 820 + 8 * p + 3 ∧ q ≠ 820 + 8 * p + 5) (hf : q ≠ 420 + 80 * c + ps) : ∀ (k i : Nat) (w : Nat → Int32) (m r : Nat), (giW pr ps c n k i w m r).1 q = w q
  | 0, _, _, _, _ => rfl
  | k + 1, i, w, m, r => by
    simp only [giW]
    split
    · rename_i h
      split
      · split
        · rw [giW_fr hq hf k]
          split
          · rw [up_n hf, up_n (hq i h).2, up_n (hq i h).1]
          · rw [up_n (hq i h).2, up_n (hq i h).1]
        · exact giW_fr hq hf k _ _ _ _
      · rfl
    · rfl
/-- people's floors are floors -/
def PI (w : Nat → Int32) (n f : Nat) : Prop := ∀ p, p < n → ∃ a b, w (820 + 8 * p + 1) = nI a ∧ w (820 + 8 * p + 2) = nI b ∧ a < f ∧ b < f ∧ a ≠ b
theorem PI_T {w : Nat → Int32} {n f c : Nat} (h : PI w n f) (hf : f ≤ 80) : ∀ p, p < n → tgW w (nI c) p = bO (tO w c p) ∧ ∀ t, tO w c p = some t → t < 80 := by
  intro p hp
  obtain ⟨a, b, h1, h2, h3, h4, -⟩ := h p hp
  unfold tgW tO
  split
  · split
    · rw [h2, nI_clamp (by omega)]
      exact ⟨rfl, fun t e => by cases e; omega⟩
    · split
      · rw [h1, nI_clamp (by omega)]
        exact ⟨rfl, fun t e => by cases e; omega⟩
      · exact ⟨rfl, fun t e => by cases e⟩
  · exact ⟨rfl, fun t e => by cases e⟩
theorem PI_fr {w w' : Nat → Int32} {n f : Nat} (h : PI w n f) (e : ∀ p, p < n → w' (820 + 8 * p + 1) = w (820 + 8 * p + 1) ∧ w' (820 + 8 * p + 2) = w (820 + 8 * p + 2)) : PI w' n f := by
  intro p hp
  obtain ⟨a, b, h1, h2, h3⟩ := h p hp
  exact ⟨a, b, (e p hp).1.trans h1, (e p hp).2.trans h2, h3⟩
def lk2 (pr : Int32) (ps c n a n1 : Nat) (w : Nat → Int32) : Nat → Int32 :=
  stW c (n1 + (giW pr ps c n (n + 1) 0 w 0 (cnt (rdp w 2 (nI c)) n)).2) (0 < n1 + (giW pr ps c n (n + 1) 0 w 0 (cnt (rdp w 2 (nI c)) n)).2 ∨ (giW pr ps c n (n + 1) 0 w 0 (cnt (rdp w 2 (nI c)) n)).1 (420 + 80 * c + a) = nI 1) (up (giW pr ps c n (n + 1) 0 w 0 (cnt (rdp w 2 (nI c)) n)).1 (420 + 80 * c + a) (nI 0))
def lk1 (pr : Int32) (ps c n a f n1 : Nat) (w : Nat → Int32) : Nat → Int32 :=
  lk2 pr ps c n a n1 (if w (10 + 20 * c + 1) = 0 ∨ nrW w c a (decide (w (10 + 20 * c + 1) = nI 1)) f n = none then up w (10 + 20 * c + 1) (nwW w c (fhW w c n (n + 1) 0) (nrW w c a true f n) (nrW w c a false f n)) else w)
def lkW (pr : Int32) (ps c n a f : Nat) (w : Nat → Int32) : Nat → Int32 := lk1 pr ps c n a f (goW c n (n + 1) 0 w 0).2 (goW c n (n + 1) 0 w 0).1
theorem goW_le {c n : Nat} : ∀ (k i : Nat) (w : Nat → Int32) (m : Nat), (goW c n k i w m).2 ≤ m + k
  | 0, _, _, _ => Nat.le_refl _
  | k + 1, i, w, m => by
    simp only [goW]
    split
    · split
      · have := goW_le (c := c) (n := n) k (i + 1) (up (up w (820 + 8 * i + 3) (nI 3)) (820 + 8 * i + 6) (w 3)) (m + 1)
        omega
      · have := goW_le (c := c) (n := n) k (i + 1) w m
        omega
    · show m ≤ _; omega
theorem giW_le {pr : Int32} {ps c n : Nat} : ∀ (k i : Nat) (w : Nat → Int32) (m r : Nat), (giW pr ps c n k i w m r).2 ≤ m + k
  | 0, _, _, _, _ => Nat.le_refl _
  | k + 1, i, w, m, r => by
    simp only [giW]
    split
    · split
      · split
        · refine Nat.le_trans (giW_le k _ _ _ _) ?_
          omega
        · refine Nat.le_trans (giW_le k _ _ _ _) ?_
          omega
      · show m ≤ _; omega
    · show m ≤ _; omega
theorem kG_X6_X6_goIn : GoodIn lw_all (wsV RX6 323 RX6 yX6_goIn (ws_ yX6_goIn cX6_goIn 5 (some .int))) := lw_V q1516 q1518 qs100 q124 q1519
theorem kP_X6_goIn : kPar yX6_goIn 1 := by decide +kernel
set_option maxHeartbeats 1000000 in
theorem b_looks41 {n0 s0 : Nat} (hM : tw0 + 17 ≤ fc_nx M) {n ps a n1 : Nat} (hn : n ≤ 60) (hw : w 2 = nI n) {c : Nat} (hc : c < 4) (hps : T 0 30 = nI ps) (hpl : ps < 80) (ha : a < 80) (hn1 : n1 ≤ 61) (hfl : w (10 + 20 * c + 0) = nI a) {v3 v4 v5 : Option Value} : fc_X g l yX6_looks cX6_looks 6 (none) 4 n0 s0 (tv g M T w) 41 [some (.ref (fc_B g + tw0)), some (.int (nI c)), some (.int (nI n1)), v3, v4, v5] [] (tv_ve g M T (lk2 (T 0 29) ps c n a n1 w)) := by
  refine x_iload_n dX6_looks_41 rfl ?_
  refine x_aload_n dX6_looks_42 rfl ?_
  refine x_iload_n dX6_looks_43 rfl ?_
  refine v_V1ie hM dX6_looks_44 kG_X6_X6_goIn kP_X6_goIn rfl (by omega) (by decide) (Nat.le_of_ble_eq_true rfl) (c_goIn hM hn hw hc hps hpl) ?_
  refine x_iaddN dX6_looks_47 ?_
  refine x_istore_n dX6_looks_48 (by decide) rfl ?_
  refine x_sipush (v := nI 420) dX6_looks_49 (by decide) ?_
  refine x_bipush (v := nI 80) dX6_looks_52 (by decide) ?_
  refine x_iload_n dX6_looks_54 rfl ?_
  refine x_imulN dX6_looks_55 ?_
  refine x_iaddN dX6_looks_56 ?_
  refine x_aload_n dX6_looks_57 rfl ?_
  refine x_iload_n dX6_looks_58 rfl ?_
  refine x_ic0 dX6_looks_59 ?_
  refine v_V2ie hM dX6_looks_60 kG_X6_X6_ofCar kP_X6_ofCar rfl (by omega) (by decide) (Nat.le_of_ble_eq_true rfl) (c_ofCar hM rfl rfl (by omega)) ?_
  refine x_top (w := nI a) (by rw [giW_fr (fun p _ => ⟨by omega, by omega⟩) (by omega)]; exact hfl) ?_
  refine x_iaddN dX6_looks_63 ?_
  refine x_istore_n dX6_looks_64 (by decide) rfl ?_
  refine x_aload_n dX6_looks_65 rfl ?_
  refine v_geta 0 hM dX6_looks_66 (by decide) rfl q1130 ?_
  refine x_iload_n dX6_looks_69 rfl ?_
  refine v_wld hM dX6_looks_70 rfl (by omega) ?_
  refine x_ic1 dX6_looks_71 ?_
  refine x_icmp_ne (tgt := 79) dX6_looks_72 (by decide) (fun hc72 => ?_) (fun hc72 => ?_)
  · refine x_ic0 dX6_looks_79 ?_
    refine x_top (bI_f hc72).symm ?_
    refine x_istore dX6_looks_80 (by decide) rfl ?_
    refine x_aload_n dX6_looks_82 rfl ?_
    refine v_geta 0 hM dX6_looks_83 (by decide) rfl q1130 ?_
    refine x_iload_n dX6_looks_86 rfl ?_
    refine x_ic0 dX6_looks_87 ?_
    refine v_wst hM dX6_looks_88 rfl (by omega) ?_
    have hgl := giW_le (pr := T 0 29) (ps := ps) (c := c) (n := n) (n + 1) 0 w 0 (cnt (rdp w 2 (nI c)) n)
    exact fc_dep (by decide) (b_looks89 hM hc (by omega))
  · refine x_ic1 dX6_looks_75 ?_
    refine x_top (bI_t hc72).symm ?_
    refine x_goto (tgt := 80) dX6_looks_76 (by decide) ?_
    refine x_istore dX6_looks_80 (by decide) rfl ?_
    refine x_aload_n dX6_looks_82 rfl ?_
    refine v_geta 0 hM dX6_looks_83 (by decide) rfl q1130 ?_
    refine x_iload_n dX6_looks_86 rfl ?_
    refine x_ic0 dX6_looks_87 ?_
    refine v_wst hM dX6_looks_88 rfl (by omega) ?_
    have hgl := giW_le (pr := T 0 29) (ps := ps) (c := c) (n := n) (n + 1) 0 w 0 (cnt (rdp w 2 (nI c)) n)
    exact fc_dep (by decide) (b_looks89 hM hc (by omega))
theorem wy_of {x : Int32} (h : x = 0 ∨ x = nI 1 ∨ x = -1) (h0 : ¬ x = 0) : x = wy (decide (x = nI 1)) := by
  rcases h with h | h | h
  · exact absurd h h0
  · subst h; rfl
  · subst h; rfl
theorem bO_m1 {o : Option Nat} (ho : ∀ q, o = some q → q < 2 ^ 31) : bO o = -1 ↔ o = none := by
  cases o with
  | none => exact ⟨fun _ => rfl, fun _ => rfl⟩
  | some q => exact ⟨fun h => absurd h (bO_ne (ho q rfl)), fun h => by cases h⟩
theorem kG_X6_X6_newWay : GoodIn lw_all (wsV RX6 320 RX6 yX6_newWay (ws_ yX6_newWay cX6_newWay 6 (some .int))) := lw_V q1508 q1510 qs98 q124 q1511
theorem kP_X6_newWay : kPar yX6_newWay 1 := by decide +kernel
set_option maxHeartbeats 1000000 in
theorem b_looks30 {n0 s0 : Nat} (hM : tw0 + 17 ≤ fc_nx M) {n ps a f n1 : Nat} (hn : n ≤ 60) (hw : w 2 = nI n) {c : Nat} (hc : c < 4) (hps : T 0 30 = nI ps) (hpl : ps < 80) (hw0 : w 0 = nI f) (hPI : PI w n f) (hf : f ≤ 80) (ha : a < f) (hfl : w (10 + 20 * c + 0) = nI a) (hn1 : n1 ≤ 61) {v3 v4 v5 : Option Value} : fc_X g l yX6_looks cX6_looks 6 (none) 7 n0 s0 (tv g M T w) 30 [some (.ref (fc_B g + tw0)), some (.int (nI c)), some (.int (nI n1)), v3, v4, v5] [] (tv_ve g M T (lk2 (T 0 29) ps c n a n1 (up w (10 + 20 * c + 1) (nwW w c (fhW w c n (n + 1) 0) (nrW w c a true f n) (nrW w c a false f n))))) := by
  refine x_aload_n dX6_looks_30 rfl ?_
  refine x_iload_n dX6_looks_31 rfl ?_
  refine x_ic1 dX6_looks_32 ?_
  refine x_aload_n dX6_looks_33 rfl ?_
  refine x_iload_n dX6_looks_34 rfl ?_
  refine v_V1ie hM dX6_looks_35 kG_X6_X6_newWay kP_X6_newWay rfl (by omega) (by decide) (Nat.le_of_ble_eq_true rfl) (c_newWay hM hn hw hc ha hf (PI_T hPI hf) hw0 hfl) ?_
  refine v_V3ve hM dX6_looks_38 kG_X6_X6_sets kP_X6_sets rfl (by omega) (by decide) (Nat.le_of_ble_eq_true rfl) (c_sets hM rfl rfl (by omega)) ?_
  exact fc_dep (by decide) (b_looks41 hM hn (by rw [up_n (by omega)]; exact hw) hc hps hpl (by omega) hn1 (by rw [up_n (by omega)]; exact hfl))
set_option maxHeartbeats 1000000 in
theorem b_looks6 {n0 s0 : Nat} (hM : tw0 + 17 ≤ fc_nx M) {n ps a f n1 : Nat} (hn : n ≤ 60) (hw : w 2 = nI n) {c : Nat} (hc : c < 4) (hps : T 0 30 = nI ps) (hpl : ps < 80) (hw0 : w 0 = nI f) (hPI : PI w n f) (hf : f ≤ 80) (ha : a < f) (hfl : w (10 + 20 * c + 0) = nI a) (hwy : w (10 + 20 * c + 1) = 0 ∨ w (10 + 20 * c + 1) = nI 1 ∨ w (10 + 20 * c + 1) = -1) (hn1 : n1 ≤ 61) {v3 v4 v5 : Option Value} : fc_X g l yX6_looks cX6_looks 6 (none) 7 n0 s0 (tv g M T w) 6 [some (.ref (fc_B g + tw0)), some (.int (nI c)), some (.int (nI n1)), v3, v4, v5] [] (tv_ve g M T (lk1 (T 0 29) ps c n a f n1 w)) := by
  refine x_aload_n dX6_looks_6 rfl ?_
  refine x_iload_n dX6_looks_7 rfl ?_
  refine x_ic1 dX6_looks_8 ?_
  refine v_V2ie hM dX6_looks_9 kG_X6_X6_ofCar kP_X6_ofCar rfl (by omega) (by decide) (Nat.le_of_ble_eq_true rfl) (c_ofCar hM rfl rfl (by omega)) ?_
  refine x_if_eq (tgt := 30) dX6_looks_12 (by decide) (fun hc12 => ?_) (fun hc12 => ?_)
  · have hnr := nrW_lt (c := c) (a := a) (u := decide (w (10 + 20 * c + 1) = nI 1)) (by omega) hf (PI_T hPI hf)
    rw [lk1, if_pos (show w (10 + 20 * c + 1) = 0 ∨ nrW w c a (decide (w (10 + 20 * c + 1) = nI 1)) f n = none from Or.inl hc12)]
    exact b_looks30 hM hn hw hc hps hpl hw0 hPI hf ha hfl hn1
  · refine x_aload_n dX6_looks_15 rfl ?_
    refine x_iload_n dX6_looks_16 rfl ?_
    refine x_aload_n dX6_looks_17 rfl ?_
    refine x_iload_n dX6_looks_18 rfl ?_
    refine x_ic1 dX6_looks_19 ?_
    refine v_V2ie hM dX6_looks_20 kG_X6_X6_ofCar kP_X6_ofCar rfl (by omega) (by decide) (Nat.le_of_ble_eq_true rfl) (c_ofCar hM rfl rfl (by omega)) ?_
    refine x_top (wy_of hwy hc12) ?_
    refine v_V2ie hM dX6_looks_23 kG_X6_X6_nearest kP_X6_nearest rfl (by omega) (by decide) (Nat.le_of_ble_eq_true rfl) (c_nearest (u := decide (w (10 + 20 * c + 1) = nI 1)) hM hn hw hc ha hf (PI_T hPI hf) hw0 hfl) ?_
    refine x_icm1 dX6_looks_26 ?_
    refine x_icmp_ne (tgt := 41) dX6_looks_27 (by decide) (fun hc27 => ?_) (fun hc27 => ?_)
    · have hnr := nrW_lt (c := c) (a := a) (u := decide (w (10 + 20 * c + 1) = nI 1)) (by omega) hf (PI_T hPI hf)
      rw [lk1, if_neg (fun z => z.elim hc12 (fun q => hc27 ((bO_m1 (fun q e => by have := hnr q e; omega)).mpr q)))]
      exact fc_dep (by decide) (b_looks41 hM hn hw hc hps hpl (by omega) hn1 hfl)
    · have hnr := nrW_lt (c := c) (a := a) (u := decide (w (10 + 20 * c + 1) = nI 1)) (by omega) hf (PI_T hPI hf)
      rw [lk1, if_pos (show w (10 + 20 * c + 1) = 0 ∨ nrW w c a (decide (w (10 + 20 * c + 1) = nI 1)) f n = none from Or.inr ((bO_m1 (fun q e => by have := hnr q e; omega)).mp hc27))]
      exact b_looks30 hM hn hw hc hps hpl hw0 hPI hf ha hfl hn1
theorem kG_X6_X6_goOut : GoodIn lw_all (wsV RX6 317 RX6 yX6_goOut (ws_ yX6_goOut cX6_goOut 4 (some .int))) := lw_V q1496 q1498 qs95 q124 q1499
theorem kP_X6_goOut : kPar yX6_goOut 1 := by decide +kernel
set_option maxHeartbeats 1000000 in
theorem c_looks (hM : tw0 + 17 ≤ fc_nx M) {n ps a f : Nat} (hn : n ≤ 60) (hw : w 2 = nI n) {c : Nat} (hc : c < 4) (hps : T 0 30 = nI ps) (hpl : ps < 80) (hw0 : w 0 = nI f) (hPI : PI w n f) (hf : f ≤ 80) (ha : a < f) (hfl : w (10 + 20 * c + 0) = nI a) (hwy : w (10 + 20 * c + 1) = 0 ∨ w (10 + 20 * c + 1) = nI 1 ∨ w (10 + 20 * c + 1) = -1) : fc_CX g l yX6_looks cX6_looks 6 (none) 8 [.ref (fc_B g + tw0), .int (nI c)] (tv g M T w) (tv_ve g M T (lkW (T 0 29) ps c n a f w)) := by
  refine fc_enter (by decide) (Nat.le_of_ble_eq_true rfl) rfl ?_
  refine x_aload_n dX6_looks_0 rfl ?_
  refine x_iload_n dX6_looks_1 rfl ?_
  refine v_V1ie hM dX6_looks_2 kG_X6_X6_goOut kP_X6_goOut rfl (by omega) (by decide) (Nat.le_of_ble_eq_true rfl) (c_goOut hM hn hw (by omega)) ?_
  refine x_istore_n dX6_looks_5 (by decide) rfl ?_
  have fr : ∀ q, q < 820 → (goW c n (n + 1) 0 w 0).1 q = w q := fun q hq => goW_fr (fun p _ => ⟨by omega, by omega⟩) _ _ _ _
  have hgl := goW_le (c := c) (n := n) (n + 1) 0 w 0
  exact fc_dep (by decide) (b_looks6 hM hn (by rw [fr _ (by omega)]; exact hw) hc hps hpl (by rw [fr _ (by omega)]; exact hw0) (PI_fr hPI (fun p hp => ⟨goW_fr (fun q _ => ⟨by omega, by omega⟩) _ _ _ _, goW_fr (fun q _ => ⟨by omega, by omega⟩) _ _ _ _⟩)) hf ha (by rw [fr _ (by omega)]; exact hfl) (by rw [fr _ (by omega)]; exact hwy) (by omega))
end T35
