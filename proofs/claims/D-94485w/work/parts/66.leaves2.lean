set_option maxRecDepth 100000
section T66
variable {g : fc_G} {l : Launch} {M : fc_M} {T : tT} {w : Nat → Int32}
abbrev isLe (x : Int32) : Prop := (nI 97 ≤ x ∧ x ≤ nI 122) ∨ (nI 65 ≤ x ∧ x ≤ nI 90)
abbrev isDi (x : Int32) : Prop := nI 48 ≤ x ∧ x ≤ nI 57
def seQ (T : tT) (t k : Nat) : Int32 := if k < t then T 7 k else -1
set_option maxHeartbeats 1000000 in
theorem c_see (hM : tw0 + 17 ≤ fc_nx M) {t k : Nat} (ht : T 0 16 = nI t) (htl : t ≤ 400) (hk : k < 2 ^ 31) {x : Int32} (hx : x = nI k) : fc_CX g l yX6_see cX6_see 2 (some .int) 1 [.ref (fc_B g + tw0), .int x] (tv g M T w) (tv_ie g M (seQ T t k) T w) := by
  refine fc_enter (by decide) (Nat.le_of_ble_eq_true rfl) rfl ?_
  subst hx
  refine x_iload_n dX6_see_0 rfl ?_
  refine x_aload_n dX6_see_1 rfl ?_
  refine v_geti 16 hM dX6_see_2 (by decide) rfl q1146 ?_
  refine x_top ht ?_
  refine x_icmpN_ge (tgt := 17) dX6_see_5 (by decide) (by omega) (by omega) (fun hc5 => ?_) (fun hc5 => ?_)
  · refine x_icm1 dX6_see_17 ?_
    refine x_iret dX6_see_18 rfl rfl (tv_i2 ?_ rfl rfl)
    rw [seQ, if_neg (Nat.not_lt.mpr hc5)]
  · refine x_aload_n dX6_see_8 rfl ?_
    refine v_geta 7 hM dX6_see_9 (by decide) rfl q1137 ?_
    refine x_iload_n dX6_see_12 rfl ?_
    refine v_iald 7 hM dX6_see_13 (by decide) (by decide) rfl rfl (by show _ < 400; omega) ?_
    refine x_goto (tgt := 18) dX6_see_14 (by decide) ?_
    refine x_iret dX6_see_18 rfl rfl (tv_i2 ?_ rfl rfl)
    rw [seQ, if_pos hc5]
set_option maxHeartbeats 1000000 in
theorem c_isLetter {x : Int32} : fc_CX g l yX6_isLetter cX6_isLetter 1 (some .boolean) 2 [.int x] (tv g M T w) (tv_ie g M (bI (isLe x)) T w) := by
  refine fc_enter (by decide) (Nat.le_of_ble_eq_true rfl) rfl ?_
  refine x_iload_n dX6_isLetter_0 rfl ?_
  refine x_bipush (v := nI 97) dX6_isLetter_1 (by decide) ?_
  refine x_bipush (v := nI 122) dX6_isLetter_3 (by decide) ?_
  refine v_S3ie dX6_isLetter_5 kG_X6_X6_isIn kP_X6_isIn (by omega) (by decide) (Nat.le_of_ble_eq_true rfl) c_isIn ?_
  refine x_ifB_ne (tgt := 22) dX6_isLetter_8 (by decide) (fun hc8 => ?_) (fun hc8 => ?_)
  · refine x_ic1 dX6_isLetter_22 ?_
    refine x_goto (tgt := 27) dX6_isLetter_23 (by decide) ?_
    refine x_iret dX6_isLetter_27 rfl (by rfl) (tv_i2 ?_ rfl rfl)
    exact (bI_t (Or.inl hc8)).symm
  · refine x_iload_n dX6_isLetter_11 rfl ?_
    refine x_bipush (v := nI 65) dX6_isLetter_12 (by decide) ?_
    refine x_bipush (v := nI 90) dX6_isLetter_14 (by decide) ?_
    refine v_S3ie dX6_isLetter_16 kG_X6_X6_isIn kP_X6_isIn (by omega) (by decide) (Nat.le_of_ble_eq_true rfl) c_isIn ?_
    refine x_ifB_eq (tgt := 26) dX6_isLetter_19 (by decide) (fun hc19 => ?_) (fun hc19 => ?_)
    · refine x_ic0 dX6_isLetter_26 ?_
      refine x_iret dX6_isLetter_27 rfl (by rfl) (tv_i2 ?_ rfl rfl)
      exact (bI_f (fun z => z.elim hc8 hc19)).symm
    · refine x_ic1 dX6_isLetter_22 ?_
      refine x_goto (tgt := 27) dX6_isLetter_23 (by decide) ?_
      refine x_iret dX6_isLetter_27 rfl (by rfl) (tv_i2 ?_ rfl rfl)
      exact (bI_t (Or.inr hc19)).symm
set_option maxHeartbeats 1000000 in
theorem c_isDigit {x : Int32} : fc_CX g l yX6_isDigit cX6_isDigit 1 (some .boolean) 2 [.int x] (tv g M T w) (tv_ie g M (bI (isDi x)) T w) := by
  refine fc_enter (by decide) (Nat.le_of_ble_eq_true rfl) rfl ?_
  refine x_iload_n dX6_isDigit_0 rfl ?_
  refine x_bipush (v := nI 48) dX6_isDigit_1 (by decide) ?_
  refine x_bipush (v := nI 57) dX6_isDigit_3 (by decide) ?_
  refine v_S3ie dX6_isDigit_5 kG_X6_X6_isIn kP_X6_isIn (by omega) (by decide) (Nat.le_of_ble_eq_true rfl) c_isIn ?_
  exact x_iret dX6_isDigit_8 rfl bI_nar tv_i1
set_option maxHeartbeats 1000000 in
theorem c_bad (hM : tw0 + 17 ≤ fc_nx M) {x : Int32} : fc_CX g l yX6_bad cX6_bad 2 (some .boolean) 1 [.ref (fc_B g + tw0), .int x] (tv g M T w) (tv_ie g M (nI 0) (tu (tu T 0 21 x) 0 22 (T 0 19)) w) := by
  refine fc_enter (by decide) (Nat.le_of_ble_eq_true rfl) rfl ?_
  refine x_aload_n dX6_bad_0 rfl ?_
  refine x_iload_n dX6_bad_1 rfl ?_
  refine v_puti 21 hM dX6_bad_2 (by decide) rfl q1151 rfl rfl rfl ?_
  refine x_aload_n dX6_bad_5 rfl ?_
  refine x_aload_n dX6_bad_6 rfl ?_
  refine v_geti 19 hM dX6_bad_7 (by decide) rfl q1149 ?_
  refine v_puti 22 hM dX6_bad_10 (by decide) rfl q1152 rfl rfl rfl ?_
  refine x_ic0 dX6_bad_13 ?_
  exact x_iret dX6_bad_14 rfl (by rfl) tv_i1
set_option maxHeartbeats 1000000 in
theorem c_lay (hM : tw0 + 17 ≤ fc_nx M) {s : Nat} (hs : T 0 13 = nI s) (hsl : s < 410) {x y : Int32} : fc_CX g l yX6_lay cX6_lay 3 (none) 1 [.ref (fc_B g + tw0), .int x, .int y] (tv g M T w) (tv_ve g M (tu (tu (tu T 5 (2 * s) x) 5 (2 * s + 1) y) 0 13 (nI (s + 1))) w) := by
  refine fc_enter (by decide) (Nat.le_of_ble_eq_true rfl) rfl ?_
  refine x_aload_n dX6_lay_0 rfl ?_
  refine v_geta 5 hM dX6_lay_1 (by decide) rfl q1135 ?_
  refine x_ic2 dX6_lay_4 ?_
  refine x_aload_n dX6_lay_5 rfl ?_
  refine v_geti 13 hM dX6_lay_6 (by decide) rfl q1143 ?_
  refine x_top hs ?_
  refine x_imulN dX6_lay_9 ?_
  refine x_iload_n dX6_lay_10 rfl ?_
  refine v_iast 5 hM dX6_lay_11 (by decide) (by decide) rfl rfl (by show _ < 820; omega) ?_
  refine x_aload_n dX6_lay_12 rfl ?_
  refine v_geta 5 hM dX6_lay_13 (by decide) rfl q1135 ?_
  refine x_ic2 dX6_lay_16 ?_
  refine x_aload_n dX6_lay_17 rfl ?_
  refine v_geti 13 hM dX6_lay_18 (by decide) rfl q1143 ?_
  refine x_top (show tu T 5 (2 * s) x 0 13 = nI s from hs) ?_
  refine x_imulN dX6_lay_21 ?_
  refine x_ic1 dX6_lay_22 ?_
  refine x_iaddN dX6_lay_23 ?_
  refine x_iload_n dX6_lay_24 rfl ?_
  refine v_iast 5 hM dX6_lay_25 (by decide) (by decide) rfl rfl (by show _ < 820; omega) ?_
  refine x_aload_n dX6_lay_26 rfl ?_
  refine x_dup dX6_lay_27 rfl ?_
  refine v_geti 13 hM dX6_lay_28 (by decide) rfl q1143 ?_
  refine x_top (show tu (tu T 5 (2 * s) x) 5 (2 * s + 1) y 0 13 = nI s from hs) ?_
  refine x_ic1 dX6_lay_31 ?_
  refine x_iaddN dX6_lay_32 ?_
  refine v_puti 13 hM dX6_lay_33 (by decide) rfl q1143 rfl rfl rfl ?_
  exact x_vret dX6_lay_36 rfl tv_v1
end T66
