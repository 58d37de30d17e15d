set_option maxRecDepth 100000
section T32
variable {g : fc_G} {l : Launch} {M : fc_M} {T : tT} {w : Nat → Int32}
def stp (w : Nat → Int32) (s : Nat) (p : Nat) : Bool := decide (w (820 + 8 * p + 3) = nI s)
def rdp (w : Nat → Int32) (s : Nat) (c : Int32) (p : Nat) : Bool := decide (w (820 + 8 * p + 3) = nI s) && decide (w (820 + 8 * p + 4) = c)
theorem stp_t {w : Nat → Int32} {s p : Nat} (h : w (820 + 8 * p + 3) = nI s) : stp w s p = true := by simp [stp, h]
theorem stp_f {w : Nat → Int32} {s p : Nat} (h : ¬ w (820 + 8 * p + 3) = nI s) : stp w s p = false := by simp [stp, h]
theorem rdp_t {w : Nat → Int32} {s p : Nat} {c : Int32} (h : w (820 + 8 * p + 3) = nI s) (h2 : w (820 + 8 * p + 4) = c) : rdp w s c p = true := by simp [rdp, h, h2]
theorem rdp_f {w : Nat → Int32} {s p : Nat} {c : Int32} (h : ¬ (w (820 + 8 * p + 3) = nI s ∧ w (820 + 8 * p + 4) = c)) : rdp w s c p = false := by
  by_cases h1 : w (820 + 8 * p + 3) = nI s
  · simp [rdp, h1]
    exact fun z => h ⟨h1, z⟩
  · simp [rdp, h1]
set_option maxHeartbeats 1000000 in
theorem l_riding {n0 s0 : Nat} (hM : tw0 + 17 ≤ fc_nx M) {n : Nat} (hn : n ≤ 60) (hw : w 2 = nI n) {c : Int32} : ∀ (k i : Nat), i ≤ n → n < i + k → fc_X g l yX6_riding cX6_riding 4 (some .int) 2 n0 s0 (tv g M T w) 4 [some (.ref (fc_B g + tw0)), some (.int c), some (.int (nI (cnt (rdp w 2 c) i))), some (.int (nI i))] [] (tv_ie g M (nI (cnt (rdp w 2 c) n)) T w) := by
  intro k
  induction k with
  | zero => intro i h1 h2; omega
  | succ k ih =>
    intro i h1 h2
    refine x_iload_n dX6_riding_4 rfl ?_
    refine x_aload_n dX6_riding_5 rfl ?_
    refine v_geta 0 hM dX6_riding_6 (by decide) rfl q1130 ?_
    refine x_ic2 dX6_riding_9 ?_
    refine v_wld hM dX6_riding_10 rfl (by omega) ?_
    refine x_top hw ?_
    refine x_icmpN_ge (tgt := 48) dX6_riding_11 (by decide) (by omega) (by omega) (fun hc11 => ?_) (fun hc11 => ?_)
    · refine x_iload_n dX6_riding_48 rfl ?_
      obtain rfl : i = n := by omega
      exact x_iret dX6_riding_49 rfl rfl tv_i1
    · refine x_iload_n dX6_riding_14 rfl ?_
      refine x_aload_n dX6_riding_15 rfl ?_
      refine x_iload_n dX6_riding_16 rfl ?_
      refine x_ic3 dX6_riding_17 ?_
      refine v_V2ie hM dX6_riding_18 kG_X6_X6_own kP_X6_own rfl (by omega) (by decide) (Nat.le_of_ble_eq_true rfl) (c_own hM rfl rfl (by omega)) ?_
      refine x_ic2 dX6_riding_21 ?_
      refine x_icmp_ne (tgt := 39) dX6_riding_22 (by decide) (fun hc22 => ?_) (fun hc22 => ?_)
      · refine x_ic0 dX6_riding_39 ?_
        refine x_iaddN dX6_riding_40 ?_
        refine x_istore_n dX6_riding_41 (by decide) rfl ?_
        refine x_iincN (n := 1) dX6_riding_42 (by decide) rfl (by decide) rfl ?_
        refine x_goto (tgt := 4) dX6_riding_45 (by decide) ?_
        first | (rw [← cnt_t (f := rdp w 2 c) (rdp_t hc22 hc32)]; exact ih (i + 1) (by omega) (by omega)) | (rw [← cnt_f (f := rdp w 2 c) (rdp_f (fun z => hc32 z.2))]; exact ih (i + 1) (by omega) (by omega)) | (rw [← cnt_f (f := rdp w 2 c) (rdp_f (fun z => hc22 z.1))]; exact ih (i + 1) (by omega) (by omega))
      · refine x_aload_n dX6_riding_25 rfl ?_
        refine x_iload_n dX6_riding_26 rfl ?_
        refine x_ic4 dX6_riding_27 ?_
        refine v_V2ie hM dX6_riding_28 kG_X6_X6_own kP_X6_own rfl (by omega) (by decide) (Nat.le_of_ble_eq_true rfl) (c_own hM rfl rfl (by omega)) ?_
        refine x_iload_n dX6_riding_31 rfl ?_
        refine x_icmp_ne (tgt := 39) dX6_riding_32 (by decide) (fun hc32 => ?_) (fun hc32 => ?_)
        · refine x_ic0 dX6_riding_39 ?_
          refine x_iaddN dX6_riding_40 ?_
          refine x_istore_n dX6_riding_41 (by decide) rfl ?_
          refine x_iincN (n := 1) dX6_riding_42 (by decide) rfl (by decide) rfl ?_
          refine x_goto (tgt := 4) dX6_riding_45 (by decide) ?_
          first | (rw [← cnt_t (f := rdp w 2 c) (rdp_t hc22 hc32)]; exact ih (i + 1) (by omega) (by omega)) | (rw [← cnt_f (f := rdp w 2 c) (rdp_f (fun z => hc32 z.2))]; exact ih (i + 1) (by omega) (by omega)) | (rw [← cnt_f (f := rdp w 2 c) (rdp_f (fun z => hc22 z.1))]; exact ih (i + 1) (by omega) (by omega))
        · refine x_ic1 dX6_riding_35 ?_
          refine x_goto (tgt := 40) dX6_riding_36 (by decide) ?_
          refine x_iaddN dX6_riding_40 ?_
          refine x_istore_n dX6_riding_41 (by decide) rfl ?_
          refine x_iincN (n := 1) dX6_riding_42 (by decide) rfl (by decide) rfl ?_
          refine x_goto (tgt := 4) dX6_riding_45 (by decide) ?_
          first | (rw [← cnt_t (f := rdp w 2 c) (rdp_t hc22 hc32)]; exact ih (i + 1) (by omega) (by omega)) | (rw [← cnt_f (f := rdp w 2 c) (rdp_f (fun z => hc32 z.2))]; exact ih (i + 1) (by omega) (by omega)) | (rw [← cnt_f (f := rdp w 2 c) (rdp_f (fun z => hc22 z.1))]; exact ih (i + 1) (by omega) (by omega))
set_option maxHeartbeats 1000000 in
theorem c_riding (hM : tw0 + 17 ≤ fc_nx M) {n : Nat} (hn : n ≤ 60) (hw : w 2 = nI n) {c : Int32} : fc_CX g l yX6_riding cX6_riding 4 (some .int) 2 [.ref (fc_B g + tw0), .int c] (tv g M T w) (tv_ie g M (nI (cnt (rdp w 2 c) n)) T w) := by
  refine fc_enter (by decide) (Nat.le_of_ble_eq_true rfl) rfl ?_
  refine x_ic0 dX6_riding_0 ?_
  refine x_istore_n dX6_riding_1 (by decide) rfl ?_
  refine x_ic0 dX6_riding_2 ?_
  refine x_istore_n dX6_riding_3 (by decide) rfl ?_
  exact l_riding hM hn hw (n + 1) 0 (by omega) (by omega)
set_option maxHeartbeats 1000000 in
theorem l_given {n0 s0 : Nat} (hM : tw0 + 17 ≤ fc_nx M) {n : Nat} (hn : n ≤ 60) (hw : w 2 = nI n) {c : Int32} : ∀ (k i : Nat), i ≤ n → n < i + k → fc_X g l yX6_given cX6_given 4 (some .int) 2 n0 s0 (tv g M T w) 4 [some (.ref (fc_B g + tw0)), some (.int c), some (.int (nI (cnt (rdp w 1 c) i))), some (.int (nI i))] [] (tv_ie g M (nI (cnt (rdp w 1 c) n)) T w) := by
  intro k
  induction k with
  | zero => intro i h1 h2; omega
  | succ k ih =>
    intro i h1 h2
    refine x_iload_n dX6_given_4 rfl ?_
    refine x_aload_n dX6_given_5 rfl ?_
    refine v_geta 0 hM dX6_given_6 (by decide) rfl q1130 ?_
    refine x_ic2 dX6_given_9 ?_
    refine v_wld hM dX6_given_10 rfl (by omega) ?_
    refine x_top hw ?_
    refine x_icmpN_ge (tgt := 48) dX6_given_11 (by decide) (by omega) (by omega) (fun hc11 => ?_) (fun hc11 => ?_)
    · refine x_iload_n dX6_given_48 rfl ?_
      obtain rfl : i = n := by omega
      exact x_iret dX6_given_49 rfl rfl tv_i1
    · refine x_iload_n dX6_given_14 rfl ?_
      refine x_aload_n dX6_given_15 rfl ?_
      refine x_iload_n dX6_given_16 rfl ?_
      refine x_ic3 dX6_given_17 ?_
      refine v_V2ie hM dX6_given_18 kG_X6_X6_own kP_X6_own rfl (by omega) (by decide) (Nat.le_of_ble_eq_true rfl) (c_own hM rfl rfl (by omega)) ?_
      refine x_ic1 dX6_given_21 ?_
      refine x_icmp_ne (tgt := 39) dX6_given_22 (by decide) (fun hc22 => ?_) (fun hc22 => ?_)
      · refine x_ic0 dX6_given_39 ?_
        refine x_iaddN dX6_given_40 ?_
        refine x_istore_n dX6_given_41 (by decide) rfl ?_
        refine x_iincN (n := 1) dX6_given_42 (by decide) rfl (by decide) rfl ?_
        refine x_goto (tgt := 4) dX6_given_45 (by decide) ?_
        first | (rw [← cnt_t (f := rdp w 1 c) (rdp_t hc22 hc32)]; exact ih (i + 1) (by omega) (by omega)) | (rw [← cnt_f (f := rdp w 1 c) (rdp_f (fun z => hc32 z.2))]; exact ih (i + 1) (by omega) (by omega)) | (rw [← cnt_f (f := rdp w 1 c) (rdp_f (fun z => hc22 z.1))]; exact ih (i + 1) (by omega) (by omega))
      · refine x_aload_n dX6_given_25 rfl ?_
        refine x_iload_n dX6_given_26 rfl ?_
        refine x_ic4 dX6_given_27 ?_
        refine v_V2ie hM dX6_given_28 kG_X6_X6_own kP_X6_own rfl (by omega) (by decide) (Nat.le_of_ble_eq_true rfl) (c_own hM rfl rfl (by omega)) ?_
        refine x_iload_n dX6_given_31 rfl ?_
        refine x_icmp_ne (tgt := 39) dX6_given_32 (by decide) (fun hc32 => ?_) (fun hc32 => ?_)
        · refine x_ic0 dX6_given_39 ?_
          refine x_iaddN dX6_given_40 ?_
          refine x_istore_n dX6_given_41 (by decide) rfl ?_
          refine x_iincN (n := 1) dX6_given_42 (by decide) rfl (by decide) rfl ?_
          refine x_goto (tgt := 4) dX6_given_45 (by decide) ?_
          first | (rw [← cnt_t (f := rdp w 1 c) (rdp_t hc22 hc32)]; exact ih (i + 1) (by omega) (by omega)) | (rw [← cnt_f (f := rdp w 1 c) (rdp_f (fun z => hc32 z.2))]; exact ih (i + 1) (by omega) (by omega)) | (rw [← cnt_f (f := rdp w 1 c) (rdp_f (fun z => hc22 z.1))]; exact ih (i + 1) (by omega) (by omega))
        · refine x_ic1 dX6_given_35 ?_
          refine x_goto (tgt := 40) dX6_given_36 (by decide) ?_
          refine x_iaddN dX6_given_40 ?_
          refine x_istore_n dX6_given_41 (by decide) rfl ?_
          refine x_iincN (n := 1) dX6_given_42 (by decide) rfl (by decide) rfl ?_
          refine x_goto (tgt := 4) dX6_given_45 (by decide) ?_
          first | (rw [← cnt_t (f := rdp w 1 c) (rdp_t hc22 hc32)]; exact ih (i + 1) (by omega) (by omega)) | (rw [← cnt_f (f := rdp w 1 c) (rdp_f (fun z => hc32 z.2))]; exact ih (i + 1) (by omega) (by omega)) | (rw [← cnt_f (f := rdp w 1 c) (rdp_f (fun z => hc22 z.1))]; exact ih (i + 1) (by omega) (by omega))
set_option maxHeartbeats 1000000 in
theorem c_given (hM : tw0 + 17 ≤ fc_nx M) {n : Nat} (hn : n ≤ 60) (hw : w 2 = nI n) {c : Int32} : fc_CX g l yX6_given cX6_given 4 (some .int) 2 [.ref (fc_B g + tw0), .int c] (tv g M T w) (tv_ie g M (nI (cnt (rdp w 1 c) n)) T w) := by
  refine fc_enter (by decide) (Nat.le_of_ble_eq_true rfl) rfl ?_
  refine x_ic0 dX6_given_0 ?_
  refine x_istore_n dX6_given_1 (by decide) rfl ?_
  refine x_ic0 dX6_given_2 ?_
  refine x_istore_n dX6_given_3 (by decide) rfl ?_
  exact l_given hM hn hw (n + 1) 0 (by omega) (by omega)
set_option maxHeartbeats 1000000 in
theorem l_there {n0 s0 : Nat} (hM : tw0 + 17 ≤ fc_nx M) {n : Nat} (hn : n ≤ 60) (hw : w 2 = nI n) : ∀ (k i : Nat), i ≤ n → n < i + k → fc_X g l yX6_there cX6_there 3 (some .int) 2 n0 s0 (tv g M T w) 4 [some (.ref (fc_B g + tw0)), some (.int (nI (cnt (stp w 3) i))), some (.int (nI i))] [] (tv_ie g M (nI (cnt (stp w 3) n)) T w) := by
  intro k
  induction k with
  | zero => intro i h1 h2; omega
  | succ k ih =>
    intro i h1 h2
    refine x_iload_n dX6_there_4 rfl ?_
    refine x_aload_n dX6_there_5 rfl ?_
    refine v_geta 0 hM dX6_there_6 (by decide) rfl q1130 ?_
    refine x_ic2 dX6_there_9 ?_
    refine v_wld hM dX6_there_10 rfl (by omega) ?_
    refine x_top hw ?_
    refine x_icmpN_ge (tgt := 38) dX6_there_11 (by decide) (by omega) (by omega) (fun hc11 => ?_) (fun hc11 => ?_)
    · refine x_iload_n dX6_there_38 rfl ?_
      obtain rfl : i = n := by omega
      exact x_iret dX6_there_39 rfl rfl tv_i1
    · refine x_iload_n dX6_there_14 rfl ?_
      refine x_aload_n dX6_there_15 rfl ?_
      refine x_iload_n dX6_there_16 rfl ?_
      refine x_ic3 dX6_there_17 ?_
      refine v_V2ie hM dX6_there_18 kG_X6_X6_own kP_X6_own rfl (by omega) (by decide) (Nat.le_of_ble_eq_true rfl) (c_own hM rfl rfl (by omega)) ?_
      refine x_ic3 dX6_there_21 ?_
      refine x_icmp_ne (tgt := 29) dX6_there_22 (by decide) (fun hc22 => ?_) (fun hc22 => ?_)
      · refine x_ic0 dX6_there_29 ?_
        refine x_iaddN dX6_there_30 ?_
        refine x_istore_n dX6_there_31 (by decide) rfl ?_
        refine x_iincN (n := 1) dX6_there_32 (by decide) rfl (by decide) rfl ?_
        refine x_goto (tgt := 4) dX6_there_35 (by decide) ?_
        first | (rw [← cnt_t (f := stp w 3) (stp_t hc22)]; exact ih (i + 1) (by omega) (by omega)) | (rw [← cnt_f (f := stp w 3) (stp_f hc22)]; exact ih (i + 1) (by omega) (by omega))
      · refine x_ic1 dX6_there_25 ?_
        refine x_goto (tgt := 30) dX6_there_26 (by decide) ?_
        refine x_iaddN dX6_there_30 ?_
        refine x_istore_n dX6_there_31 (by decide) rfl ?_
        refine x_iincN (n := 1) dX6_there_32 (by decide) rfl (by decide) rfl ?_
        refine x_goto (tgt := 4) dX6_there_35 (by decide) ?_
        first | (rw [← cnt_t (f := stp w 3) (stp_t hc22)]; exact ih (i + 1) (by omega) (by omega)) | (rw [← cnt_f (f := stp w 3) (stp_f hc22)]; exact ih (i + 1) (by omega) (by omega))
set_option maxHeartbeats 1000000 in
theorem c_there (hM : tw0 + 17 ≤ fc_nx M) {n : Nat} (hn : n ≤ 60) (hw : w 2 = nI n) : fc_CX g l yX6_there cX6_there 3 (some .int) 2 [.ref (fc_B g + tw0)] (tv g M T w) (tv_ie g M (nI (cnt (stp w 3) n)) T w) := by
  refine fc_enter (by decide) (Nat.le_of_ble_eq_true rfl) rfl ?_
  refine x_ic0 dX6_there_0 ?_
  refine x_istore_n dX6_there_1 (by decide) rfl ?_
  refine x_ic0 dX6_there_2 ?_
  refine x_istore_n dX6_there_3 (by decide) rfl ?_
  exact l_there hM hn hw (n + 1) 0 (by omega) (by omega)
set_option maxHeartbeats 1000000 in
theorem l_inState {n0 s0 : Nat} (hM : tw0 + 17 ≤ fc_nx M) {n : Nat} (hn : n ≤ 60) (hw : w 2 = nI n) {s : Nat} : ∀ (k i : Nat), i ≤ n → n < i + k → fc_X g l yX6_inState cX6_inState 4 (some .int) 2 n0 s0 (tv g M T w) 4 [some (.ref (fc_B g + tw0)), some (.int (nI s)), some (.int (nI (cnt (stp w s) i))), some (.int (nI i))] [] (tv_ie g M (nI (cnt (stp w s) n)) T w) := by
  intro k
  induction k with
  | zero => intro i h1 h2; omega
  | succ k ih =>
    intro i h1 h2
    refine x_iload_n dX6_inState_4 rfl ?_
    refine x_aload_n dX6_inState_5 rfl ?_
    refine v_geta 0 hM dX6_inState_6 (by decide) rfl q1130 ?_
    refine x_ic2 dX6_inState_9 ?_
    refine v_wld hM dX6_inState_10 rfl (by omega) ?_
    refine x_top hw ?_
    refine x_icmpN_ge (tgt := 38) dX6_inState_11 (by decide) (by omega) (by omega) (fun hc11 => ?_) (fun hc11 => ?_)
    · refine x_iload_n dX6_inState_38 rfl ?_
      obtain rfl : i = n := by omega
      exact x_iret dX6_inState_39 rfl rfl tv_i1
    · refine x_iload_n dX6_inState_14 rfl ?_
      refine x_aload_n dX6_inState_15 rfl ?_
      refine x_iload_n dX6_inState_16 rfl ?_
      refine x_ic3 dX6_inState_17 ?_
      refine v_V2ie hM dX6_inState_18 kG_X6_X6_own kP_X6_own rfl (by omega) (by decide) (Nat.le_of_ble_eq_true rfl) (c_own hM rfl rfl (by omega)) ?_
      refine x_iload_n dX6_inState_21 rfl ?_
      refine x_icmp_ne (tgt := 29) dX6_inState_22 (by decide) (fun hc22 => ?_) (fun hc22 => ?_)
      · refine x_ic0 dX6_inState_29 ?_
        refine x_iaddN dX6_inState_30 ?_
        refine x_istore_n dX6_inState_31 (by decide) rfl ?_
        refine x_iincN (n := 1) dX6_inState_32 (by decide) rfl (by decide) rfl ?_
        refine x_goto (tgt := 4) dX6_inState_35 (by decide) ?_
        first | (rw [← cnt_t (f := stp w s) (stp_t hc22)]; exact ih (i + 1) (by omega) (by omega)) | (rw [← cnt_f (f := stp w s) (stp_f hc22)]; exact ih (i + 1) (by omega) (by omega))
      · refine x_ic1 dX6_inState_25 ?_
        refine x_goto (tgt := 30) dX6_inState_26 (by decide) ?_
        refine x_iaddN dX6_inState_30 ?_
        refine x_istore_n dX6_inState_31 (by decide) rfl ?_
        refine x_iincN (n := 1) dX6_inState_32 (by decide) rfl (by decide) rfl ?_
        refine x_goto (tgt := 4) dX6_inState_35 (by decide) ?_
        first | (rw [← cnt_t (f := stp w s) (stp_t hc22)]; exact ih (i + 1) (by omega) (by omega)) | (rw [← cnt_f (f := stp w s) (stp_f hc22)]; exact ih (i + 1) (by omega) (by omega))
set_option maxHeartbeats 1000000 in
theorem c_inState (hM : tw0 + 17 ≤ fc_nx M) {n : Nat} (hn : n ≤ 60) (hw : w 2 = nI n) {s : Nat} : fc_CX g l yX6_inState cX6_inState 4 (some .int) 2 [.ref (fc_B g + tw0), .int (nI s)] (tv g M T w) (tv_ie g M (nI (cnt (stp w s) n)) T w) := by
  refine fc_enter (by decide) (Nat.le_of_ble_eq_true rfl) rfl ?_
  refine x_ic0 dX6_inState_0 ?_
  refine x_istore_n dX6_inState_1 (by decide) rfl ?_
  refine x_ic0 dX6_inState_2 ?_
  refine x_istore_n dX6_inState_3 (by decide) rfl ?_
  exact l_inState hM hn hw (n + 1) 0 (by omega) (by omega)
end T32
