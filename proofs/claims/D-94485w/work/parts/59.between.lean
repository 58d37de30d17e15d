set_option maxRecDepth 100000
section T59
variable {g : fc_G} {l : Launch} {M : fc_M} {T : tT} {w : Nat → Int32}
def blL (w : Nat → Int32) (f : Nat) : Nat → Nat → Int32 → Int32
  | 0, _, v => v
  | k + 1, i, v => if i < f then blL w f k (i + 1) (v + w (740 + i) * nI (f - i)) else v
def blQ (w : Nat → Int32) (f : Nat) : Int32 := blL w f (f + 1) 0 (nI 0)
set_option maxHeartbeats 1000000 in
theorem l_below {n0 s0 : Nat} (hM : tw0 + 17 ≤ fc_nx M) {f : Nat} (hf : f ≤ 80) : ∀ (k i : Nat) (v : Int32), i ≤ f → f < i + k → fc_X g l yX6_below cX6_below 4 (some .int) 2 n0 s0 (tv g M T w) 4 [some (.ref (fc_B g + tw0)), some (.int (nI f)), some (.int v), some (.int (nI i))] [] (tv_ie g M (blL w f k i v) T w) := by
  intro k
  induction k with
  | zero => intro i v h1 h2; omega
  | succ k ih =>
    intro i v h1 h2
    refine x_iload_n dX6_below_4 rfl ?_
    refine x_iload_n dX6_below_5 rfl ?_
    refine x_icmpN_ge (tgt := 27) dX6_below_6 (by decide) (by omega) (by omega) (fun hc6 => ?_) (fun hc6 => ?_)
    · refine x_iload_n dX6_below_27 rfl ?_
      rw [blL, if_neg (Nat.not_lt.mpr hc6)]
      exact x_iret dX6_below_28 rfl rfl tv_i1
    · refine x_iload_n dX6_below_9 rfl ?_
      refine x_aload_n dX6_below_10 rfl ?_
      refine x_iload_n dX6_below_11 rfl ?_
      refine v_V1ie hM dX6_below_12 kG_X6_X6_weight kP_X6_weight rfl (by omega) (by decide) (Nat.le_of_ble_eq_true rfl) (c_weight hM rfl (by omega)) ?_
      refine x_iload_n dX6_below_15 rfl ?_
      refine x_iload_n dX6_below_16 rfl ?_
      refine x_isubN dX6_below_17 (by omega) ?_
      refine x_imul dX6_below_18 ?_
      refine x_iadd dX6_below_19 ?_
      refine x_istore_n dX6_below_20 (by decide) rfl ?_
      refine x_iincN (n := 1) dX6_below_21 (by decide) rfl (by decide) rfl ?_
      refine x_goto (tgt := 4) dX6_below_24 (by decide) ?_
      rw [blL, if_pos hc6]
      exact ih (i + 1) _ (by omega) (by omega)
set_option maxHeartbeats 1000000 in
theorem c_below (hM : tw0 + 17 ≤ fc_nx M) {f : Nat} (hf : f ≤ 80) {x : Int32} (hx : x = nI f) : fc_CX g l yX6_below cX6_below 4 (some .int) 2 [.ref (fc_B g + tw0), .int x] (tv g M T w) (tv_ie g M (blQ w f) T w) := by
  refine fc_enter (by decide) (Nat.le_of_ble_eq_true rfl) rfl ?_
  subst hx
  refine x_ic0 dX6_below_0 ?_
  refine x_istore_n dX6_below_1 (by decide) rfl ?_
  refine x_ic0 dX6_below_2 ?_
  refine x_istore_n dX6_below_3 (by decide) rfl ?_
  exact l_below hM hf (f + 1) 0 (nI 0) (by omega) (by omega)
def bwD (a i : Nat) (b : Int32) : Int32 := if b = -1 then nI (i - a) else if nI (i - a) < b - nI i then nI (i - a) else b - nI i
def bwL (w : Nat → Int32) (F a : Nat) (b : Int32) : Nat → Nat → Int32 → Int32
  | 0, _, v => v
  | k + 1, i, v => if i < F then (if nI i = b then v else bwL w F a b k (i + 1) (v + w (740 + i) * bwD a i b)) else v
def bwQ (w : Nat → Int32) (F a : Nat) (b : Int32) : Int32 := bwL w F a b (F - a) (a + 1) (nI 0)
set_option maxHeartbeats 1000000 in
theorem l_between {n0 s0 : Nat} (hM : tw0 + 17 ≤ fc_nx M) {F a : Nat} (hF : F ≤ 80) (h0 : w 0 = nI F) {b : Int32} : ∀ (k i : Nat) (v : Int32), a < i → i ≤ F → F < i + k → fc_X g l yX6_between cX6_between 5 (some .int) 2 n0 s0 (tv g M T w) 7 [some (.ref (fc_B g + tw0)), some (.int (nI a)), some (.int b), some (.int v), some (.int (nI i))] [] (tv_ie g M (bwL w F a b k i v) T w) := by
  intro k
  induction k with
  | zero => intro i v h0a h1 h2; omega
  | succ k ih =>
    intro i v h0a h1 h2
    refine x_iload dX6_between_7 rfl ?_
    refine x_aload_n dX6_between_9 rfl ?_
    refine v_geta 0 hM dX6_between_10 (by decide) rfl q1130 ?_
    refine x_ic0 dX6_between_13 ?_
    refine v_wld hM dX6_between_14 rfl (by omega) ?_
    refine x_top h0 ?_
    refine x_icmpN_ge (tgt := 67) dX6_between_15 (by decide) (by omega) (by omega) (fun hc15 => ?_) (fun hc15 => ?_)
    · refine x_iload_n dX6_between_67 rfl ?_
      rw [bwL, if_neg (Nat.not_lt.mpr hc15)]
      exact x_iret dX6_between_68 rfl rfl tv_i1
    · refine x_iload dX6_between_18 rfl ?_
      refine x_iload_n dX6_between_20 rfl ?_
      refine x_icmp_eq (tgt := 67) dX6_between_21 (by decide) (fun hc21 => ?_) (fun hc21 => ?_)
      · refine x_iload_n dX6_between_67 rfl ?_
        rw [bwL, if_pos hc15, if_pos hc21]
        exact x_iret dX6_between_68 rfl rfl tv_i1
      · refine x_iload_n dX6_between_24 rfl ?_
        refine x_aload_n dX6_between_25 rfl ?_
        refine x_iload dX6_between_26 rfl ?_
        refine v_V1ie hM dX6_between_28 kG_X6_X6_weight kP_X6_weight rfl (by omega) (by decide) (Nat.le_of_ble_eq_true rfl) (c_weight hM rfl (by omega)) ?_
        refine x_iload_n dX6_between_31 rfl ?_
        refine x_icm1 dX6_between_32 ?_
        refine x_icmp_eq (tgt := 47) dX6_between_33 (by decide) (fun hc33 => ?_) (fun hc33 => ?_)
        · refine x_iload dX6_between_47 rfl ?_
          refine x_iload_n dX6_between_49 rfl ?_
          refine x_isubN dX6_between_50 (by omega) ?_
          refine x_goto (tgt := 58) dX6_between_51 (by decide) ?_
          refine x_imul dX6_between_58 ?_
          refine x_iadd dX6_between_59 ?_
          refine x_istore_n dX6_between_60 (by decide) rfl ?_
          refine x_iincN (n := 1) dX6_between_61 (by decide) rfl (by decide) rfl ?_
          refine x_goto (tgt := 7) dX6_between_64 (by decide) ?_
          have eD : bwD a i b = nI (i - a) := by rw [bwD, if_pos hc33]
          rw [bwL, if_pos hc15, if_neg hc21, eD]
          exact ih (i + 1) _ (by omega) (by omega) (by omega)
        · refine x_iload dX6_between_36 rfl ?_
          refine x_iload_n dX6_between_38 rfl ?_
          refine x_isubN dX6_between_39 (by omega) ?_
          refine x_iload_n dX6_between_40 rfl ?_
          refine x_iload dX6_between_41 rfl ?_
          refine x_isub dX6_between_43 ?_
          refine x_icmp_ge (tgt := 54) dX6_between_44 (by decide) (fun hc44 => ?_) (fun hc44 => ?_)
          · refine x_iload_n dX6_between_54 rfl ?_
            refine x_iload dX6_between_55 rfl ?_
            refine x_isub dX6_between_57 ?_
            refine x_imul dX6_between_58 ?_
            refine x_iadd dX6_between_59 ?_
            refine x_istore_n dX6_between_60 (by decide) rfl ?_
            refine x_iincN (n := 1) dX6_between_61 (by decide) rfl (by decide) rfl ?_
            refine x_goto (tgt := 7) dX6_between_64 (by decide) ?_
            have eD : bwD a i b = b - nI i := by rw [bwD, if_neg hc33, if_neg (Int32.not_lt.mpr hc44)]
            rw [bwL, if_pos hc15, if_neg hc21, eD]
            exact ih (i + 1) _ (by omega) (by omega) (by omega)
          · refine x_iload dX6_between_47 rfl ?_
            refine x_iload_n dX6_between_49 rfl ?_
            refine x_isubN dX6_between_50 (by omega) ?_
            refine x_goto (tgt := 58) dX6_between_51 (by decide) ?_
            refine x_imul dX6_between_58 ?_
            refine x_iadd dX6_between_59 ?_
            refine x_istore_n dX6_between_60 (by decide) rfl ?_
            refine x_iincN (n := 1) dX6_between_61 (by decide) rfl (by decide) rfl ?_
            refine x_goto (tgt := 7) dX6_between_64 (by decide) ?_
            have eD : bwD a i b = nI (i - a) := by rw [bwD, if_neg hc33, if_pos (Int32.not_le.mp hc44)]
            rw [bwL, if_pos hc15, if_neg hc21, eD]
            exact ih (i + 1) _ (by omega) (by omega) (by omega)
set_option maxHeartbeats 1000000 in
theorem c_between (hM : tw0 + 17 ≤ fc_nx M) {F a : Nat} (hF : F ≤ 80) (h0 : w 0 = nI F) (ha : a < F) {x b : Int32} (hx : x = nI a) : fc_CX g l yX6_between cX6_between 5 (some .int) 2 [.ref (fc_B g + tw0), .int x, .int b] (tv g M T w) (tv_ie g M (bwQ w F a b) T w) := by
  refine fc_enter (by decide) (Nat.le_of_ble_eq_true rfl) rfl ?_
  subst hx
  refine x_ic0 dX6_between_0 ?_
  refine x_istore_n dX6_between_1 (by decide) rfl ?_
  refine x_iload_n dX6_between_2 rfl ?_
  refine x_ic1 dX6_between_3 ?_
  refine x_iaddN dX6_between_4 ?_
  refine x_istore dX6_between_5 (by decide) rfl ?_
  exact l_between hM hF h0 (F - a) (a + 1) (nI 0) (by omega) (by omega) (by omega)
end T59
