set_option maxRecDepth 100000
section T33
variable {g : fc_G} {l : Launch} {M : fc_M} {T : tT} {w : Nat → Int32}
/-- the floor that one of people makes a target of car c -/
def tgW (w : Nat → Int32) (c : Int32) (p : Nat) : Int32 := if w (820 + 8 * p + 4) = c then (if w (820 + 8 * p + 3) = nI 2 then w (820 + 8 * p + 2) else if w (820 + 8 * p + 3) = nI 1 then w (820 + 8 * p + 1) else -1) else -1
def wayW (w : Nat → Int32) (p : Nat) : Int32 := if w (820 + 8 * p + 1) < w (820 + 8 * p + 2) then nI 1 else -1
def fhW (w : Nat → Int32) (c n : Nat) : Nat → Nat → Int32
  | 0, _ => -1
  | k + 1, i => if i < n then (if w (820 + 8 * i + 3) = nI 1 ∧ w (820 + 8 * i + 4) = nI c ∧ w (820 + 8 * i + 1) = w (10 + 20 * c + 0) then nI i else fhW w c n k (i + 1)) else -1
def goW (c n : Nat) : Nat → Nat → (Nat → Int32) → Nat → (Nat → Int32) × Nat
  | 0, _, w, m => (w, m)
  | k + 1, i, w, m => if i < n then (if w (820 + 8 * i + 3) = nI 2 ∧ w (820 + 8 * i + 4) = nI c ∧ w (820 + 8 * i + 2) = w (10 + 20 * c + 0) then goW c n k (i + 1) (up (up w (820 + 8 * i + 3) (nI 3)) (820 + 8 * i + 6) (w 3)) (m + 1) else goW c n k (i + 1) w m) else (w, m)
def ovW (w : Nat → Int32) (b : Int32) (n : Nat) : Nat → Nat → Int32 → Int32
  | 0, _, v => v
  | k + 1, i, v => if i < n then ovW w b n k (i + 1) (v + (if nI i = b then nI 0 else w (820 + 8 * i + 6) - w (820 + 8 * i + 0))) else v
set_option maxHeartbeats 1000000 in
theorem c_targetOf (hM : tw0 + 17 ≤ fc_nx M) {c : Int32} {x : Int32} {p : Nat} (hx : x = nI p) (h : p < 60) : fc_CX g l yX6_targetOf cX6_targetOf 3 (some .int) 2 [.ref (fc_B g + tw0), .int c, .int x] (tv g M T w) (tv_ie g M (tgW w c p) T w) := by
  refine fc_enter (by decide) (Nat.le_of_ble_eq_true rfl) rfl ?_
  subst hx
  refine x_aload_n dX6_targetOf_0 rfl ?_
  refine x_iload_n dX6_targetOf_1 rfl ?_
  refine x_ic4 dX6_targetOf_2 ?_
  refine v_V2ie hM dX6_targetOf_3 kG_X6_X6_own kP_X6_own rfl (by omega) (by decide) (Nat.le_of_ble_eq_true rfl) (c_own hM rfl rfl (by omega)) ?_
  refine x_iload_n dX6_targetOf_6 rfl ?_
  refine x_icmp_eq (tgt := 12) dX6_targetOf_7 (by decide) (fun hc7 => ?_) (fun hc7 => ?_)
  · refine x_aload_n dX6_targetOf_12 rfl ?_
    refine x_iload_n dX6_targetOf_13 rfl ?_
    refine x_ic3 dX6_targetOf_14 ?_
    refine v_V2ie hM dX6_targetOf_15 kG_X6_X6_own kP_X6_own rfl (by omega) (by decide) (Nat.le_of_ble_eq_true rfl) (c_own hM rfl rfl (by omega)) ?_
    refine x_ic2 dX6_targetOf_18 ?_
    refine x_icmp_ne (tgt := 31) dX6_targetOf_19 (by decide) (fun hc19 => ?_) (fun hc19 => ?_)
    · refine x_aload_n dX6_targetOf_31 rfl ?_
      refine x_iload_n dX6_targetOf_32 rfl ?_
      refine x_ic3 dX6_targetOf_33 ?_
      refine v_V2ie hM dX6_targetOf_34 kG_X6_X6_own kP_X6_own rfl (by omega) (by decide) (Nat.le_of_ble_eq_true rfl) (c_own hM rfl rfl (by omega)) ?_
      refine x_ic1 dX6_targetOf_37 ?_
      refine x_icmp_ne (tgt := 50) dX6_targetOf_38 (by decide) (fun hc38 => ?_) (fun hc38 => ?_)
      · refine x_icm1 dX6_targetOf_50 ?_
        exact x_iret dX6_targetOf_51 rfl rfl (tv_i2 (by rw [tgW, if_pos hc7, if_neg hc19, if_neg hc38]) rfl rfl)
      · refine x_aload_n dX6_targetOf_41 rfl ?_
        refine x_iload_n dX6_targetOf_42 rfl ?_
        refine x_ic1 dX6_targetOf_43 ?_
        refine v_V2ie hM dX6_targetOf_44 kG_X6_X6_own kP_X6_own rfl (by omega) (by decide) (Nat.le_of_ble_eq_true rfl) (c_own hM rfl rfl (by omega)) ?_
        refine x_goto (tgt := 51) dX6_targetOf_47 (by decide) ?_
        exact x_iret dX6_targetOf_51 rfl rfl (tv_i2 (by rw [tgW, if_pos hc7, if_neg hc19, if_pos hc38]) rfl rfl)
    · refine x_aload_n dX6_targetOf_22 rfl ?_
      refine x_iload_n dX6_targetOf_23 rfl ?_
      refine x_ic2 dX6_targetOf_24 ?_
      refine v_V2ie hM dX6_targetOf_25 kG_X6_X6_own kP_X6_own rfl (by omega) (by decide) (Nat.le_of_ble_eq_true rfl) (c_own hM rfl rfl (by omega)) ?_
      refine x_goto (tgt := 51) dX6_targetOf_28 (by decide) ?_
      exact x_iret dX6_targetOf_51 rfl rfl (tv_i2 (by rw [tgW, if_pos hc7, if_pos hc19]) rfl rfl)
  · refine x_icm1 dX6_targetOf_10 ?_
    exact x_iret dX6_targetOf_11 rfl rfl (tv_i2 (by rw [tgW, if_neg hc7]) rfl rfl)
theorem kG_X6_X6_ofCar : GoodIn lw_all (wsV RX6 248 RX6 yX6_ofCar (ws_ yX6_ofCar cX6_ofCar 3 (some .int))) := lw_V q1393 q1395 qs76 q124 q1396
theorem kP_X6_ofCar : kPar yX6_ofCar 2 := by decide +kernel
set_option maxHeartbeats 1000000 in
theorem l_firstHere {n0 s0 : Nat} (hM : tw0 + 17 ≤ fc_nx M) {n : Nat} (hn : n ≤ 60) (hw : w 2 = nI n) {c : Nat} (hc : c < 4) : ∀ (k i : Nat), i ≤ n → n < i + k → fc_X g l yX6_firstHere cX6_firstHere 3 (some .int) 2 n0 s0 (tv g M T w) 2 [some (.ref (fc_B g + tw0)), some (.int (nI c)), some (.int (nI i))] [] (tv_ie g M (fhW w c n k i) T w) := by
  intro k
  induction k with
  | zero => intro i h1 h2; omega
  | succ k ih =>
    intro i h1 h2
    refine x_iload_n dX6_firstHere_2 rfl ?_
    refine x_aload_n dX6_firstHere_3 rfl ?_
    refine v_geta 0 hM dX6_firstHere_4 (by decide) rfl q1130 ?_
    refine x_ic2 dX6_firstHere_7 ?_
    refine v_wld hM dX6_firstHere_8 rfl (by omega) ?_
    refine x_top hw ?_
    refine x_icmpN_ge (tgt := 55) dX6_firstHere_9 (by decide) (by omega) (by omega) (fun hc9 => ?_) (fun hc9 => ?_)
    · refine x_icm1 dX6_firstHere_55 ?_
      exact x_iret dX6_firstHere_56 rfl rfl (tv_i2 (by simp only [fhW, Nat.not_lt.mpr hc9, and_self, and_true, true_and, and_false, false_and, ↓reduceIte, if_true, if_false, not_true_eq_false, not_false_eq_true, eq_self]) rfl rfl)
    · refine x_aload_n dX6_firstHere_12 rfl ?_
      refine x_iload_n dX6_firstHere_13 rfl ?_
      refine x_ic3 dX6_firstHere_14 ?_
      refine v_V2ie hM dX6_firstHere_15 kG_X6_X6_own kP_X6_own rfl (by omega) (by decide) (Nat.le_of_ble_eq_true rfl) (c_own hM rfl rfl (by omega)) ?_
      refine x_ic1 dX6_firstHere_18 ?_
      refine x_icmp_ne (tgt := 49) dX6_firstHere_19 (by decide) (fun hc19 => ?_) (fun hc19 => ?_)
      · refine x_iincN (n := 1) dX6_firstHere_49 (by decide) rfl (by decide) rfl ?_
        refine x_goto (tgt := 2) dX6_firstHere_52 (by decide) ?_
        rw [show fhW w c n (k + 1) i = fhW w c n k (i + 1) by simp only [fhW, hc9, hc19, and_self, and_true, true_and, and_false, false_and, ↓reduceIte, if_true, if_false, not_true_eq_false, not_false_eq_true, eq_self]]
        exact ih (i + 1) (by omega) (by omega)
      · refine x_aload_n dX6_firstHere_22 rfl ?_
        refine x_iload_n dX6_firstHere_23 rfl ?_
        refine x_ic4 dX6_firstHere_24 ?_
        refine v_V2ie hM dX6_firstHere_25 kG_X6_X6_own kP_X6_own rfl (by omega) (by decide) (Nat.le_of_ble_eq_true rfl) (c_own hM rfl rfl (by omega)) ?_
        refine x_iload_n dX6_firstHere_28 rfl ?_
        refine x_icmp_ne (tgt := 49) dX6_firstHere_29 (by decide) (fun hc29 => ?_) (fun hc29 => ?_)
        · refine x_iincN (n := 1) dX6_firstHere_49 (by decide) rfl (by decide) rfl ?_
          refine x_goto (tgt := 2) dX6_firstHere_52 (by decide) ?_
          rw [show fhW w c n (k + 1) i = fhW w c n k (i + 1) by simp only [fhW, hc9, hc19, hc29, and_self, and_true, true_and, and_false, false_and, ↓reduceIte, if_true, if_false, not_true_eq_false, not_false_eq_true, eq_self]]
          exact ih (i + 1) (by omega) (by omega)
        · refine x_aload_n dX6_firstHere_32 rfl ?_
          refine x_iload_n dX6_firstHere_33 rfl ?_
          refine x_ic1 dX6_firstHere_34 ?_
          refine v_V2ie hM dX6_firstHere_35 kG_X6_X6_own kP_X6_own rfl (by omega) (by decide) (Nat.le_of_ble_eq_true rfl) (c_own hM rfl rfl (by omega)) ?_
          refine x_aload_n dX6_firstHere_38 rfl ?_
          refine x_iload_n dX6_firstHere_39 rfl ?_
          refine x_ic0 dX6_firstHere_40 ?_
          refine v_V2ie hM dX6_firstHere_41 kG_X6_X6_ofCar kP_X6_ofCar rfl (by omega) (by decide) (Nat.le_of_ble_eq_true rfl) (c_ofCar hM rfl rfl (by omega)) ?_
          refine x_icmp_ne (tgt := 49) dX6_firstHere_44 (by decide) (fun hc44 => ?_) (fun hc44 => ?_)
          · refine x_iincN (n := 1) dX6_firstHere_49 (by decide) rfl (by decide) rfl ?_
            refine x_goto (tgt := 2) dX6_firstHere_52 (by decide) ?_
            rw [show fhW w c n (k + 1) i = fhW w c n k (i + 1) by simp only [fhW, hc9, hc19, hc29, hc44, and_self, and_true, true_and, and_false, false_and, ↓reduceIte, if_true, if_false, not_true_eq_false, not_false_eq_true, eq_self]]
            exact ih (i + 1) (by omega) (by omega)
          · refine x_iload_n dX6_firstHere_47 rfl ?_
            exact x_iret dX6_firstHere_48 rfl rfl (tv_i2 (by simp only [fhW, hc9, hc19, hc29, hc44, and_self, and_true, true_and, and_false, false_and, ↓reduceIte, if_true, if_false, not_true_eq_false, not_false_eq_true, eq_self]) rfl rfl)
set_option maxHeartbeats 1000000 in
theorem c_firstHere (hM : tw0 + 17 ≤ fc_nx M) {n : Nat} (hn : n ≤ 60) (hw : w 2 = nI n) {c : Nat} (hc : c < 4) : fc_CX g l yX6_firstHere cX6_firstHere 3 (some .int) 2 [.ref (fc_B g + tw0), .int (nI c)] (tv g M T w) (tv_ie g M (fhW w c n (n + 1) 0) T w) := by
  refine fc_enter (by decide) (Nat.le_of_ble_eq_true rfl) rfl ?_
  refine x_ic0 dX6_firstHere_0 ?_
  refine x_istore_n dX6_firstHere_1 (by decide) rfl ?_
  exact l_firstHere hM hn hw hc (n + 1) 0 (by omega) (by omega)
theorem kG_X6_X6_gives : GoodIn lw_all (wsV RX6 262 RX6 yX6_gives (ws_ yX6_gives cX6_gives 4 (none))) := lw_V q1413 q1415 qs79 q124 q1416
theorem kP_X6_gives : kPar yX6_gives 3 := by decide +kernel
set_option maxHeartbeats 1000000 in
theorem l_goOut {n0 s0 : Nat} (hM : tw0 + 17 ≤ fc_nx M) {n : Nat} (hn : n ≤ 60) {c : Nat} (hc : c < 4) : ∀ (k i m : Nat) (w : Nat → Int32), w 2 = nI n → i ≤ n → n < i + k → fc_X g l yX6_goOut cX6_goOut 4 (some .int) 2 n0 s0 (tv g M T w) 4 [some (.ref (fc_B g + tw0)), some (.int (nI c)), some (.int (nI m)), some (.int (nI i))] [] (tv_ie g M (nI (goW c n k i w m).2) T (goW c n k i w m).1) := by
  intro k
  induction k with
  | zero => intro i m w hw h1 h2; omega
  | succ k ih =>
    intro i m w hw h1 h2
    refine x_iload_n dX6_goOut_4 rfl ?_
    refine x_aload_n dX6_goOut_5 rfl ?_
    refine v_geta 0 hM dX6_goOut_6 (by decide) rfl q1130 ?_
    refine x_ic2 dX6_goOut_9 ?_
    refine v_wld hM dX6_goOut_10 rfl (by omega) ?_
    refine x_top hw ?_
    refine x_icmpN_ge (tgt := 81) dX6_goOut_11 (by decide) (by omega) (by omega) (fun hc11 => ?_) (fun hc11 => ?_)
    · refine x_iload_n dX6_goOut_81 rfl ?_
      exact x_iret dX6_goOut_82 rfl rfl (tv_i2 (by simp only [goW, Nat.not_lt.mpr hc11, and_self, and_true, true_and, and_false, false_and, ↓reduceIte, if_true, if_false, not_true_eq_false, not_false_eq_true, eq_self]) rfl (by simp only [goW, Nat.not_lt.mpr hc11, and_self, and_true, true_and, and_false, false_and, ↓reduceIte, if_true, if_false, not_true_eq_false, not_false_eq_true, eq_self]))
    · refine x_aload_n dX6_goOut_14 rfl ?_
      refine x_iload_n dX6_goOut_15 rfl ?_
      refine x_ic3 dX6_goOut_16 ?_
      refine v_V2ie hM dX6_goOut_17 kG_X6_X6_own kP_X6_own rfl (by omega) (by decide) (Nat.le_of_ble_eq_true rfl) (c_own hM rfl rfl (by omega)) ?_
      refine x_ic2 dX6_goOut_20 ?_
      refine x_icmp_ne (tgt := 75) dX6_goOut_21 (by decide) (fun hc21 => ?_) (fun hc21 => ?_)
      · refine x_iincN (n := 1) dX6_goOut_75 (by decide) rfl (by decide) rfl ?_
        refine x_goto (tgt := 4) dX6_goOut_78 (by decide) ?_
        first
          | (rw [show goW c n (k + 1) i w m = goW c n k (i + 1) w m by simp only [goW, hc11, hc21, and_self, and_true, true_and, and_false, false_and, ↓reduceIte, if_true, if_false, not_true_eq_false, not_false_eq_true, eq_self]]; exact ih (i + 1) m w hw (by omega) (by omega))
          | (rw [show goW c n (k + 1) i w m = goW c n k (i + 1) (up (up w (820 + 8 * i + 3) (nI 3)) (820 + 8 * i + 6) (w 3)) (m + 1) by simp only [goW, hc11, hc21, and_self, and_true, true_and, and_false, false_and, ↓reduceIte, if_true, if_false, not_true_eq_false, not_false_eq_true, eq_self]]; exact ih (i + 1) (m + 1) (up (up w (820 + 8 * i + 3) (nI 3)) (820 + 8 * i + 6) (w 3)) (by rw [up_n (by omega), up_n (by omega)]; exact hw) (by omega) (by omega))
      · refine x_aload_n dX6_goOut_24 rfl ?_
        refine x_iload_n dX6_goOut_25 rfl ?_
        refine x_ic4 dX6_goOut_26 ?_
        refine v_V2ie hM dX6_goOut_27 kG_X6_X6_own kP_X6_own rfl (by omega) (by decide) (Nat.le_of_ble_eq_true rfl) (c_own hM rfl rfl (by omega)) ?_
        refine x_iload_n dX6_goOut_30 rfl ?_
        refine x_icmp_ne (tgt := 75) dX6_goOut_31 (by decide) (fun hc31 => ?_) (fun hc31 => ?_)
        · refine x_iincN (n := 1) dX6_goOut_75 (by decide) rfl (by decide) rfl ?_
          refine x_goto (tgt := 4) dX6_goOut_78 (by decide) ?_
          first
            | (rw [show goW c n (k + 1) i w m = goW c n k (i + 1) w m by simp only [goW, hc11, hc21, hc31, and_self, and_true, true_and, and_false, false_and, ↓reduceIte, if_true, if_false, not_true_eq_false, not_false_eq_true, eq_self]]; exact ih (i + 1) m w hw (by omega) (by omega))
            | (rw [show goW c n (k + 1) i w m = goW c n k (i + 1) (up (up w (820 + 8 * i + 3) (nI 3)) (820 + 8 * i + 6) (w 3)) (m + 1) by simp only [goW, hc11, hc21, hc31, and_self, and_true, true_and, and_false, false_and, ↓reduceIte, if_true, if_false, not_true_eq_false, not_false_eq_true, eq_self]]; exact ih (i + 1) (m + 1) (up (up w (820 + 8 * i + 3) (nI 3)) (820 + 8 * i + 6) (w 3)) (by rw [up_n (by omega), up_n (by omega)]; exact hw) (by omega) (by omega))
        · refine x_aload_n dX6_goOut_34 rfl ?_
          refine x_iload_n dX6_goOut_35 rfl ?_
          refine x_ic2 dX6_goOut_36 ?_
          refine v_V2ie hM dX6_goOut_37 kG_X6_X6_own kP_X6_own rfl (by omega) (by decide) (Nat.le_of_ble_eq_true rfl) (c_own hM rfl rfl (by omega)) ?_
          refine x_aload_n dX6_goOut_40 rfl ?_
          refine x_iload_n dX6_goOut_41 rfl ?_
          refine x_ic0 dX6_goOut_42 ?_
          refine v_V2ie hM dX6_goOut_43 kG_X6_X6_ofCar kP_X6_ofCar rfl (by omega) (by decide) (Nat.le_of_ble_eq_true rfl) (c_ofCar hM rfl rfl (by omega)) ?_
          refine x_icmp_eq (tgt := 52) dX6_goOut_46 (by decide) (fun hc46 => ?_) (fun hc46 => ?_)
          · refine x_aload_n dX6_goOut_52 rfl ?_
            refine x_iload_n dX6_goOut_53 rfl ?_
            refine x_ic3 dX6_goOut_54 ?_
            refine x_ic3 dX6_goOut_55 ?_
            refine v_V3ve hM dX6_goOut_56 kG_X6_X6_gives kP_X6_gives rfl (by omega) (by decide) (Nat.le_of_ble_eq_true rfl) (c_gives hM rfl rfl (by omega)) ?_
            refine x_aload_n dX6_goOut_59 rfl ?_
            refine x_iload_n dX6_goOut_60 rfl ?_
            refine x_bipush (v := nI 6) dX6_goOut_61 (by decide) ?_
            refine x_aload_n dX6_goOut_63 rfl ?_
            refine v_geta 0 hM dX6_goOut_64 (by decide) rfl q1130 ?_
            refine x_ic3 dX6_goOut_67 ?_
            refine v_wld hM dX6_goOut_68 rfl (by omega) ?_
            refine x_top (up_n (by omega)) ?_
            refine v_V3ve hM dX6_goOut_69 kG_X6_X6_gives kP_X6_gives rfl (by omega) (by decide) (Nat.le_of_ble_eq_true rfl) (c_gives hM rfl rfl (by omega)) ?_
            refine x_iincN (n := 1) dX6_goOut_72 (by decide) rfl (by decide) rfl ?_
            refine x_iincN (n := 1) dX6_goOut_75 (by decide) rfl (by decide) rfl ?_
            refine x_goto (tgt := 4) dX6_goOut_78 (by decide) ?_
            first
              | (rw [show goW c n (k + 1) i w m = goW c n k (i + 1) w m by simp only [goW, hc11, hc21, hc31, hc46, and_self, and_true, true_and, and_false, false_and, ↓reduceIte, if_true, if_false, not_true_eq_false, not_false_eq_true, eq_self]]; exact ih (i + 1) m w hw (by omega) (by omega))
              | (rw [show goW c n (k + 1) i w m = goW c n k (i + 1) (up (up w (820 + 8 * i + 3) (nI 3)) (820 + 8 * i + 6) (w 3)) (m + 1) by simp only [goW, hc11, hc21, hc31, hc46, and_self, and_true, true_and, and_false, false_and, ↓reduceIte, if_true, if_false, not_true_eq_false, not_false_eq_true, eq_self]]; exact ih (i + 1) (m + 1) (up (up w (820 + 8 * i + 3) (nI 3)) (820 + 8 * i + 6) (w 3)) (by rw [up_n (by omega), up_n (by omega)]; exact hw) (by omega) (by omega))
          · refine x_goto (tgt := 75) dX6_goOut_49 (by decide) ?_
            refine x_iincN (n := 1) dX6_goOut_75 (by decide) rfl (by decide) rfl ?_
            refine x_goto (tgt := 4) dX6_goOut_78 (by decide) ?_
            first
              | (rw [show goW c n (k + 1) i w m = goW c n k (i + 1) w m by simp only [goW, hc11, hc21, hc31, hc46, and_self, and_true, true_and, and_false, false_and, ↓reduceIte, if_true, if_false, not_true_eq_false, not_false_eq_true, eq_self]]; exact ih (i + 1) m w hw (by omega) (by omega))
              | (rw [show goW c n (k + 1) i w m = goW c n k (i + 1) (up (up w (820 + 8 * i + 3) (nI 3)) (820 + 8 * i + 6) (w 3)) (m + 1) by simp only [goW, hc11, hc21, hc31, hc46, and_self, and_true, true_and, and_false, false_and, ↓reduceIte, if_true, if_false, not_true_eq_false, not_false_eq_true, eq_self]]; exact ih (i + 1) (m + 1) (up (up w (820 + 8 * i + 3) (nI 3)) (820 + 8 * i + 6) (w 3)) (by rw [up_n (by omega), up_n (by omega)]; exact hw) (by omega) (by omega))
set_option maxHeartbeats 1000000 in
theorem c_goOut (hM : tw0 + 17 ≤ fc_nx M) {n : Nat} (hn : n ≤ 60) (hw : w 2 = nI n) {c : Nat} (hc : c < 4) : fc_CX g l yX6_goOut cX6_goOut 4 (some .int) 2 [.ref (fc_B g + tw0), .int (nI c)] (tv g M T w) (tv_ie g M (nI (goW c n (n + 1) 0 w 0).2) T (goW c n (n + 1) 0 w 0).1) := by
  refine fc_enter (by decide) (Nat.le_of_ble_eq_true rfl) rfl ?_
  refine x_ic0 dX6_goOut_0 ?_
  refine x_istore_n dX6_goOut_1 (by decide) rfl ?_
  refine x_ic0 dX6_goOut_2 ?_
  refine x_istore_n dX6_goOut_3 (by decide) rfl ?_
  exact l_goOut hM hn hc (n + 1) 0 0 w hw (by omega) (by omega)
theorem kG_X6_X6_over : GoodIn lw_all (wsV RX6 347 RX6 yX6_over (ws_ yX6_over cX6_over 2 (some .int))) := lw_V q1549 q1551 qs104 q124 q1552
theorem kP_X6_over : kPar yX6_over 1 := by decide +kernel
set_option maxHeartbeats 1000000 in
theorem l_overAll {n0 s0 : Nat} (hM : tw0 + 17 ≤ fc_nx M) {n : Nat} (hn : n ≤ 60) (hw : w 2 = nI n) {b : Int32} : ∀ (k i : Nat) (v : Int32), i ≤ n → n < i + k → fc_X g l yX6_overAll cX6_overAll 4 (some .int) 3 n0 s0 (tv g M T w) 4 [some (.ref (fc_B g + tw0)), some (.int b), some (.int v), some (.int (nI i))] [] (tv_ie g M (ovW w b n k i v) T w) := by
  intro k
  induction k with
  | zero => intro i v h1 h2; omega
  | succ k ih =>
    intro i v h1 h2
    refine x_iload_n dX6_overAll_4 rfl ?_
    refine x_aload_n dX6_overAll_5 rfl ?_
    refine v_geta 0 hM dX6_overAll_6 (by decide) rfl q1130 ?_
    refine x_ic2 dX6_overAll_9 ?_
    refine v_wld hM dX6_overAll_10 rfl (by omega) ?_
    refine x_top hw ?_
    refine x_icmpN_ge (tgt := 37) dX6_overAll_11 (by decide) (by omega) (by omega) (fun hc11 => ?_) (fun hc11 => ?_)
    · refine x_iload_n dX6_overAll_37 rfl ?_
      exact x_iret dX6_overAll_38 rfl rfl (tv_i2 (by simp only [ovW, Nat.not_lt.mpr hc11, and_self, and_true, true_and, and_false, false_and, ↓reduceIte, if_true, if_false, not_true_eq_false, not_false_eq_true, eq_self]) rfl rfl)
    · refine x_iload_n dX6_overAll_14 rfl ?_
      refine x_iload_n dX6_overAll_15 rfl ?_
      refine x_iload_n dX6_overAll_16 rfl ?_
      refine x_icmp_ne (tgt := 24) dX6_overAll_17 (by decide) (fun hc17 => ?_) (fun hc17 => ?_)
      · refine x_aload_n dX6_overAll_24 rfl ?_
        refine x_iload_n dX6_overAll_25 rfl ?_
        refine v_V1ie hM dX6_overAll_26 kG_X6_X6_over kP_X6_over rfl (by omega) (by decide) (Nat.le_of_ble_eq_true rfl) (c_over hM rfl (by omega)) ?_
        refine x_iadd dX6_overAll_29 ?_
        refine x_istore_n dX6_overAll_30 (by decide) rfl ?_
        refine x_iincN (n := 1) dX6_overAll_31 (by decide) rfl (by decide) rfl ?_
        refine x_goto (tgt := 4) dX6_overAll_34 (by decide) ?_
        first | (simp only [ovW, if_pos hc11, if_pos hc17]; exact ih (i + 1) _ (by omega) (by omega)) | (simp only [ovW, if_pos hc11, if_neg hc17]; exact ih (i + 1) _ (by omega) (by omega))
      · refine x_ic0 dX6_overAll_20 ?_
        refine x_goto (tgt := 29) dX6_overAll_21 (by decide) ?_
        refine x_iadd dX6_overAll_29 ?_
        refine x_istore_n dX6_overAll_30 (by decide) rfl ?_
        refine x_iincN (n := 1) dX6_overAll_31 (by decide) rfl (by decide) rfl ?_
        refine x_goto (tgt := 4) dX6_overAll_34 (by decide) ?_
        first | (simp only [ovW, if_pos hc11, if_pos hc17]; exact ih (i + 1) _ (by omega) (by omega)) | (simp only [ovW, if_pos hc11, if_neg hc17]; exact ih (i + 1) _ (by omega) (by omega))
set_option maxHeartbeats 1000000 in
theorem c_overAll (hM : tw0 + 17 ≤ fc_nx M) {n : Nat} (hn : n ≤ 60) (hw : w 2 = nI n) {b : Int32} : fc_CX g l yX6_overAll cX6_overAll 4 (some .int) 3 [.ref (fc_B g + tw0), .int b] (tv g M T w) (tv_ie g M (ovW w b n (n + 1) 0 (nI 0)) T w) := by
  refine fc_enter (by decide) (Nat.le_of_ble_eq_true rfl) rfl ?_
  refine x_ic0 dX6_overAll_0 ?_
  refine x_istore_n dX6_overAll_1 (by decide) rfl ?_
  refine x_ic0 dX6_overAll_2 ?_
  refine x_istore_n dX6_overAll_3 (by decide) rfl ?_
  exact l_overAll hM hn hw (n + 1) 0 (nI 0) (by omega) (by omega)
end T33
