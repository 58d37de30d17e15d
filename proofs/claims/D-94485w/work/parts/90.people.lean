set_option maxRecDepth 100000
section T90
variable {g : fc_G} {l : Launch} {M : fc_M} {S : tT} {U : tU} {β : Nat} {w : Nat → Int32}
theorem bI_fit {q : Prop} [Decidable q] : fits .boolean (.int (bI q)) = true := by
  by_cases h : q
  · rw [bI_t h]; rfl
  · rw [bI_f h]; rfl
set_option maxHeartbeats 1000000 in
theorem d_way (hL : LT g M β) {p : Nat} (hp : p < 60) : fc_CX g l yX4_way cX4_way 1 (some .int) 1 [.ref (fc_B g + (β + 3 + p))] (cR M S U β w) (fc_re (wayW w p) (cR M S U β w)) := by
  refine fc_enter (by decide) (Nat.le_of_ble_eq_true rfl) rfl ?_
  refine x_aload_n dX4_way_0 rfl ?_
  refine k_pget 2 hL dX4_way_1 (by decide) q273 (by omega) ?_
  refine x_aload_n dX4_way_4 rfl ?_
  refine k_pget 1 hL dX4_way_5 (by decide) q270 (by omega) ?_
  refine x_icmp_le (tgt := 15) dX4_way_8 (by decide) (fun hc8 => ?_) (fun hc8 => ?_)
  · refine x_icm1 dX4_way_15 ?_
    exact x_iret dX4_way_16 rfl rfl (fc_re.of2 (by rw [wayW, if_neg (Int32.not_lt.mpr hc8)]) rfl)
  · refine x_ic1 dX4_way_11 ?_
    refine x_goto (tgt := 16) dX4_way_12 (by decide) ?_
    exact x_iret dX4_way_16 rfl rfl (fc_re.of2 (by rw [wayW, if_pos (Int32.not_le.mp hc8)]) rfl)
set_option maxHeartbeats 1000000 in
theorem d_over (hL : LT g M β) {p : Nat} (hp : p < 60) : fc_CX g l yX4_over cX4_over 1 (some .int) 1 [.ref (fc_B g + (β + 3 + p))] (cR M S U β w) (fc_re (w (820 + 8 * p + 6) - w (820 + 8 * p + 0)) (cR M S U β w)) := by
  refine fc_enter (by decide) (Nat.le_of_ble_eq_true rfl) rfl ?_
  refine x_aload_n dX4_over_0 rfl ?_
  refine k_pget 6 hL dX4_over_1 (by decide) q285 (by omega) ?_
  refine x_aload_n dX4_over_4 rfl ?_
  refine k_pget 0 hL dX4_over_5 (by decide) q267 (by omega) ?_
  refine x_isub dX4_over_8 ?_
  exact x_iret dX4_over_9 rfl rfl fc_re.of
set_option maxHeartbeats 1000000 in
theorem d_is (hL : LT g M β) {p : Nat} (hp : p < 60) {a b c : Int32} : fc_CX g l yX4_is cX4_is 4 (none) 1 [.ref (fc_B g + (β + 3 + p)), .int a, .int b, .int c] (cR M S U β w) (fc_rn (cR M S U β (up (up (up (up (up w (820 + 8 * p + 0) a) (820 + 8 * p + 1) b) (820 + 8 * p + 2) c) (820 + 8 * p + 3) (nI 0)) (820 + 8 * p + 4) (-1)))) := by
  refine fc_enter (by decide) (Nat.le_of_ble_eq_true rfl) rfl ?_
  refine x_aload_n dX4_is_0 rfl ?_
  refine x_iload_n dX4_is_1 rfl ?_
  refine k_pput 0 hL dX4_is_2 (by decide) q267 rfl (by omega) ?_
  refine x_aload_n dX4_is_5 rfl ?_
  refine x_iload_n dX4_is_6 rfl ?_
  refine k_pput 1 hL dX4_is_7 (by decide) q270 rfl (by omega) ?_
  refine x_aload_n dX4_is_10 rfl ?_
  refine x_iload_n dX4_is_11 rfl ?_
  refine k_pput 2 hL dX4_is_12 (by decide) q273 rfl (by omega) ?_
  refine x_aload_n dX4_is_15 rfl ?_
  refine x_ic0 dX4_is_16 ?_
  refine k_pput 3 hL dX4_is_17 (by decide) q276 rfl (by omega) ?_
  refine x_aload_n dX4_is_20 rfl ?_
  refine x_icm1 dX4_is_21 ?_
  refine k_pput 4 hL dX4_is_22 (by decide) q279 rfl (by omega) ?_
  exact x_vret dX4_is_25 rfl fc_rn.of
set_option maxHeartbeats 1000000 in
theorem m_inCar {n0 s0 : Nat} (hL : LT g M β) {n : Nat} (hn : n ≤ 60) (hw : w 2 = nI n) {s : Nat} {c : Int32} : ∀ (k i : Nat), i ≤ n → n < i + k → fc_X g l yX3_inCar cX3_inCar 5 (some .int) 1 n0 s0 (cR M S U β w) 5 [some (.ref (fc_B g + β)), some (.int c), some (.int (nI s)), some (.int (nI (cnt (rdp w s c) i))), some (.int (nI i))] [] (fc_re (nI (cnt (rdp w s c) n)) (cR M S U β w)) := by
  intro k
  induction k with
  | zero => intro i h1 h2; omega
  | succ k ih =>
    intro i h1 h2
    refine x_iload dX3_inCar_5 rfl ?_
    refine x_aload_n dX3_inCar_7 rfl ?_
    refine k_tget 2 hL dX3_inCar_8 (by decide) q351 ?_
    refine x_top hw ?_
    refine x_icmpN_ge (tgt := 56) dX3_inCar_11 (by decide) (by omega) (by omega) (fun hc11 => ?_) (fun hc11 => ?_)
    · refine x_iload_n dX3_inCar_56 rfl ?_
      obtain rfl : i = n := by omega
      exact x_iret dX3_inCar_57 rfl rfl fc_re.of
    · refine x_iload_n dX3_inCar_14 rfl ?_
      refine x_aload_n dX3_inCar_15 rfl ?_
      refine k_people 0 rfl hL dX3_inCar_16 q347 ?_
      refine x_iload dX3_inCar_19 rfl ?_
      refine k_pald hL dX3_inCar_21 (by omega) ?_
      refine k_pget 4 hL dX3_inCar_22 (by decide) q280 (by omega) ?_
      refine x_iload_n dX3_inCar_25 rfl ?_
      refine x_icmp_ne (tgt := 47) dX3_inCar_26 (by decide) (fun hc26 => ?_) (fun hc26 => ?_)
      · refine x_ic0 dX3_inCar_47 ?_
        refine x_iaddN dX3_inCar_48 ?_
        refine x_istore_n dX3_inCar_49 (by decide) rfl ?_
        refine x_iincN (n := 1) dX3_inCar_50 (by decide) rfl (by decide) rfl ?_
        refine x_goto (tgt := 5) dX3_inCar_53 (by decide) ?_
        rw [← cnt_f (f := rdp w s c) (rdp_f (fun z => hc26 z.2))]
        exact ih (i + 1) (by omega) (by omega)
      · refine x_aload_n dX3_inCar_29 rfl ?_
        refine k_people 0 rfl hL dX3_inCar_30 q347 ?_
        refine x_iload dX3_inCar_33 rfl ?_
        refine k_pald hL dX3_inCar_35 (by omega) ?_
        refine k_pget 3 hL dX3_inCar_36 (by decide) q277 (by omega) ?_
        refine x_iload_n dX3_inCar_39 rfl ?_
        refine x_icmp_ne (tgt := 47) dX3_inCar_40 (by decide) (fun hc40 => ?_) (fun hc40 => ?_)
        · refine x_ic0 dX3_inCar_47 ?_
          refine x_iaddN dX3_inCar_48 ?_
          refine x_istore_n dX3_inCar_49 (by decide) rfl ?_
          refine x_iincN (n := 1) dX3_inCar_50 (by decide) rfl (by decide) rfl ?_
          refine x_goto (tgt := 5) dX3_inCar_53 (by decide) ?_
          rw [← cnt_f (f := rdp w s c) (rdp_f (fun z => hc40 z.1))]
          exact ih (i + 1) (by omega) (by omega)
        · refine x_ic1 dX3_inCar_43 ?_
          refine x_goto (tgt := 48) dX3_inCar_44 (by decide) ?_
          refine x_iaddN dX3_inCar_48 ?_
          refine x_istore_n dX3_inCar_49 (by decide) rfl ?_
          refine x_iincN (n := 1) dX3_inCar_50 (by decide) rfl (by decide) rfl ?_
          refine x_goto (tgt := 5) dX3_inCar_53 (by decide) ?_
          rw [← cnt_t (f := rdp w s c) (rdp_t hc40 hc26)]
          exact ih (i + 1) (by omega) (by omega)
set_option maxHeartbeats 1000000 in
theorem d_inCar (hL : LT g M β) {n : Nat} (hn : n ≤ 60) (hw : w 2 = nI n) {s : Nat} {c x : Int32} (hx : x = nI s) : fc_CX g l yX3_inCar cX3_inCar 5 (some .int) 1 [.ref (fc_B g + β), .int c, .int x] (cR M S U β w) (fc_re (nI (cnt (rdp w s c) n)) (cR M S U β w)) := by
  refine fc_enter (by decide) (Nat.le_of_ble_eq_true rfl) rfl ?_
  subst hx
  refine x_ic0 dX3_inCar_0 ?_
  refine x_istore_n dX3_inCar_1 (by decide) rfl ?_
  refine x_ic0 dX3_inCar_2 ?_
  refine x_istore dX3_inCar_3 (by decide) rfl ?_
  exact m_inCar hL hn hw (n + 1) 0 (by omega) (by omega)
set_option maxHeartbeats 1000000 in
theorem m_inState {n0 s0 : Nat} (hL : LT g M β) {n : Nat} (hn : n ≤ 60) (hw : w 2 = nI n) {s : Nat} : ∀ (k i : Nat), i ≤ n → n < i + k → fc_X g l yX3_inState cX3_inState 4 (some .int) 1 n0 s0 (cR M S U β w) 4 [some (.ref (fc_B g + β)), some (.int (nI s)), some (.int (nI (cnt (stp w s) i))), some (.int (nI i))] [] (fc_re (nI (cnt (stp w s) n)) (cR M S U β w)) := by
  intro k
  induction k with
  | zero => intro i h1 h2; omega
  | succ k ih =>
    intro i h1 h2
    refine x_iload_n dX3_inState_4 rfl ?_
    refine x_aload_n dX3_inState_5 rfl ?_
    refine k_tget 2 hL dX3_inState_6 (by decide) q351 ?_
    refine x_top hw ?_
    refine x_icmpN_ge (tgt := 39) dX3_inState_9 (by decide) (by omega) (by omega) (fun hc9 => ?_) (fun hc9 => ?_)
    · refine x_iload_n dX3_inState_39 rfl ?_
      obtain rfl : i = n := by omega
      exact x_iret dX3_inState_40 rfl rfl fc_re.of
    · refine x_iload_n dX3_inState_12 rfl ?_
      refine x_aload_n dX3_inState_13 rfl ?_
      refine k_people 0 rfl hL dX3_inState_14 q347 ?_
      refine x_iload_n dX3_inState_17 rfl ?_
      refine k_pald hL dX3_inState_18 (by omega) ?_
      refine k_pget 3 hL dX3_inState_19 (by decide) q277 (by omega) ?_
      refine x_iload_n dX3_inState_22 rfl ?_
      refine x_icmp_ne (tgt := 30) dX3_inState_23 (by decide) (fun hc23 => ?_) (fun hc23 => ?_)
      · refine x_ic0 dX3_inState_30 ?_
        refine x_iaddN dX3_inState_31 ?_
        refine x_istore_n dX3_inState_32 (by decide) rfl ?_
        refine x_iincN (n := 1) dX3_inState_33 (by decide) rfl (by decide) rfl ?_
        refine x_goto (tgt := 4) dX3_inState_36 (by decide) ?_
        rw [← cnt_f (f := stp w s) (stp_f hc23)]
        exact ih (i + 1) (by omega) (by omega)
      · refine x_ic1 dX3_inState_26 ?_
        refine x_goto (tgt := 31) dX3_inState_27 (by decide) ?_
        refine x_iaddN dX3_inState_31 ?_
        refine x_istore_n dX3_inState_32 (by decide) rfl ?_
        refine x_iincN (n := 1) dX3_inState_33 (by decide) rfl (by decide) rfl ?_
        refine x_goto (tgt := 4) dX3_inState_36 (by decide) ?_
        rw [← cnt_t (f := stp w s) (stp_t hc23)]
        exact ih (i + 1) (by omega) (by omega)
set_option maxHeartbeats 1000000 in
theorem d_inState (hL : LT g M β) {n : Nat} (hn : n ≤ 60) (hw : w 2 = nI n) {s : Nat} {x : Int32} (hx : x = nI s) : fc_CX g l yX3_inState cX3_inState 4 (some .int) 1 [.ref (fc_B g + β), .int x] (cR M S U β w) (fc_re (nI (cnt (stp w s) n)) (cR M S U β w)) := by
  refine fc_enter (by decide) (Nat.le_of_ble_eq_true rfl) rfl ?_
  subst hx
  refine x_ic0 dX3_inState_0 ?_
  refine x_istore_n dX3_inState_1 (by decide) rfl ?_
  refine x_ic0 dX3_inState_2 ?_
  refine x_istore_n dX3_inState_3 (by decide) rfl ?_
  exact m_inState hL hn hw (n + 1) 0 (by omega) (by omega)
end T90
