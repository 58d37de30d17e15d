set_option maxRecDepth 100000
section T64
variable {g : fc_G} {l : Launch} {M : fc_M} {T : tT} {w : Nat → Int32}
def zoL (w : Nat → Int32) (b : Nat) : Nat → Nat → Int32 → Int32
  | 0, _, v => v
  | k + 1, i, v => if i ≤ b then zoL w b k (i + 1) (v + w (740 + i)) else v
def zoQ (w : Nat → Int32) (a b : Nat) : Int32 := zoL w b (b + 2 - a) a (nI 0) * (nI (2 * b) * w (10 + 20 * 0 + 7) + nI (b - a + 1) * w (10 + 20 * 0 + 8))
set_option maxHeartbeats 1000000 in
theorem l_zone {n0 s0 : Nat} (hM : tw0 + 17 ≤ fc_nx M) {a b : Nat} (hb : b < 80) (hab : a ≤ b) : ∀ (k i : Nat) (v : Int32), i ≤ b + 1 → b + 1 < i + k → fc_X g l yX6_zone cX6_zone 5 (some .int) 2 n0 s0 (tv g M T w) 5 [some (.ref (fc_B g + tw0)), some (.int (nI a)), some (.int (nI b)), some (.int (v)), some (.int (nI i))] [] (tv_ie g M (zoL w b k i v * (nI (2 * b) * w (10 + 20 * 0 + 7) + nI (b - a + 1) * w (10 + 20 * 0 + 8))) T w) := by
  intro k
  induction k with
  | zero => intro i v h1 h2; omega
  | succ k ih =>
    intro i v h1 h2
    refine x_iload dX6_zone_5 rfl ?_
    refine x_iload_n dX6_zone_7 rfl ?_
    refine x_icmpN_gt (tgt := 26) dX6_zone_8 (by decide) (by omega) (by omega) (fun hc8 => ?_) (fun hc8 => ?_)
    · refine x_iload_n dX6_zone_26 rfl ?_
      refine x_ic2 dX6_zone_27 ?_
      refine x_iload_n dX6_zone_28 rfl ?_
      refine x_imulN dX6_zone_29 ?_
      refine x_aload_n dX6_zone_30 rfl ?_
      refine x_ic0 dX6_zone_31 ?_
      refine x_bipush (v := nI 7) dX6_zone_32 (by decide) ?_
      refine v_V2ie hM dX6_zone_34 kG_X6_X6_ofCar kP_X6_ofCar rfl (by omega) (by decide) (Nat.le_of_ble_eq_true rfl) (c_ofCar hM rfl rfl (by omega)) ?_
      refine x_imul dX6_zone_37 ?_
      refine x_iload_n dX6_zone_38 rfl ?_
      refine x_iload_n dX6_zone_39 rfl ?_
      refine x_isubN dX6_zone_40 (by omega) ?_
      refine x_ic1 dX6_zone_41 ?_
      refine x_iaddN dX6_zone_42 ?_
      refine x_aload_n dX6_zone_43 rfl ?_
      refine x_ic0 dX6_zone_44 ?_
      refine x_bipush (v := nI 8) dX6_zone_45 (by decide) ?_
      refine v_V2ie hM dX6_zone_47 kG_X6_X6_ofCar kP_X6_ofCar rfl (by omega) (by decide) (Nat.le_of_ble_eq_true rfl) (c_ofCar hM rfl rfl (by omega)) ?_
      refine x_imul dX6_zone_50 ?_
      refine x_iadd dX6_zone_51 ?_
      refine x_imul dX6_zone_52 ?_
      rw [zoL, if_neg (Nat.not_le.mpr hc8)]
      exact x_iret dX6_zone_53 rfl rfl tv_i1
    · refine x_iload_n dX6_zone_11 rfl ?_
      refine x_aload_n dX6_zone_12 rfl ?_
      refine x_iload dX6_zone_13 rfl ?_
      refine v_V1ie hM dX6_zone_15 kG_X6_X6_weight kP_X6_weight rfl (by omega) (by decide) (Nat.le_of_ble_eq_true rfl) (c_weight hM rfl (by omega)) ?_
      refine x_iadd dX6_zone_18 ?_
      refine x_istore_n dX6_zone_19 (by decide) rfl ?_
      refine x_iincN (n := 1) dX6_zone_20 (by decide) rfl (by decide) rfl ?_
      refine x_goto (tgt := 5) dX6_zone_23 (by decide) ?_
      rw [zoL, if_pos hc8]
      exact ih (i + 1) _ (by omega) (by omega)
set_option maxHeartbeats 1000000 in
theorem c_zone (hM : tw0 + 17 ≤ fc_nx M) {a b : Nat} (hb : b < 80) (hab : a ≤ b) {x y : Int32} (hx : x = nI a) (hy : y = nI b) : fc_CX g l yX6_zone cX6_zone 5 (some .int) 2 [.ref (fc_B g + tw0), .int x, .int y] (tv g M T w) (tv_ie g M (zoQ w a b) T w) := by
  refine fc_enter (by decide) (Nat.le_of_ble_eq_true rfl) rfl ?_
  subst hx
  subst hy
  refine x_ic0 dX6_zone_0 ?_
  refine x_istore_n dX6_zone_1 (by decide) rfl ?_
  refine x_iload_n dX6_zone_2 rfl ?_
  refine x_istore dX6_zone_3 (by decide) rfl ?_
  exact l_zone hM hb hab (b + 2 - a) a (nI 0) (by omega) (by omega)
abbrev zS : Type := Int32 × (Nat → Int32) × (Nat → Int32)
def tz (T : tT) (s : zS) : tT := fun a k => if a = 0 ∧ k = 38 then s.1 else if a = 15 then s.2.1 k else if a = 16 then s.2.2 k else T a k
theorem tz_l {T : tT} {s : zS} {v : Int32} : tu (tz T s) 0 38 v = tz T (v, s.2) := by
  funext a k
  by_cases h : a = 0 ∧ k = 38
  · simp [tu, tz, h]
  · simp [tu, tz, h]
theorem tz_c {T : tT} {s : zS} {i : Nat} {v : Int32} : tu (tz T s) 15 i v = tz T (s.1, up s.2.1 i v, s.2.2) := by
  funext a k
  by_cases h : a = 15
  · subst h
    simp [tu, tz, up]
  · simp [tu, tz, h]
theorem tz_b {T : tT} {s : zS} {i : Nat} {v : Int32} : tu (tz T s) 16 i v = tz T (s.1, s.2.1, up s.2.2 i v) := by
  funext a k
  by_cases h : a = 16
  · subst h
    simp [tu, tz, up]
  · simp [tu, tz, h]
theorem tz_self {T : tT} : tz T (T 0 38, T 15, T 16) = T := by
  funext a k
  by_cases h : a = 0 ∧ k = 38
  · obtain ⟨rfl, rfl⟩ := h
    simp [tz]
  · by_cases h2 : a = 15
    · subst h2
      simp [tz]
    · by_cases h3 : a = 16
      · subst h3
        simp [tz]
      · simp [tz, h, h2, h3]
def tcL (R : Nat → zS → zS) (F : Nat) : Nat → Nat → zS → zS
  | 0, _, s => s
  | k + 1, c, s => if c < F then tcL R F k (c + 1) (R c s) else s
def tcR (w : Nat → Int32) (F kk : Nat) : Nat → Nat → Nat → Int32 → zS → zS
  | 0, _, fr, sum, s => if s.1 = -1 ∨ sum < s.1 then (if s.1 = -1 ∨ sum + zoQ w fr (F - 1) < s.1 then (sum + zoQ w fr (F - 1), s.2.1, mixW kk s.2.1 s.2.2) else s) else s
  | j + 1, i, fr, sum, s => if s.1 = -1 ∨ sum < s.1 then tcL (fun c s => tcR w F kk j (i + 1) c (sum + zoQ w fr (c - 1)) (s.1, up s.2.1 i (nI c), s.2.2)) F (F - fr) (fr + 1) s else s
set_option maxHeartbeats 1000000 in
theorem l_tcCopy {n0 s0 : Nat} (hM : tw0 + 17 ≤ fc_nx M) {kk d : Nat} (hk : kk ≤ 3) {L : Int32} {Cu Bc : Nat → Int32} {v1 v3 v4 : Option Value} {x5 : Int32} : ∀ (k i : Nat), i ≤ kk → kk < i + k → fc_X g l yX6_triesCuts cX6_triesCuts 7 (none) d n0 s0 (tv g M (tz T (L, Cu, mixW i Cu Bc)) w) 68 [some (.ref (fc_B g + tw0)), v1, some (.int (nI kk)), v3, v4, some (.int (x5)), some (.int (nI i))] [] (tv_ve g M (tz T (L, Cu, mixW kk Cu Bc)) w) := by
  intro k
  induction k with
  | zero => intro i h1 h2; omega
  | succ k ih =>
    intro i h1 h2
    refine x_iload dX6_triesCuts_68 rfl ?_
    refine x_iload_n dX6_triesCuts_70 rfl ?_
    refine x_icmpN_ge (tgt := 94) dX6_triesCuts_71 (by decide) (by omega) (by omega) (fun hc71 => ?_) (fun hc71 => ?_)
    · obtain rfl : i = kk := by omega
      exact x_vret dX6_triesCuts_94 rfl tv_v1
    · refine x_aload_n dX6_triesCuts_74 rfl ?_
      refine v_geta 37 hM dX6_triesCuts_75 (by decide) rfl q1167 ?_
      refine x_iload dX6_triesCuts_78 rfl ?_
      refine x_aload_n dX6_triesCuts_80 rfl ?_
      refine v_geta 36 hM dX6_triesCuts_81 (by decide) rfl q1166 ?_
      refine x_iload dX6_triesCuts_84 rfl ?_
      refine v_iald 15 hM dX6_triesCuts_86 (by decide) (by decide) rfl rfl (by show _ < 4; omega) ?_
      refine v_iast 16 hM dX6_triesCuts_87 (by decide) (by decide) rfl rfl (by show _ < 4; omega) ?_
      refine x_eqM (congrArg (fun z => tv g M z w) (tz_b.trans (congrArg (fun z => tz T (L, Cu, z)) mixW_s))) ?_
      refine x_iincN (n := 1) dX6_triesCuts_88 (by decide) rfl (by decide) rfl ?_
      refine x_goto (tgt := 68) dX6_triesCuts_91 (by decide) ?_
      exact ih (i + 1) (by omega) (by omega)
theorem kG_X6_X6_zone : GoodIn lw_all (wsV RX6 398 RX6 yX6_zone (ws_ yX6_zone cX6_zone 5 (some .int))) := lw_V q1620 q1622 qs115 q124 q1623
theorem kP_X6_zone : kPar yX6_zone 2 := by decide +kernel
set_option maxHeartbeats 1000000 in
theorem c_tc0 (hM : tw0 + 17 ≤ fc_nx M) {F kk fr : Nat} (hF : F ≤ 80) (hk : kk ≤ 3) (h0 : w 0 = nI F) (hfr : fr < F) {sum : Int32} {s : zS} {i : Nat} : fc_CX g l yX6_triesCuts cX6_triesCuts 7 (none) 3 [.ref (fc_B g + tw0), .int (nI kk), .int (nI kk), .int (nI fr), .int sum] (tv g M (tz T s) w) (tv_ve g M (tz T (tcR w F kk 0 i fr sum s)) w) := by
  refine fc_enter (by decide) (Nat.le_of_ble_eq_true rfl) rfl ?_
  refine x_aload_n dX6_triesCuts_0 rfl ?_
  refine v_geti 38 hM dX6_triesCuts_1 (by decide) rfl q1168 ?_
  refine x_top (show tz T s 0 38 = s.1 from rfl) ?_
  refine x_icm1 dX6_triesCuts_4 ?_
  refine x_icmp_eq (tgt := 18) dX6_triesCuts_5 (by decide) (fun hc5 => ?_) (fun hc5 => ?_)
  · refine x_iload_n dX6_triesCuts_18 rfl ?_
    refine x_iload_n dX6_triesCuts_19 rfl ?_
    refine x_icmpN_ne (tgt := 95) dX6_triesCuts_20 (by decide) (by omega) (by omega) (fun hc20 => ?_) (fun hc20 => ?_)
    · exact absurd rfl hc20
    · refine x_iload dX6_triesCuts_23 rfl ?_
      refine x_aload_n dX6_triesCuts_25 rfl ?_
      refine x_iload_n dX6_triesCuts_26 rfl ?_
      refine x_aload_n dX6_triesCuts_27 rfl ?_
      refine v_geta 0 hM dX6_triesCuts_28 (by decide) rfl q1130 ?_
      refine x_ic0 dX6_triesCuts_31 ?_
      refine v_wld hM dX6_triesCuts_32 rfl (by omega) ?_
      refine x_top h0 ?_
      refine x_ic1 dX6_triesCuts_33 ?_
      refine x_isubN dX6_triesCuts_34 (by omega) ?_
      refine v_V2ie hM dX6_triesCuts_35 kG_X6_X6_zone kP_X6_zone rfl (by omega) (by decide) (Nat.le_of_ble_eq_true rfl) (c_zone hM (by omega) (by omega) rfl rfl) ?_
      refine x_iadd dX6_triesCuts_38 ?_
      refine x_istore dX6_triesCuts_39 (by decide) rfl ?_
      refine x_aload_n dX6_triesCuts_41 rfl ?_
      refine v_geti 38 hM dX6_triesCuts_42 (by decide) rfl q1168 ?_
      refine x_top (show tz T s 0 38 = s.1 from rfl) ?_
      refine x_icm1 dX6_triesCuts_45 ?_
      refine x_icmp_eq (tgt := 59) dX6_triesCuts_46 (by decide) (fun hc46 => ?_) (fun hc46 => ?_)
      · refine x_aload_n dX6_triesCuts_59 rfl ?_
        refine x_iload dX6_triesCuts_60 rfl ?_
        refine v_puti 38 hM dX6_triesCuts_62 (by decide) rfl q1168 rfl rfl rfl ?_
        refine x_eqM (congrArg (fun z => tv g M z w) tz_l) ?_
        refine x_ic0 dX6_triesCuts_65 ?_
        refine x_istore dX6_triesCuts_66 (by decide) rfl ?_
        rw [tcR, if_pos (Or.inl hc5), if_pos (Or.inl hc46)]
        refine x_eqM (show tv g M (tz T (sum + zoQ w fr (F - 1), s.2)) w = tv g M (tz T (sum + zoQ w fr (F - 1), s.2.1, mixW 0 s.2.1 s.2.2)) w by rw [mixW_0]) ?_
        exact l_tcCopy hM hk (kk + 1) 0 (by omega) (by omega)
      · refine x_iload dX6_triesCuts_49 rfl ?_
        refine x_aload_n dX6_triesCuts_51 rfl ?_
        refine v_geti 38 hM dX6_triesCuts_52 (by decide) rfl q1168 ?_
        refine x_top (show tz T s 0 38 = s.1 from rfl) ?_
        refine x_icmp_lt (tgt := 59) dX6_triesCuts_55 (by decide) (fun hc55 => ?_) (fun hc55 => ?_)
        · refine x_aload_n dX6_triesCuts_59 rfl ?_
          refine x_iload dX6_triesCuts_60 rfl ?_
          refine v_puti 38 hM dX6_triesCuts_62 (by decide) rfl q1168 rfl rfl rfl ?_
          refine x_eqM (congrArg (fun z => tv g M z w) tz_l) ?_
          refine x_ic0 dX6_triesCuts_65 ?_
          refine x_istore dX6_triesCuts_66 (by decide) rfl ?_
          rw [tcR, if_pos (Or.inl hc5), if_pos (Or.inr hc55)]
          refine x_eqM (show tv g M (tz T (sum + zoQ w fr (F - 1), s.2)) w = tv g M (tz T (sum + zoQ w fr (F - 1), s.2.1, mixW 0 s.2.1 s.2.2)) w by rw [mixW_0]) ?_
          exact l_tcCopy hM hk (kk + 1) 0 (by omega) (by omega)
        · rw [tcR, if_pos (Or.inl hc5), if_neg (fun z => z.elim hc46 hc55)]
          exact x_vret dX6_triesCuts_58 rfl tv_v1
  · refine x_iload dX6_triesCuts_8 rfl ?_
    refine x_aload_n dX6_triesCuts_10 rfl ?_
    refine v_geti 38 hM dX6_triesCuts_11 (by decide) rfl q1168 ?_
    refine x_top (show tz T s 0 38 = s.1 from rfl) ?_
    refine x_icmp_lt (tgt := 18) dX6_triesCuts_14 (by decide) (fun hc14 => ?_) (fun hc14 => ?_)
    · refine x_iload_n dX6_triesCuts_18 rfl ?_
      refine x_iload_n dX6_triesCuts_19 rfl ?_
      refine x_icmpN_ne (tgt := 95) dX6_triesCuts_20 (by decide) (by omega) (by omega) (fun hc20 => ?_) (fun hc20 => ?_)
      · exact absurd rfl hc20
      · refine x_iload dX6_triesCuts_23 rfl ?_
        refine x_aload_n dX6_triesCuts_25 rfl ?_
        refine x_iload_n dX6_triesCuts_26 rfl ?_
        refine x_aload_n dX6_triesCuts_27 rfl ?_
        refine v_geta 0 hM dX6_triesCuts_28 (by decide) rfl q1130 ?_
        refine x_ic0 dX6_triesCuts_31 ?_
        refine v_wld hM dX6_triesCuts_32 rfl (by omega) ?_
        refine x_top h0 ?_
        refine x_ic1 dX6_triesCuts_33 ?_
        refine x_isubN dX6_triesCuts_34 (by omega) ?_
        refine v_V2ie hM dX6_triesCuts_35 kG_X6_X6_zone kP_X6_zone rfl (by omega) (by decide) (Nat.le_of_ble_eq_true rfl) (c_zone hM (by omega) (by omega) rfl rfl) ?_
        refine x_iadd dX6_triesCuts_38 ?_
        refine x_istore dX6_triesCuts_39 (by decide) rfl ?_
        refine x_aload_n dX6_triesCuts_41 rfl ?_
        refine v_geti 38 hM dX6_triesCuts_42 (by decide) rfl q1168 ?_
        refine x_top (show tz T s 0 38 = s.1 from rfl) ?_
        refine x_icm1 dX6_triesCuts_45 ?_
        refine x_icmp_eq (tgt := 59) dX6_triesCuts_46 (by decide) (fun hc46 => ?_) (fun hc46 => ?_)
        · refine x_aload_n dX6_triesCuts_59 rfl ?_
          refine x_iload dX6_triesCuts_60 rfl ?_
          refine v_puti 38 hM dX6_triesCuts_62 (by decide) rfl q1168 rfl rfl rfl ?_
          refine x_eqM (congrArg (fun z => tv g M z w) tz_l) ?_
          refine x_ic0 dX6_triesCuts_65 ?_
          refine x_istore dX6_triesCuts_66 (by decide) rfl ?_
          rw [tcR, if_pos (Or.inr hc14), if_pos (Or.inl hc46)]
          refine x_eqM (show tv g M (tz T (sum + zoQ w fr (F - 1), s.2)) w = tv g M (tz T (sum + zoQ w fr (F - 1), s.2.1, mixW 0 s.2.1 s.2.2)) w by rw [mixW_0]) ?_
          exact l_tcCopy hM hk (kk + 1) 0 (by omega) (by omega)
        · refine x_iload dX6_triesCuts_49 rfl ?_
          refine x_aload_n dX6_triesCuts_51 rfl ?_
          refine v_geti 38 hM dX6_triesCuts_52 (by decide) rfl q1168 ?_
          refine x_top (show tz T s 0 38 = s.1 from rfl) ?_
          refine x_icmp_lt (tgt := 59) dX6_triesCuts_55 (by decide) (fun hc55 => ?_) (fun hc55 => ?_)
          · refine x_aload_n dX6_triesCuts_59 rfl ?_
            refine x_iload dX6_triesCuts_60 rfl ?_
            refine v_puti 38 hM dX6_triesCuts_62 (by decide) rfl q1168 rfl rfl rfl ?_
            refine x_eqM (congrArg (fun z => tv g M z w) tz_l) ?_
            refine x_ic0 dX6_triesCuts_65 ?_
            refine x_istore dX6_triesCuts_66 (by decide) rfl ?_
            rw [tcR, if_pos (Or.inr hc14), if_pos (Or.inr hc55)]
            refine x_eqM (show tv g M (tz T (sum + zoQ w fr (F - 1), s.2)) w = tv g M (tz T (sum + zoQ w fr (F - 1), s.2.1, mixW 0 s.2.1 s.2.2)) w by rw [mixW_0]) ?_
            exact l_tcCopy hM hk (kk + 1) 0 (by omega) (by omega)
          · rw [tcR, if_pos (Or.inr hc14), if_neg (fun z => z.elim hc46 hc55)]
            exact x_vret dX6_triesCuts_58 rfl tv_v1
    · rw [tcR, if_neg (fun z => z.elim hc5 hc14)]
      exact x_vret dX6_triesCuts_17 rfl tv_v1
theorem kG_X6_X6_triesCuts : GoodIn lw_all (wsV RX6 401 RX6 yX6_triesCuts (ws_ yX6_triesCuts cX6_triesCuts 7 (none))) := lw_V q1616 q1618 qs114 q124 q1619
theorem kP_X6_triesCuts : kPar yX6_triesCuts 4 := by decide +kernel
set_option maxHeartbeats 1000000 in
theorem l_tc100 {n0 s0 : Nat} (hM : tw0 + 17 ≤ fc_nx M) {F kk fr i j : Nat} (hF : F ≤ 80) (hk : kk ≤ 3) (h0 : w 0 = nI F) (hfr : fr < F) (hik : i < kk) (hi : ∀ c sum s, fr < c → c < F → fc_CX g l yX6_triesCuts cX6_triesCuts 7 none (j + 3) [.ref (fc_B g + tw0), .int (nI (i + 1)), .int (nI kk), .int (nI c), .int sum] (tv g M (tz T s) w) (tv_ve g M (tz T (tcR w F kk j (i + 1) c sum s)) w)) {sum : Int32} : ∀ (k c : Nat) (s : zS), fr < c → c ≤ F → F < c + k → fc_X g l yX6_triesCuts cX6_triesCuts 7 (none) (j + 4) n0 s0 (tv g M (tz T s) w) 100 [some (.ref (fc_B g + tw0)), some (.int (nI i)), some (.int (nI kk)), some (.int (nI fr)), some (.int sum), some (.int (nI c)), none] [] (tv_ve g M (tz T (tcL (fun c s => tcR w F kk j (i + 1) c (sum + zoQ w fr (c - 1)) (s.1, up s.2.1 i (nI c), s.2.2)) F k c s)) w) := by
  intro k
  induction k with
  | zero => intro c s h3 h1 h2; omega
  | succ k ih =>
    intro c s h3 h1 h2
    refine x_iload dX6_triesCuts_100 rfl ?_
    refine x_aload_n dX6_triesCuts_102 rfl ?_
    refine v_geta 0 hM dX6_triesCuts_103 (by decide) rfl q1130 ?_
    refine x_ic0 dX6_triesCuts_106 ?_
    refine v_wld hM dX6_triesCuts_107 rfl (by omega) ?_
    refine x_top h0 ?_
    refine x_icmpN_ge (tgt := 147) dX6_triesCuts_108 (by decide) (by omega) (by omega) (fun hc108 => ?_) (fun hc108 => ?_)
    · rw [tcL, if_neg (Nat.not_lt.mpr hc108)]
      exact x_vret dX6_triesCuts_147 rfl tv_v1
    · refine x_aload_n dX6_triesCuts_111 rfl ?_
      refine v_geta 36 hM dX6_triesCuts_112 (by decide) rfl q1166 ?_
      refine x_iload_n dX6_triesCuts_115 rfl ?_
      refine x_iload dX6_triesCuts_116 rfl ?_
      refine v_iast 15 hM dX6_triesCuts_118 (by decide) (by decide) rfl rfl (by show _ < 4; omega) ?_
      refine x_eqM (congrArg (fun z => tv g M z w) tz_c) ?_
      refine x_aload_n dX6_triesCuts_119 rfl ?_
      refine x_iload_n dX6_triesCuts_120 rfl ?_
      refine x_ic1 dX6_triesCuts_121 ?_
      refine x_iaddN dX6_triesCuts_122 ?_
      refine x_iload_n dX6_triesCuts_123 rfl ?_
      refine x_iload dX6_triesCuts_124 rfl ?_
      refine x_iload dX6_triesCuts_126 rfl ?_
      refine x_aload_n dX6_triesCuts_128 rfl ?_
      refine x_iload_n dX6_triesCuts_129 rfl ?_
      refine x_iload dX6_triesCuts_130 rfl ?_
      refine x_ic1 dX6_triesCuts_132 ?_
      refine x_isubN dX6_triesCuts_133 (by omega) ?_
      refine v_V2ie hM dX6_triesCuts_134 kG_X6_X6_zone kP_X6_zone rfl (by omega) (by decide) (Nat.le_of_ble_eq_true rfl) (c_zone hM (by omega) (by omega) rfl rfl) ?_
      refine x_iadd dX6_triesCuts_137 ?_
      refine v_V4ve hM dX6_triesCuts_138 kG_X6_X6_triesCuts kP_X6_triesCuts rfl (by omega) (by decide) (Nat.le_of_ble_eq_true rfl) (hi c _ _ (by omega) (by omega)) ?_
      refine x_iincN (n := 1) dX6_triesCuts_141 (by decide) rfl (by decide) rfl ?_
      refine x_goto (tgt := 100) dX6_triesCuts_144 (by decide) ?_
      rw [tcL, if_pos hc108]
      exact ih (c + 1) _ (by omega) (by omega) (by omega)
set_option maxHeartbeats 1000000 in
theorem c_tcS (hM : tw0 + 17 ≤ fc_nx M) {F kk fr : Nat} (hF : F ≤ 80) (hk : kk ≤ 3) (h0 : w 0 = nI F) (hfr : fr < F) {sum : Int32} {s : zS} {i j : Nat} (hik : i < kk) (hi : ∀ c sum s, fr < c → c < F → fc_CX g l yX6_triesCuts cX6_triesCuts 7 none (j + 3) [.ref (fc_B g + tw0), .int (nI (i + 1)), .int (nI kk), .int (nI c), .int sum] (tv g M (tz T s) w) (tv_ve g M (tz T (tcR w F kk j (i + 1) c sum s)) w)) : fc_CX g l yX6_triesCuts cX6_triesCuts 7 (none) (j + 4) [.ref (fc_B g + tw0), .int (nI i), .int (nI kk), .int (nI fr), .int sum] (tv g M (tz T s) w) (tv_ve g M (tz T (tcR w F kk (j + 1) i fr sum s)) w) := by
  refine fc_enter (by decide) (Nat.le_of_ble_eq_true rfl) rfl ?_
  refine x_aload_n dX6_triesCuts_0 rfl ?_
  refine v_geti 38 hM dX6_triesCuts_1 (by decide) rfl q1168 ?_
  refine x_top (show tz T s 0 38 = s.1 from rfl) ?_
  refine x_icm1 dX6_triesCuts_4 ?_
  refine x_icmp_eq (tgt := 18) dX6_triesCuts_5 (by decide) (fun hc5 => ?_) (fun hc5 => ?_)
  · refine x_iload_n dX6_triesCuts_18 rfl ?_
    refine x_iload_n dX6_triesCuts_19 rfl ?_
    refine x_icmpN_ne (tgt := 95) dX6_triesCuts_20 (by decide) (by omega) (by omega) (fun hc20 => ?_) (fun hc20 => ?_)
    · refine x_iload_n dX6_triesCuts_95 rfl ?_
      refine x_ic1 dX6_triesCuts_96 ?_
      refine x_iaddN dX6_triesCuts_97 ?_
      refine x_istore dX6_triesCuts_98 (by decide) rfl ?_
      rw [tcR, if_pos (Or.inl hc5)]
      exact l_tc100 hM hF hk h0 hfr hik hi (F - fr) (fr + 1) s (by omega) (by omega) (by omega)
    · omega
  · refine x_iload dX6_triesCuts_8 rfl ?_
    refine x_aload_n dX6_triesCuts_10 rfl ?_
    refine v_geti 38 hM dX6_triesCuts_11 (by decide) rfl q1168 ?_
    refine x_top (show tz T s 0 38 = s.1 from rfl) ?_
    refine x_icmp_lt (tgt := 18) dX6_triesCuts_14 (by decide) (fun hc14 => ?_) (fun hc14 => ?_)
    · refine x_iload_n dX6_triesCuts_18 rfl ?_
      refine x_iload_n dX6_triesCuts_19 rfl ?_
      refine x_icmpN_ne (tgt := 95) dX6_triesCuts_20 (by decide) (by omega) (by omega) (fun hc20 => ?_) (fun hc20 => ?_)
      · refine x_iload_n dX6_triesCuts_95 rfl ?_
        refine x_ic1 dX6_triesCuts_96 ?_
        refine x_iaddN dX6_triesCuts_97 ?_
        refine x_istore dX6_triesCuts_98 (by decide) rfl ?_
        rw [tcR, if_pos (Or.inr hc14)]
        exact l_tc100 hM hF hk h0 hfr hik hi (F - fr) (fr + 1) s (by omega) (by omega) (by omega)
      · omega
    · rw [tcR, if_neg (fun z => z.elim hc5 hc14)]
      exact x_vret dX6_triesCuts_17 rfl tv_v1
theorem c_triesCuts (hM : tw0 + 17 ≤ fc_nx M) {F kk : Nat} (hF : F ≤ 80) (hk : kk ≤ 3) (h0 : w 0 = nI F) : ∀ (j i fr : Nat) (sum : Int32) (s : zS), i + j = kk → fr < F → fc_CX g l yX6_triesCuts cX6_triesCuts 7 none (j + 3) [.ref (fc_B g + tw0), .int (nI i), .int (nI kk), .int (nI fr), .int sum] (tv g M (tz T s) w) (tv_ve g M (tz T (tcR w F kk j i fr sum s)) w)
  | 0, i, fr, sum, s, h, hfr => by
    obtain rfl : i = kk := by omega
    exact c_tc0 hM hF hk h0 hfr
  | j + 1, i, fr, sum, s, h, hfr => c_tcS hM hF hk h0 hfr (by omega) (fun c sum s _ h2 => c_triesCuts hM hF hk h0 j (i + 1) c sum s (by omega) h2)
end T64
