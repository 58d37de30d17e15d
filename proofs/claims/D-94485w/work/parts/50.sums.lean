set_option maxRecDepth 100000
section T50
variable {g : fc_G} {l : Launch} {M : fc_M} {T : tT} {w : Nat → Int32}
def smL (w : Nat → Int32) (kk : Int32) (n : Nat) : Nat → Nat → Int32 → Int32 → Int32 × Int32
  | 0, _, s, m => (s, m)
  | k + 1, i, s, m => if i < n then (if prQ w (nI i) kk = -1 then smL w kk n k (i + 1) s m else smL w kk n k (i + 1) (s + prQ w (nI i) kk) (if m < prQ w (nI i) kk then prQ w (nI i) kk else m)) else (s, m)
def smQ (w : Nat → Int32) (n : Nat) (x : Int32) : Int32 := if nI 0 ≤ x ∧ x ≤ nI 3 then (if x.toNatClampNeg = 3 then nI (cnt (stp w 3) n) else if x.toNatClampNeg = 2 then (smL w (nI 5) n (n + 1) 0 (nI 0) (nI 0)).2 else (smL w (if x.toNatClampNeg = 1 then nI 6 else nI 5) n (n + 1) 0 (nI 0) (nI 0)).1) else -1
theorem kG_X6_X6_person : GoodIn lw_all (wsV RX6 341 RX6 yX6_person (ws_ yX6_person cX6_person 3 (some .int))) := lw_V q1532 q1525 q1526 q124 q1527
theorem kP_X6_person : kPar yX6_person 2 := by decide +kernel
set_option maxHeartbeats 1000000 in
theorem l_sums {n0 s0 : Nat} (hM : tw0 + 17 ≤ fc_nx M) {n f nC : Nat} (hG : GI w n f nC) {q : Nat} (hq : q < 4) : ∀ (k i : Nat) (s m : Int32) (v5 : Option Value), i ≤ n → n < i + k → fc_X g l yX6_sums cX6_sums 6 (some .int) 4 n0 s0 (tv g M T w) 28 [some (.ref (fc_B g + tw0)), some (.int (nI q)), some (.int s), some (.int m), some (.int (nI i)), v5] [] (tv_ie g M (if q = 2 then (smL w (if q = 1 then nI 6 else nI 5) n k i s m).2 else (smL w (if q = 1 then nI 6 else nI 5) n k i s m).1) T w) := by
  intro k
  induction k with
  | zero => intro i s m v5 h1 h2; omega
  | succ k ih =>
    intro i s m v5 h1 h2
    have hN := hG.1.1
    refine x_iload dX6_sums_28 rfl ?_
    refine x_aload_n dX6_sums_30 rfl ?_
    refine v_geta 0 hM dX6_sums_31 (by decide) rfl q1130 ?_
    refine x_ic2 dX6_sums_34 ?_
    refine v_wld hM dX6_sums_35 rfl (by omega) ?_
    refine x_top hG.2.2.2.1 ?_
    refine x_icmpN_ge (tgt := 91) dX6_sums_36 (by decide) (by omega) (by omega) (fun hc36 => ?_) (fun hc36 => ?_)
    · refine x_iload_n dX6_sums_91 rfl ?_
      refine x_ic2 dX6_sums_92 ?_
      refine x_icmpN_ne (tgt := 100) dX6_sums_93 (by decide) (by omega) (by omega) (fun hc93 => ?_) (fun hc93 => ?_)
      · refine x_iload_n dX6_sums_100 rfl ?_
        have e : smL w (if q = 1 then nI 6 else nI 5) n (k + 1) i s m = (s, m) := by rw [smL, if_neg (Nat.not_lt.mpr hc36)]
        rw [e]
        refine x_iret dX6_sums_101 rfl rfl (tv_i2 ?_ rfl rfl)
        rw [if_neg hc93]
      · refine x_iload_n dX6_sums_96 rfl ?_
        refine x_goto (tgt := 101) dX6_sums_97 (by decide) ?_
        have e : smL w (if q = 1 then nI 6 else nI 5) n (k + 1) i s m = (s, m) := by rw [smL, if_neg (Nat.not_lt.mpr hc36)]
        rw [e]
        refine x_iret dX6_sums_101 rfl rfl (tv_i2 ?_ rfl rfl)
        rw [if_pos hc93]
    · refine x_aload_n dX6_sums_39 rfl ?_
      refine x_iload dX6_sums_40 rfl ?_
      refine x_iload_n dX6_sums_42 rfl ?_
      refine x_ic1 dX6_sums_43 ?_
      refine x_icmpN_ne (tgt := 52) dX6_sums_44 (by decide) (by omega) (by omega) (fun hc44 => ?_) (fun hc44 => ?_)
      · refine x_ic5 dX6_sums_52 ?_
        refine v_V2ie hM dX6_sums_53 kG_X6_X6_person kP_X6_person rfl (by omega) (by decide) (Nat.le_of_ble_eq_true rfl) (c_person hM hG) ?_
        refine x_istore dX6_sums_56 (by decide) rfl ?_
        refine x_iload dX6_sums_58 rfl ?_
        refine x_icm1 dX6_sums_60 ?_
        refine x_icmp_ne (tgt := 67) dX6_sums_61 (by decide) (fun hc61 => ?_) (fun hc61 => ?_)
        · refine x_iload_n dX6_sums_67 rfl ?_
          refine x_iload dX6_sums_68 rfl ?_
          refine x_iadd dX6_sums_70 ?_
          refine x_istore_n dX6_sums_71 (by decide) rfl ?_
          refine x_iload dX6_sums_72 rfl ?_
          refine x_iload_n dX6_sums_74 rfl ?_
          refine x_icmp_le (tgt := 83) dX6_sums_75 (by decide) (fun hc75 => ?_) (fun hc75 => ?_)
          · refine x_iload_n dX6_sums_83 rfl ?_
            refine x_istore_n dX6_sums_84 (by decide) rfl ?_
            refine x_iincN (n := 1) dX6_sums_85 (by decide) rfl (by decide) rfl ?_
            refine x_goto (tgt := 28) dX6_sums_88 (by decide) ?_
            have e : smL w (if q = 1 then nI 6 else nI 5) n (k + 1) i s m = smL w (if q = 1 then nI 6 else nI 5) n k (i + 1) (s + prQ w (nI i) (nI 5)) (if m < prQ w (nI i) (nI 5) then prQ w (nI i) (nI 5) else m) := by rw [smL, if_pos hc36, if_neg hc44, if_neg hc61]
            rw [e, if_neg (Int32.not_lt.mpr hc75)]
            exact ih (i + 1) _ _ _ (by omega) (by omega)
          · refine x_iload dX6_sums_78 rfl ?_
            refine x_goto (tgt := 84) dX6_sums_80 (by decide) ?_
            refine x_istore_n dX6_sums_84 (by decide) rfl ?_
            refine x_iincN (n := 1) dX6_sums_85 (by decide) rfl (by decide) rfl ?_
            refine x_goto (tgt := 28) dX6_sums_88 (by decide) ?_
            have e : smL w (if q = 1 then nI 6 else nI 5) n (k + 1) i s m = smL w (if q = 1 then nI 6 else nI 5) n k (i + 1) (s + prQ w (nI i) (nI 5)) (if m < prQ w (nI i) (nI 5) then prQ w (nI i) (nI 5) else m) := by rw [smL, if_pos hc36, if_neg hc44, if_neg hc61]
            rw [e, if_pos (Int32.not_le.mp hc75)]
            exact ih (i + 1) _ _ _ (by omega) (by omega)
        · refine x_goto (tgt := 85) dX6_sums_64 (by decide) ?_
          refine x_iincN (n := 1) dX6_sums_85 (by decide) rfl (by decide) rfl ?_
          refine x_goto (tgt := 28) dX6_sums_88 (by decide) ?_
          have e : smL w (if q = 1 then nI 6 else nI 5) n (k + 1) i s m = smL w (if q = 1 then nI 6 else nI 5) n k (i + 1) s m := by rw [smL, if_pos hc36, if_neg hc44, if_pos hc61]
          rw [e]
          exact ih (i + 1) s m _ (by omega) (by omega)
      · refine x_bipush (v := nI 6) dX6_sums_47 (by decide) ?_
        refine x_goto (tgt := 53) dX6_sums_49 (by decide) ?_
        refine v_V2ie hM dX6_sums_53 kG_X6_X6_person kP_X6_person rfl (by omega) (by decide) (Nat.le_of_ble_eq_true rfl) (c_person hM hG) ?_
        refine x_istore dX6_sums_56 (by decide) rfl ?_
        refine x_iload dX6_sums_58 rfl ?_
        refine x_icm1 dX6_sums_60 ?_
        refine x_icmp_ne (tgt := 67) dX6_sums_61 (by decide) (fun hc61 => ?_) (fun hc61 => ?_)
        · refine x_iload_n dX6_sums_67 rfl ?_
          refine x_iload dX6_sums_68 rfl ?_
          refine x_iadd dX6_sums_70 ?_
          refine x_istore_n dX6_sums_71 (by decide) rfl ?_
          refine x_iload dX6_sums_72 rfl ?_
          refine x_iload_n dX6_sums_74 rfl ?_
          refine x_icmp_le (tgt := 83) dX6_sums_75 (by decide) (fun hc75 => ?_) (fun hc75 => ?_)
          · refine x_iload_n dX6_sums_83 rfl ?_
            refine x_istore_n dX6_sums_84 (by decide) rfl ?_
            refine x_iincN (n := 1) dX6_sums_85 (by decide) rfl (by decide) rfl ?_
            refine x_goto (tgt := 28) dX6_sums_88 (by decide) ?_
            have e : smL w (if q = 1 then nI 6 else nI 5) n (k + 1) i s m = smL w (if q = 1 then nI 6 else nI 5) n k (i + 1) (s + prQ w (nI i) (nI 6)) (if m < prQ w (nI i) (nI 6) then prQ w (nI i) (nI 6) else m) := by rw [smL, if_pos hc36, if_pos hc44, if_neg hc61]
            rw [e, if_neg (Int32.not_lt.mpr hc75)]
            exact ih (i + 1) _ _ _ (by omega) (by omega)
          · refine x_iload dX6_sums_78 rfl ?_
            refine x_goto (tgt := 84) dX6_sums_80 (by decide) ?_
            refine x_istore_n dX6_sums_84 (by decide) rfl ?_
            refine x_iincN (n := 1) dX6_sums_85 (by decide) rfl (by decide) rfl ?_
            refine x_goto (tgt := 28) dX6_sums_88 (by decide) ?_
            have e : smL w (if q = 1 then nI 6 else nI 5) n (k + 1) i s m = smL w (if q = 1 then nI 6 else nI 5) n k (i + 1) (s + prQ w (nI i) (nI 6)) (if m < prQ w (nI i) (nI 6) then prQ w (nI i) (nI 6) else m) := by rw [smL, if_pos hc36, if_pos hc44, if_neg hc61]
            rw [e, if_pos (Int32.not_le.mp hc75)]
            exact ih (i + 1) _ _ _ (by omega) (by omega)
        · refine x_goto (tgt := 85) dX6_sums_64 (by decide) ?_
          refine x_iincN (n := 1) dX6_sums_85 (by decide) rfl (by decide) rfl ?_
          refine x_goto (tgt := 28) dX6_sums_88 (by decide) ?_
          have e : smL w (if q = 1 then nI 6 else nI 5) n (k + 1) i s m = smL w (if q = 1 then nI 6 else nI 5) n k (i + 1) s m := by rw [smL, if_pos hc36, if_pos hc44, if_pos hc61]
          rw [e]
          exact ih (i + 1) s m _ (by omega) (by omega)
set_option maxHeartbeats 1000000 in
theorem c_sums (hM : tw0 + 17 ≤ fc_nx M) {n f nC : Nat} (hG : GI w n f nC) {x : Int32} : fc_CX g l yX6_sums cX6_sums 6 (some .int) 4 [.ref (fc_B g + tw0), .int x] (tv g M T w) (tv_ie g M (smQ w n x) T w) := by
  refine fc_enter (by decide) (Nat.le_of_ble_eq_true rfl) rfl ?_
  have hN := hG.1.1
  refine x_iload_n dX6_sums_0 rfl ?_
  refine x_ic0 dX6_sums_1 ?_
  refine x_ic3 dX6_sums_2 ?_
  refine v_S3ie dX6_sums_3 kG_X6_X6_isIn kP_X6_isIn (by omega) (by decide) (Nat.le_of_ble_eq_true rfl) c_isIn ?_
  refine x_ifB_ne (tgt := 11) dX6_sums_6 (by decide) (fun hc6 => ?_) (fun hc6 => ?_)
  · obtain ⟨q, -, hq, rfl⟩ := nI_between (by decide) hc6 (by decide)
    have hck : (nI q).toNatClampNeg = q := nI_clamp (by omega)
    · refine x_iload_n dX6_sums_11 rfl ?_
      refine x_ic3 dX6_sums_12 ?_
      refine x_icmpN_ne (tgt := 21) dX6_sums_13 (by decide) (by omega) (by omega) (fun hc13 => ?_) (fun hc13 => ?_)
      · refine x_ic0 dX6_sums_21 ?_
        refine x_istore_n dX6_sums_22 (by decide) rfl ?_
        refine x_ic0 dX6_sums_23 ?_
        refine x_istore_n dX6_sums_24 (by decide) rfl ?_
        refine x_ic0 dX6_sums_25 ?_
        refine x_istore dX6_sums_26 (by decide) rfl ?_
        have e : smQ w n (nI q) = if q = 2 then (smL w (if q = 1 then nI 6 else nI 5) n (n + 1) 0 (nI 0) (nI 0)).2 else (smL w (if q = 1 then nI 6 else nI 5) n (n + 1) 0 (nI 0) (nI 0)).1 := by
          rw [smQ, if_pos hc6, hck, if_neg hc13]
          by_cases h2 : q = 2
          · subst h2; rfl
          · rw [if_neg h2, if_neg h2]
        rw [e]
        exact l_sums hM hG (by omega) (n + 1) 0 (nI 0) (nI 0) _ (by omega) (by omega)
      · refine x_aload_n dX6_sums_16 rfl ?_
        refine v_V0ie hM dX6_sums_17 kG_X6_X6_there kP_X6_there rfl (by omega) (by decide) (Nat.le_of_ble_eq_true rfl) (c_there hM hN hG.2.2.2.1) ?_
        refine x_iret dX6_sums_20 rfl rfl (tv_i2 ?_ rfl rfl)
        rw [smQ, if_pos hc6, hck, if_pos hc13]
  · refine x_icm1 dX6_sums_9 ?_
    refine x_iret dX6_sums_10 rfl rfl (tv_i2 ?_ rfl rfl)
    rw [smQ, if_neg hc6]
def t2 (T : tT) (b : Nat → Int32) : tT := fun a k => if a = 2 then b k else T a k
theorem t2_u {T : tT} {b : Nat → Int32} {i : Nat} {v : Int32} : tu (t2 T b) 2 i v = t2 T (up b i v) := by
  funext a k
  by_cases h : a = 2
  · subst h
    simp [tu, t2, up]
  · simp [tu, t2, h]
theorem t2_self {T : tT} : t2 T (T 2) = T := by
  funext a k
  by_cases h : a = 2
  · subst h; rfl
  · exact if_neg h
def imQ (T : tT) (w : Nat → Int32) (x : Int32) : Int32 × tT × (Nat → Int32) := if x = 0 then (if T 0 3 = 0 then (nI 0, T, w) else (nI 1, tu T 0 3 (nI 1), mixW 3970 (T 2) w)) else (nI 1, tu (t2 T (mixW 3970 w (T 2))) 0 3 (nI 1), w)
set_option maxHeartbeats 1000000 in
theorem l_imageT {n0 s0 : Nat} (hM : tw0 + 17 ≤ fc_nx M) {B : Nat → Int32} {x : Int32} (hx : ¬ x = 0) : ∀ (k i : Nat), i ≤ 3970 → 3970 < i + k → fc_X g l yX6_image cX6_image 3 (some .boolean) 1 n0 s0 (tv g M (t2 T (mixW i w B)) w) 15 [some (.ref (fc_B g + tw0)), some (.int x), some (.int (nI i))] [] (tv_ie g M (nI 1) (tu (t2 T (mixW 3970 w B)) 0 3 (nI 1)) w) := by
  intro k
  induction k with
  | zero => intro i h1 h2; omega
  | succ k ih =>
    intro i h1 h2
    refine x_iload_n dX6_image_15 rfl ?_
    refine x_sipush (v := nI 3970) dX6_image_16 (by decide) ?_
    refine x_icmpN_ge (tgt := 59) dX6_image_19 (by decide) (by omega) (by omega) (fun hc19 => ?_) (fun hc19 => ?_)
    · refine x_aload_n dX6_image_59 rfl ?_
      refine x_ic1 dX6_image_60 ?_
      refine v_puti 3 hM dX6_image_61 (by decide) rfl q1133 rfl rfl rfl ?_
      refine x_ic1 dX6_image_64 ?_
      obtain rfl : i = 3970 := by omega
      exact x_iret dX6_image_65 rfl (by rfl) tv_i1
    · refine x_iload_n dX6_image_22 rfl ?_
      refine x_if_eq (tgt := 41) dX6_image_23 (by decide) (fun hc23 => ?_) (fun hc23 => ?_)
      · exact absurd hc23 hx
      · refine x_aload_n dX6_image_26 rfl ?_
        refine v_geta 1 hM dX6_image_27 (by decide) rfl q1131 ?_
        refine x_iload_n dX6_image_30 rfl ?_
        refine x_aload_n dX6_image_31 rfl ?_
        refine v_geta 0 hM dX6_image_32 (by decide) rfl q1130 ?_
        refine x_iload_n dX6_image_35 rfl ?_
        refine v_wld hM dX6_image_36 rfl (by omega) ?_
        refine v_iast 2 hM dX6_image_37 (by decide) (by decide) rfl rfl (by show _ < 3970; omega) ?_
        refine x_eqM (congrArg (fun z => tv g M z w) (t2_u.trans (congrArg (t2 T) mixW_s))) ?_
        refine x_goto (tgt := 53) dX6_image_38 (by decide) ?_
        refine x_iincN (n := 1) dX6_image_53 (by decide) rfl (by decide) rfl ?_
        refine x_goto (tgt := 15) dX6_image_56 (by decide) ?_
        exact ih (i + 1) (by omega) (by omega)
set_option maxHeartbeats 1000000 in
theorem l_imageF {n0 s0 : Nat} (hM : tw0 + 17 ≤ fc_nx M) {wB : Nat → Int32} {x : Int32} (hx : x = 0) : ∀ (k i : Nat), i ≤ 3970 → 3970 < i + k → fc_X g l yX6_image cX6_image 3 (some .boolean) 1 n0 s0 (tv g M T (mixW i (T 2) wB)) 15 [some (.ref (fc_B g + tw0)), some (.int x), some (.int (nI i))] [] (tv_ie g M (nI 1) (tu T 0 3 (nI 1)) (mixW 3970 (T 2) wB)) := by
  intro k
  induction k with
  | zero => intro i h1 h2; omega
  | succ k ih =>
    intro i h1 h2
    refine x_iload_n dX6_image_15 rfl ?_
    refine x_sipush (v := nI 3970) dX6_image_16 (by decide) ?_
    refine x_icmpN_ge (tgt := 59) dX6_image_19 (by decide) (by omega) (by omega) (fun hc19 => ?_) (fun hc19 => ?_)
    · refine x_aload_n dX6_image_59 rfl ?_
      refine x_ic1 dX6_image_60 ?_
      refine v_puti 3 hM dX6_image_61 (by decide) rfl q1133 rfl rfl rfl ?_
      refine x_ic1 dX6_image_64 ?_
      obtain rfl : i = 3970 := by omega
      exact x_iret dX6_image_65 rfl (by rfl) tv_i1
    · refine x_iload_n dX6_image_22 rfl ?_
      refine x_if_eq (tgt := 41) dX6_image_23 (by decide) (fun hc23 => ?_) (fun hc23 => ?_)
      · refine x_aload_n dX6_image_41 rfl ?_
        refine v_geta 0 hM dX6_image_42 (by decide) rfl q1130 ?_
        refine x_iload_n dX6_image_45 rfl ?_
        refine x_aload_n dX6_image_46 rfl ?_
        refine v_geta 1 hM dX6_image_47 (by decide) rfl q1131 ?_
        refine x_iload_n dX6_image_50 rfl ?_
        refine v_iald 2 hM dX6_image_51 (by decide) (by decide) rfl rfl (by show _ < 3970; omega) ?_
        refine v_wst hM dX6_image_52 rfl (by omega) ?_
        refine x_eqM (congrArg (fun z => tv g M T z) mixW_s) ?_
        refine x_iincN (n := 1) dX6_image_53 (by decide) rfl (by decide) rfl ?_
        refine x_goto (tgt := 15) dX6_image_56 (by decide) ?_
        exact ih (i + 1) (by omega) (by omega)
      · exact absurd hx hc23
set_option maxHeartbeats 1000000 in
theorem c_image (hM : tw0 + 17 ≤ fc_nx M) {x : Int32} : fc_CX g l yX6_image cX6_image 3 (some .boolean) 1 [.ref (fc_B g + tw0), .int x] (tv g M T w) (tv_ie g M (imQ T w x).1 (imQ T w x).2.1 (imQ T w x).2.2) := by
  refine fc_enter (by decide) (Nat.le_of_ble_eq_true rfl) rfl ?_
  refine x_iload_n dX6_image_0 rfl ?_
  refine x_if_ne (tgt := 13) dX6_image_1 (by decide) (fun hc1 => ?_) (fun hc1 => ?_)
  · refine x_ic0 dX6_image_13 ?_
    refine x_istore_n dX6_image_14 (by decide) rfl ?_
    have e : imQ T w x = (nI 1, tu (t2 T (mixW 3970 w (T 2))) 0 3 (nI 1), w) := by rw [imQ, if_neg hc1]
    rw [e]
    refine x_eqM (congrArg (fun z => tv g M z w) (show T = t2 T (mixW 0 w (T 2)) by rw [mixW_0, t2_self])) ?_
    exact l_imageT hM hc1 3971 0 (by omega) (by omega)
  · refine x_aload_n dX6_image_4 rfl ?_
    refine v_geti 3 hM dX6_image_5 (by decide) rfl q1133 ?_
    refine x_if_ne (tgt := 13) dX6_image_8 (by decide) (fun hc8 => ?_) (fun hc8 => ?_)
    · refine x_ic0 dX6_image_13 ?_
      refine x_istore_n dX6_image_14 (by decide) rfl ?_
      have e : imQ T w x = (nI 1, tu T 0 3 (nI 1), mixW 3970 (T 2) w) := by rw [imQ, if_pos hc1, if_neg hc8]
      rw [e]
      refine x_eqM (congrArg (fun z => tv g M T z) (show w = mixW 0 (T 2) w by rw [mixW_0])) ?_
      exact l_imageF hM hc1 3971 0 (by omega) (by omega)
    · refine x_ic0 dX6_image_11 ?_
      have e : imQ T w x = (nI 0, T, w) := by rw [imQ, if_pos hc1, if_pos hc8]
      rw [e]
      exact x_iret dX6_image_12 rfl (by rfl) tv_i1
end T50
