set_option maxRecDepth 100000
section T99Z
variable {g : fc_G} {l : Launch} {M : fc_M} {S : tT} {U : tU} {β : Nat} {w : Nat → Int32} {π f nC : Nat} {w0 : Nat → Int32}
def poE (c z : Nat) (w : Nat → Int32) : Nat → Int32 := up (up (up (up w (10 + 20 * c + 2) (nI 0)) (10 + 20 * c + 3) (nI 0)) (10 + 20 * c + 1) (nI 0)) (10 + 20 * c + 4) (nI z)
def poW (w : Nat → Int32) (c n z : Nat) : Nat → Int32 := if z = 0 then up w (10 + 20 * c + 4) (nI z) else if w (10 + 20 * c + 4) = 0 then poE c z (toL c n (n + 1) 0 w) else up w (10 + 20 * c + 4) (nI z)
theorem nz_nar {z : Nat} (hz : z = 0 ∨ z = 1) : narrow .boolean (.int (nI z)) = .int (nI z) := by rcases hz with rfl | rfl <;> rfl
theorem nz_fit {z : Nat} (hz : z = 0 ∨ z = 1) : fits .boolean (.int (nI z)) = true := by rcases hz with rfl | rfl <;> rfl
set_option maxHeartbeats 1000000 in
theorem m_putsOut {n0 s0 : Nat} (hL : LT g M 32) (hO : PC g M S π 32 f nC w0) {c n z : Nat} (hc : c < 4) (hz : z = 0 ∨ z = 1) (hn : n ≤ 60) : ∀ (k i : Nat) (w : Nat → Int32), w 2 = nI n → i ≤ n → n < i + k → fc_X g l yX0_putsOut cX0_putsOut 5 (none) 2 n0 s0 (cR M S U 32 w) 24 [some (.ref (fc_B g + 0)), some (.int (nI c)), some (.int (nI z)), some (.ref (fc_B g + (32 + 63 + c))), some (.int (nI i))] [] (fc_rn (cR M S U 32 (poE c z (toL c n k i w)))) := by
  intro k
  induction k with
  | zero => intro i w hw h1 h2; omega
  | succ k ih =>
    intro i w hw h1 h2
    refine x_iload dX0_putsOut_24 rfl ?_
    refine x_aload_n dX0_putsOut_26 rfl ?_
    refine k_Fref 17 hO.1 rfl (by decide) rfl dX0_putsOut_27 q415 ?_
    refine k_tget 2 hL dX0_putsOut_30 (by decide) q352 ?_
    refine x_top hw ?_
    refine x_icmpN_ge (tgt := 90) dX0_putsOut_33 (by decide) (by omega) (by omega) (fun hc33 => ?_) (fun hc33 => ?_)
    · refine x_aload_n dX0_putsOut_90 rfl ?_
      refine x_ic0 dX0_putsOut_91 ?_
      refine k_cput 2 2 rfl hL dX0_putsOut_92 (by decide) q316 rfl (by omega) ?_
      refine x_aload_n dX0_putsOut_95 rfl ?_
      refine x_ic0 dX0_putsOut_96 ?_
      refine k_cput 3 3 rfl hL dX0_putsOut_97 (by decide) q319 rfl (by omega) ?_
      refine x_aload_n dX0_putsOut_100 rfl ?_
      refine x_ic0 dX0_putsOut_101 ?_
      refine k_cput 1 1 rfl hL dX0_putsOut_102 (by decide) q313 rfl (by omega) ?_
      refine x_aload_n dX0_putsOut_105 rfl ?_
      refine x_iload_n dX0_putsOut_106 rfl ?_
      refine k_cputz 5 rfl hL dX0_putsOut_107 q325 rfl (nz_nar hz) (nz_fit hz) (by omega) ?_
      rw [toL, if_neg (Nat.not_lt.mpr hc33)]
      exact x_vret dX0_putsOut_110 rfl fc_rn.of
    · refine x_aload_n dX0_putsOut_36 rfl ?_
      refine k_Fref 17 hO.1 rfl (by decide) rfl dX0_putsOut_37 q415 ?_
      refine k_people 0 rfl hL dX0_putsOut_40 q348 ?_
      refine x_iload dX0_putsOut_43 rfl ?_
      refine k_pald hL dX0_putsOut_45 (by omega) ?_
      refine k_pget 4 hL dX0_putsOut_46 (by decide) q281 (by omega) ?_
      refine x_iload_n dX0_putsOut_49 rfl ?_
      refine x_icmp_ne (tgt := 84) dX0_putsOut_50 (by decide) (fun hc50 => ?_) (fun hc50 => ?_)
      · refine x_iincN (n := 1) dX0_putsOut_84 (by decide) rfl (by decide) rfl ?_
        refine x_goto (tgt := 24) dX0_putsOut_87 (by decide) ?_
        rw [toL, if_pos hc33]
        rw [show (if w (820 + 8 * i + 3) = nI 1 then (if w (820 + 8 * i + 4) = nI c then up w (820 + 8 * i + 4) (-1) else w) else w) = w by by_cases z9 : w (820 + 8 * i + 3) = nI 1; exact (if_pos z9).trans (if_neg hc50); exact if_neg z9]
        exact ih (i + 1) _ hw (by omega) (by omega)
      · refine x_aload_n dX0_putsOut_53 rfl ?_
        refine k_Fref 17 hO.1 rfl (by decide) rfl dX0_putsOut_54 q415 ?_
        refine k_people 0 rfl hL dX0_putsOut_57 q348 ?_
        refine x_iload dX0_putsOut_60 rfl ?_
        refine k_pald hL dX0_putsOut_62 (by omega) ?_
        refine k_pget 3 hL dX0_putsOut_63 (by decide) q278 (by omega) ?_
        refine x_ic1 dX0_putsOut_66 ?_
        refine x_icmp_ne (tgt := 84) dX0_putsOut_67 (by decide) (fun hc67 => ?_) (fun hc67 => ?_)
        · refine x_iincN (n := 1) dX0_putsOut_84 (by decide) rfl (by decide) rfl ?_
          refine x_goto (tgt := 24) dX0_putsOut_87 (by decide) ?_
          rw [toL, if_pos hc33]
          rw [if_neg hc67]
          exact ih (i + 1) _ hw (by omega) (by omega)
        · refine x_aload_n dX0_putsOut_70 rfl ?_
          refine k_Fref 17 hO.1 rfl (by decide) rfl dX0_putsOut_71 q415 ?_
          refine k_people 0 rfl hL dX0_putsOut_74 q348 ?_
          refine x_iload dX0_putsOut_77 rfl ?_
          refine k_pald hL dX0_putsOut_79 (by omega) ?_
          refine x_icm1 dX0_putsOut_80 ?_
          refine k_pput 4 hL dX0_putsOut_81 (by decide) q281 rfl (by omega) ?_
          refine x_iincN (n := 1) dX0_putsOut_84 (by decide) rfl (by decide) rfl ?_
          refine x_goto (tgt := 24) dX0_putsOut_87 (by decide) ?_
          rw [toL, if_pos hc33]
          rw [if_pos hc67, if_pos hc50]
          exact ih (i + 1) _ (by rw [up_n (by omega)]; exact hw) (by omega) (by omega)
set_option maxHeartbeats 1000000 in
theorem d_putsOut (hL : LT g M 32) (hO : PC g M S π 32 f nC w) {c n z : Nat} (hc : c < 4) (hz : z = 0 ∨ z = 1) (hn : n ≤ 60) (hw : w 2 = nI n) : fc_CX g l yX0_putsOut cX0_putsOut 5 (none) 2 [.ref (fc_B g + 0), .int (nI c), .int (nI z)] (cR M S U 32 w) (fc_rn (cR M S U 32 (poW w c n z))) := by
  refine fc_enter (by decide) (Nat.le_of_ble_eq_true rfl) rfl ?_
  refine x_aload_n dX0_putsOut_0 rfl ?_
  refine k_Fref 17 hO.1 rfl (by decide) rfl dX0_putsOut_1 q415 ?_
  refine k_cars 1 rfl hL dX0_putsOut_4 q350 ?_
  refine x_iload_n dX0_putsOut_7 rfl ?_
  refine k_cald hL dX0_putsOut_8 (by omega) ?_
  refine x_astore_n dX0_putsOut_9 (by decide) rfl ?_
  refine x_iload_n dX0_putsOut_10 rfl ?_
  refine x_ifN_eq (tgt := 105) dX0_putsOut_11 (by decide) (by omega) (fun hc11 => ?_) (fun hc11 => ?_)
  · refine x_aload_n dX0_putsOut_105 rfl ?_
    refine x_iload_n dX0_putsOut_106 rfl ?_
    refine k_cputz 5 rfl hL dX0_putsOut_107 q325 rfl (nz_nar hz) (nz_fit hz) (by omega) ?_
    have e9 : poW w c n z = up w (10 + 20 * c + 4) (nI z) := if_pos hc11
    rw [e9]
    exact x_vret dX0_putsOut_110 rfl fc_rn.of
  · refine x_aload_n dX0_putsOut_14 rfl ?_
    refine k_cget 5 4 rfl hL dX0_putsOut_15 (by decide) q325 (by omega) ?_
    refine x_if_ne (tgt := 105) dX0_putsOut_18 (by decide) (fun hc18 => ?_) (fun hc18 => ?_)
    · refine x_aload_n dX0_putsOut_105 rfl ?_
      refine x_iload_n dX0_putsOut_106 rfl ?_
      refine k_cputz 5 rfl hL dX0_putsOut_107 q325 rfl (nz_nar hz) (nz_fit hz) (by omega) ?_
      have e9 : poW w c n z = up w (10 + 20 * c + 4) (nI z) := (if_neg (Nat.ne_of_gt hc11)).trans (if_neg hc18)
      rw [e9]
      exact x_vret dX0_putsOut_110 rfl fc_rn.of
    · refine x_ic0 dX0_putsOut_21 ?_
      refine x_istore dX0_putsOut_22 (by decide) rfl ?_
      have e9 : poW w c n z = poE c z (toL c n (n + 1) 0 w) := (if_neg (Nat.ne_of_gt hc11)).trans (if_pos hc18)
      rw [e9]
      exact m_putsOut hL hO hc hz hn (n + 1) 0 w hw (by omega) (by omega)
def stC (w : Nat → Int32) (S : tT) (n f nC : Nat) (x i v : Int32) : Int32 × tT × (Nat → Int32) :=
  if x = nI 0 then (if nI 0 ≤ v ∧ v ≤ nI 2 then (nI 1, S, up w 4 v) else (nI 0, S, w)) else
  if x = nI 1 then (if nI 0 ≤ i ∧ i ≤ nI nC - nI 1 then (if nI 0 ≤ v ∧ v ≤ nI 1 then (nI 1, S, poW w i.toNatClampNeg n v.toNatClampNeg) else (nI 0, S, w)) else (nI 0, S, w)) else
  if x = nI 2 then (if nI 0 ≤ i ∧ i ≤ nI nC - nI 1 then (if v = -1 then (nI 1, S, up w (10 + 20 * i.toNatClampNeg + 5) v) else if nI 0 ≤ v ∧ v ≤ nI f - nI 1 then (nI 1, S, up w (10 + 20 * i.toNatClampNeg + 5) v) else (nI 0, S, w)) else (nI 0, S, w)) else
  if x = nI 3 then (if nI 0 ≤ i ∧ i ≤ nI f - nI 1 then (if nI 0 ≤ v ∧ v ≤ nI 99 then (nI 1, tu S 30 i.toNatClampNeg v, up w (740 + i.toNatClampNeg) v) else (nI 0, S, w)) else (nI 0, S, w)) else (nI 0, S, w)
theorem inC {x : Int32} {m : Nat} (hm : m ≤ 80) (h : nI 0 ≤ x ∧ x ≤ nI m - nI 1) : ∃ c, c < m ∧ x = nI c := (inN_iff (by omega)).mp ((inN_le (by omega)).mp h)
theorem kG_X0_X0_isRule : GoodIn lw_all (va_wsS RX0 383 yX0_isRule (ws_ yX0_isRule cX0_isRule 1 (some .boolean))) := lw_S q853 q854 q118 q855
theorem kP_X0_isRule : kPar yX0_isRule 1 := by decide +kernel
theorem kG_X0_X0_isCar : GoodIn lw_all (wsV RX0 389 RX0 yX0_isCar (ws_ yX0_isCar cX0_isCar 2 (some .boolean))) := lw_V q856 q858 qs22 q118 q859
theorem kP_X0_isCar : kPar yX0_isCar 1 := by decide +kernel
theorem kG_X0_X0_putsOut : GoodIn lw_all (wsV RX0 392 RX0 yX0_putsOut (ws_ yX0_putsOut cX0_putsOut 5 (none))) := lw_V q860 q862 qs23 q118 q863
theorem kP_X0_putsOut : kPar yX0_putsOut 2 := by decide +kernel
set_option maxHeartbeats 1000000 in
theorem d_set (hL : LT g M 32) (hO : PC g M S π 32 f nC w) {n : Nat} (hn : n ≤ 60) (hw : w 2 = nI n) (hf : f ≤ 80) (hC : nC ≤ 4) {x i v : Int32} : fc_CX g l yX0_set cX0_set 4 (some .boolean) 4 [.ref (fc_B g + 0), .int x, .int i, .int v] (cR M S U 32 w) (fc_re (stC w S n f nC x i v).1 (cR M (stC w S n f nC x i v).2.1 U 32 (stC w S n f nC x i v).2.2)) := by
  refine fc_enter (by decide) (Nat.le_of_ble_eq_true rfl) rfl ?_
  refine x_iload_n dX0_set_0 rfl ?_
  rcases sw4 x with rfl | rfl | rfl | rfl | hout
  · refine x_swIn (off := 31) (tgt := 32) dX0_set_1 (by decide) (by decide) rfl (by decide) ?_
    refine x_iload_n dX0_set_32 rfl ?_
    refine k_S1i dX0_set_33 kG_X0_X0_isRule kP_X0_isRule (by omega) (by decide) (Nat.le_of_ble_eq_true rfl) d_isRule ?_
    refine x_ifB_ne (tgt := 41) dX0_set_36 (by decide) (fun hc36 => ?_) (fun hc36 => ?_)
    · refine x_aload_n dX0_set_41 rfl ?_
      refine k_Fref 17 hO.1 rfl (by decide) rfl dX0_set_42 q415 ?_
      refine x_iload_n dX0_set_45 rfl ?_
      refine k_tput 4 hL dX0_set_46 (by decide) q356 rfl ?_
      refine x_ic1 dX0_set_49 ?_
      have e9 : stC w S n f nC (nI 0) i v = (nI 1, S, up w 4 v) := by rw [stC, if_pos rfl, if_pos hc36]
      rw [e9]
      exact x_iret dX0_set_50 rfl (by rfl) fc_re.of
    · refine x_ic0 dX0_set_39 ?_
      have e9 : stC w S n f nC (nI 0) i v = (nI 0, S, w) := by rw [stC, if_pos rfl, if_neg hc36]
      rw [e9]
      exact x_iret dX0_set_40 rfl (by rfl) fc_re.of
  · refine x_swIn (off := 50) (tgt := 51) dX0_set_1 (by decide) (by decide) rfl (by decide) ?_
    refine x_aload_n dX0_set_51 rfl ?_
    refine x_iload_n dX0_set_52 rfl ?_
    refine k_V1iF hO.1 dX0_set_53 kG_X0_X0_isCar kP_X0_isCar rfl (by omega) (by decide) (Nat.le_of_ble_eq_true rfl) (d_isCar hO) ?_
    refine x_ifB_eq (tgt := 68) dX0_set_56 (by decide) (fun hc56 => ?_) (fun hc56 => ?_)
    · refine x_ic0 dX0_set_68 ?_
      have e9 : stC w S n f nC (nI 1) i v = (nI 0, S, w) := by rw [stC, if_neg (by decide), if_pos rfl, if_neg hc56]
      rw [e9]
      exact x_iret dX0_set_69 rfl (by rfl) fc_re.of
    · refine x_iload_n dX0_set_59 rfl ?_
      refine x_ic0 dX0_set_60 ?_
      refine x_ic1 dX0_set_61 ?_
      refine k_S3i dX0_set_62 kG_X0_X0_isIn kP_X0_isIn (by omega) (by decide) (Nat.le_of_ble_eq_true rfl) d_isIn ?_
      refine x_ifB_ne (tgt := 70) dX0_set_65 (by decide) (fun hc65 => ?_) (fun hc65 => ?_)
      · obtain ⟨i, hi, rfl⟩ := inC (m := nC) (by omega) hc56
        obtain ⟨vv, -, hvv, rfl⟩ := nI_between (a := 0) (b := 1) (by decide) hc65 (by decide)
        · refine x_aload_n dX0_set_70 rfl ?_
          refine x_iload_n dX0_set_71 rfl ?_
          refine x_iload_n dX0_set_72 rfl ?_
          refine x_ic1 dX0_set_73 ?_
          refine x_icmpN_ne (tgt := 81) dX0_set_74 (by decide) (by omega) (by omega) (fun hc74 => ?_) (fun hc74 => ?_)
          · refine x_ic0 dX0_set_81 ?_
            obtain rfl : vv = 0 := by omega
            refine k_V2vF hO.1 dX0_set_82 kG_X0_X0_putsOut kP_X0_putsOut rfl (by omega) (by decide) (Nat.le_of_ble_eq_true rfl) (d_putsOut (z := 0) hL hO (by omega) (Or.inl rfl) hn hw) ?_
            refine x_ic1 dX0_set_85 ?_
            have e9 : stC w S n f nC (nI 1) (nI i) (nI 0) = (nI 1, S, poW w i n 0) := by rw [stC, if_neg (by decide), if_pos rfl, if_pos hc56, if_pos hc65, nI_clamp (by omega), nI_clamp (by omega)]
            rw [e9]
            exact x_iret dX0_set_86 rfl (by rfl) fc_re.of
          · refine x_ic1 dX0_set_77 ?_
            refine x_goto (tgt := 82) dX0_set_78 (by decide) ?_
            obtain rfl : vv = 1 := by omega
            refine k_V2vF hO.1 dX0_set_82 kG_X0_X0_putsOut kP_X0_putsOut rfl (by omega) (by decide) (Nat.le_of_ble_eq_true rfl) (d_putsOut (z := 1) hL hO (by omega) (Or.inr rfl) hn hw) ?_
            refine x_ic1 dX0_set_85 ?_
            have e9 : stC w S n f nC (nI 1) (nI i) (nI 1) = (nI 1, S, poW w i n 1) := by rw [stC, if_neg (by decide), if_pos rfl, if_pos hc56, if_pos hc65, nI_clamp (by omega), nI_clamp (by omega)]
            rw [e9]
            exact x_iret dX0_set_86 rfl (by rfl) fc_re.of
      · refine x_ic0 dX0_set_68 ?_
        have e9 : stC w S n f nC (nI 1) i v = (nI 0, S, w) := by rw [stC, if_neg (by decide), if_pos rfl, if_pos hc56, if_neg hc65]
        rw [e9]
        exact x_iret dX0_set_69 rfl (by rfl) fc_re.of
  · refine x_swIn (off := 86) (tgt := 87) dX0_set_1 (by decide) (by decide) rfl (by decide) ?_
    refine x_aload_n dX0_set_87 rfl ?_
    refine x_iload_n dX0_set_88 rfl ?_
    refine k_V1iF hO.1 dX0_set_89 kG_X0_X0_isCar kP_X0_isCar rfl (by omega) (by decide) (Nat.le_of_ble_eq_true rfl) (d_isCar hO) ?_
    refine x_ifB_eq (tgt := 108) dX0_set_92 (by decide) (fun hc92 => ?_) (fun hc92 => ?_)
    · refine x_ic0 dX0_set_108 ?_
      have e9 : stC w S n f nC (nI 2) i v = (nI 0, S, w) := by rw [stC, if_neg (by decide), if_neg (by decide), if_pos rfl, if_neg hc92]
      rw [e9]
      exact x_iret dX0_set_109 rfl (by rfl) fc_re.of
    · refine x_iload_n dX0_set_95 rfl ?_
      refine x_icm1 dX0_set_96 ?_
      refine x_icmp_eq (tgt := 110) dX0_set_97 (by decide) (fun hc97 => ?_) (fun hc97 => ?_)
      · obtain ⟨i, hi, rfl⟩ := inC (m := nC) (by omega) hc92
        · refine x_aload_n dX0_set_110 rfl ?_
          refine k_Fref 17 hO.1 rfl (by decide) rfl dX0_set_111 q415 ?_
          refine k_cars 1 rfl hL dX0_set_114 q350 ?_
          refine x_iload_n dX0_set_117 rfl ?_
          refine k_cald hL dX0_set_118 (by omega) ?_
          refine x_iload_n dX0_set_119 rfl ?_
          refine k_cput 4 5 rfl hL dX0_set_120 (by decide) q322 rfl (by omega) ?_
          refine x_ic1 dX0_set_123 ?_
          have e9 : stC w S n f nC (nI 2) (nI i) v = (nI 1, S, up w (10 + 20 * i + 5) v) := by rw [stC, if_neg (by decide), if_neg (by decide), if_pos rfl, if_pos hc92, if_pos hc97, nI_clamp (by omega)]
          rw [e9]
          exact x_iret dX0_set_124 rfl (by rfl) fc_re.of
      · refine x_aload_n dX0_set_100 rfl ?_
        refine x_iload_n dX0_set_101 rfl ?_
        refine k_V1iF hO.1 dX0_set_102 kG_X0_X0_isFloor kP_X0_isFloor rfl (by omega) (by decide) (Nat.le_of_ble_eq_true rfl) (d_isFloor hO) ?_
        refine x_ifB_ne (tgt := 110) dX0_set_105 (by decide) (fun hc105 => ?_) (fun hc105 => ?_)
        · obtain ⟨i, hi, rfl⟩ := inC (m := nC) (by omega) hc92
          · refine x_aload_n dX0_set_110 rfl ?_
            refine k_Fref 17 hO.1 rfl (by decide) rfl dX0_set_111 q415 ?_
            refine k_cars 1 rfl hL dX0_set_114 q350 ?_
            refine x_iload_n dX0_set_117 rfl ?_
            refine k_cald hL dX0_set_118 (by omega) ?_
            refine x_iload_n dX0_set_119 rfl ?_
            refine k_cput 4 5 rfl hL dX0_set_120 (by decide) q322 rfl (by omega) ?_
            refine x_ic1 dX0_set_123 ?_
            have e9 : stC w S n f nC (nI 2) (nI i) v = (nI 1, S, up w (10 + 20 * i + 5) v) := by rw [stC, if_neg (by decide), if_neg (by decide), if_pos rfl, if_pos hc92, if_neg hc97, if_pos hc105, nI_clamp (by omega)]
            rw [e9]
            exact x_iret dX0_set_124 rfl (by rfl) fc_re.of
        · refine x_ic0 dX0_set_108 ?_
          have e9 : stC w S n f nC (nI 2) i v = (nI 0, S, w) := by rw [stC, if_neg (by decide), if_neg (by decide), if_pos rfl, if_pos hc92, if_neg hc97, if_neg hc105]
          rw [e9]
          exact x_iret dX0_set_109 rfl (by rfl) fc_re.of
  · refine x_swIn (off := 124) (tgt := 125) dX0_set_1 (by decide) (by decide) rfl (by decide) ?_
    refine x_aload_n dX0_set_125 rfl ?_
    refine x_iload_n dX0_set_126 rfl ?_
    refine k_V1iF hO.1 dX0_set_127 kG_X0_X0_isFloor kP_X0_isFloor rfl (by omega) (by decide) (Nat.le_of_ble_eq_true rfl) (d_isFloor hO) ?_
    refine x_ifB_eq (tgt := 143) dX0_set_130 (by decide) (fun hc130 => ?_) (fun hc130 => ?_)
    · refine x_ic0 dX0_set_143 ?_
      have e9 : stC w S n f nC (nI 3) i v = (nI 0, S, w) := by rw [stC, if_neg (by decide), if_neg (by decide), if_neg (by decide), if_pos rfl, if_neg hc130]
      rw [e9]
      exact x_iret dX0_set_144 rfl (by rfl) fc_re.of
    · refine x_iload_n dX0_set_133 rfl ?_
      refine x_ic0 dX0_set_134 ?_
      refine x_bipush (v := nI 99) dX0_set_135 (by decide) ?_
      refine k_S3i dX0_set_137 kG_X0_X0_isIn kP_X0_isIn (by omega) (by decide) (Nat.le_of_ble_eq_true rfl) d_isIn ?_
      refine x_ifB_ne (tgt := 145) dX0_set_140 (by decide) (fun hc140 => ?_) (fun hc140 => ?_)
      · obtain ⟨i, hi, rfl⟩ := inC (m := f) (by omega) hc130
        · refine x_aload_n dX0_set_145 rfl ?_
          refine k_Fref 15 hO.1 rfl (by decide) rfl dX0_set_146 q412 ?_
          refine x_iload_n dX0_set_149 rfl ?_
          refine x_iload_n dX0_set_150 rfl ?_
          refine k_ast (a := 30) dX0_set_151 (show 30 < fc_nx M by have := hO.1.1; omega) (hO.1.2.2 30 _ rfl) (by decide) (by omega) (by omega) ?_
          refine x_ic1 dX0_set_152 ?_
          have e9 : stC w S n f nC (nI 3) (nI i) v = (nI 1, tu S 30 i v, up w (740 + i) v) := by rw [stC, if_neg (by decide), if_neg (by decide), if_neg (by decide), if_pos rfl, if_pos hc130, if_pos hc140, nI_clamp (by omega)]
          rw [e9]
          rw [show cR M (tu S 30 i v) U 32 (up w (740 + i) v) = cR M (tu S 30 i v) U 32 w from congrArg (fun z => cl M z U) (clr_740 (by omega))]
          exact x_iret dX0_set_153 rfl (by rfl) fc_re.of
      · refine x_ic0 dX0_set_143 ?_
        have e9 : stC w S n f nC (nI 3) i v = (nI 0, S, w) := by rw [stC, if_neg (by decide), if_neg (by decide), if_neg (by decide), if_pos rfl, if_pos hc130, if_neg hc140]
        rw [e9]
        exact x_iret dX0_set_144 rfl (by rfl) fc_re.of
  · refine x_swOut (tgt := 154) dX0_set_1 hout (by decide) ?_
    refine x_ic0 dX0_set_154 ?_
    have e9 : stC w S n f nC x i v = (nI 0, S, w) := by rw [stC, if_neg (fun z => by subst z; revert hout; decide), if_neg (fun z => by subst z; revert hout; decide), if_neg (fun z => by subst z; revert hout; decide), if_neg (fun z => by subst z; revert hout; decide)]
    rw [e9]
    exact x_iret dX0_set_155 rfl (by rfl) fc_re.of
end T99Z
