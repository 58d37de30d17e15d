set_option maxRecDepth 100000
section T93
variable {g : fc_G} {l : Launch} {M : fc_M} {S : tT} {U : tU} {β : Nat} {w : Nat → Int32}
theorem pk_t {x : Int64} {f : Nat} (hf : f < 64) (h : lcm ((x >>> sa f) &&& 1) 1 = 0) : bt x f = true := by
  rw [lcm_pick hf] at h
  cases e : bt x f with
  | true => rfl
  | false => rw [e] at h; exact absurd h (by decide)
theorem pk_f {x : Int64} {f : Nat} (hf : f < 64) (h : ¬ lcm ((x >>> sa f) &&& 1) 1 = 0) : ¬ bt x f = true := by
  intro e
  rw [lcm_pick hf, if_pos e] at h
  exact h rfl
set_option maxHeartbeats 1000000 in
theorem d_isFun (hL : LT g M β) {c f : Nat} (hc : c < 4) (hf : f < 128) : fc_CX g l yX5_isFun cX5_isFun 2 (some .boolean) 1 [.ref (fc_B g + (β + 63 + c)), .int (nI f)] (cR M S U β w) (fc_re (bI (b2 (U (β + 63 + c) 6) (U (β + 63 + c) 7) f = true)) (cR M S U β w)) := by
  refine fc_enter (by decide) (Nat.le_of_ble_eq_true rfl) rfl ?_
  refine x_iload_n dX5_isFun_0 rfl ?_
  refine x_bipush (v := nI 64) dX5_isFun_1 (by decide) ?_
  refine x_icmpN_ge (tgt := 27) dX5_isFun_3 (by decide) (by omega) (by omega) (fun hc3 => ?_) (fun hc3 => ?_)
  · refine x_aload_n dX5_isFun_27 rfl ?_
    refine k_cgetl 7 hL dX5_isFun_28 (by decide) q328 (by omega) ?_
    refine x_iload_n dX5_isFun_31 rfl ?_
    refine x_bipush (v := nI 64) dX5_isFun_32 (by decide) ?_
    refine x_isubN dX5_isFun_34 (by omega) ?_
    refine x_lshr dX5_isFun_35 rfl ?_
    refine x_lconst (v := 1) dX5_isFun_36 rfl ?_
    refine x_land dX5_isFun_37 ?_
    refine x_lconst (v := 1) dX5_isFun_38 rfl ?_
    refine x_lcmp dX5_isFun_39 rfl ?_
    refine x_if_ne (tgt := 47) dX5_isFun_40 (by decide) (fun hc40 => ?_) (fun hc40 => ?_)
    · refine x_ic0 dX5_isFun_47 ?_
      exact x_iret dX5_isFun_48 rfl (by rfl) (fc_re.of2 (show _ = bI (b2 (U (β + 63 + c) 6) (U (β + 63 + c) 7) f = true) from (bI_f (fun z => pk_f (by omega) hc40 ((b2_hi (Nat.not_lt.mpr hc3)).symm.trans z))).symm) rfl)
    · refine x_ic1 dX5_isFun_43 ?_
      refine x_goto (tgt := 48) dX5_isFun_44 (by decide) ?_
      exact x_iret dX5_isFun_48 rfl (by rfl) (fc_re.of2 (show _ = bI (b2 (U (β + 63 + c) 6) (U (β + 63 + c) 7) f = true) from (bI_t ((b2_hi (Nat.not_lt.mpr hc3)).trans (pk_t (by omega) hc40))).symm) rfl)
  · refine x_aload_n dX5_isFun_6 rfl ?_
    refine k_cgetl 6 hL dX5_isFun_7 (by decide) q326 (by omega) ?_
    refine x_iload_n dX5_isFun_10 rfl ?_
    refine x_lshr dX5_isFun_11 rfl ?_
    refine x_lconst (v := 1) dX5_isFun_12 rfl ?_
    refine x_land dX5_isFun_13 ?_
    refine x_lconst (v := 1) dX5_isFun_14 rfl ?_
    refine x_lcmp dX5_isFun_15 rfl ?_
    refine x_if_ne (tgt := 23) dX5_isFun_16 (by decide) (fun hc16 => ?_) (fun hc16 => ?_)
    · refine x_ic0 dX5_isFun_23 ?_
      refine x_goto (tgt := 48) dX5_isFun_24 (by decide) ?_
      exact x_iret dX5_isFun_48 rfl (by rfl) (fc_re.of2 (show _ = bI (b2 (U (β + 63 + c) 6) (U (β + 63 + c) 7) f = true) from (bI_f (fun z => pk_f hc3 hc16 ((b2_lo hc3).symm.trans z))).symm) rfl)
    · refine x_ic1 dX5_isFun_19 ?_
      refine x_goto (tgt := 48) dX5_isFun_20 (by decide) ?_
      exact x_iret dX5_isFun_48 rfl (by rfl) (fc_re.of2 (show _ = bI (b2 (U (β + 63 + c) 6) (U (β + 63 + c) 7) f = true) from (bI_t ((b2_lo hc3).trans (pk_t hc3 hc16))).symm) rfl)
set_option maxHeartbeats 1000000 in
theorem d_isTarget (hL : LT g M β) {f : Nat} (hf : f < 128) : fc_CX g l yX3_isTarget cX3_isTarget 2 (some .boolean) 1 [.ref (fc_B g + β), .int (nI f)] (cR M S U β w) (fc_re (bI (b2 (U β 9) (U β 10) f = true)) (cR M S U β w)) := by
  refine fc_enter (by decide) (Nat.le_of_ble_eq_true rfl) rfl ?_
  refine x_iload_n dX3_isTarget_0 rfl ?_
  refine x_bipush (v := nI 64) dX3_isTarget_1 (by decide) ?_
  refine x_icmpN_ge (tgt := 27) dX3_isTarget_3 (by decide) (by omega) (by omega) (fun hc3 => ?_) (fun hc3 => ?_)
  · refine x_aload_n dX3_isTarget_27 rfl ?_
    refine k_tgetl 10 hL dX3_isTarget_28 (by decide) q366 ?_
    refine x_iload_n dX3_isTarget_31 rfl ?_
    refine x_bipush (v := nI 64) dX3_isTarget_32 (by decide) ?_
    refine x_isubN dX3_isTarget_34 (by omega) ?_
    refine x_lshr dX3_isTarget_35 rfl ?_
    refine x_lconst (v := 1) dX3_isTarget_36 rfl ?_
    refine x_land dX3_isTarget_37 ?_
    refine x_lconst (v := 1) dX3_isTarget_38 rfl ?_
    refine x_lcmp dX3_isTarget_39 rfl ?_
    refine x_if_ne (tgt := 47) dX3_isTarget_40 (by decide) (fun hc40 => ?_) (fun hc40 => ?_)
    · refine x_ic0 dX3_isTarget_47 ?_
      exact x_iret dX3_isTarget_48 rfl (by rfl) (fc_re.of2 (show _ = bI (b2 (U β 9) (U β 10) f = true) from (bI_f (fun z => pk_f (by omega) hc40 ((b2_hi (Nat.not_lt.mpr hc3)).symm.trans z))).symm) rfl)
    · refine x_ic1 dX3_isTarget_43 ?_
      refine x_goto (tgt := 48) dX3_isTarget_44 (by decide) ?_
      exact x_iret dX3_isTarget_48 rfl (by rfl) (fc_re.of2 (show _ = bI (b2 (U β 9) (U β 10) f = true) from (bI_t ((b2_hi (Nat.not_lt.mpr hc3)).trans (pk_t (by omega) hc40))).symm) rfl)
  · refine x_aload_n dX3_isTarget_6 rfl ?_
    refine k_tgetl 9 hL dX3_isTarget_7 (by decide) q365 ?_
    refine x_iload_n dX3_isTarget_10 rfl ?_
    refine x_lshr dX3_isTarget_11 rfl ?_
    refine x_lconst (v := 1) dX3_isTarget_12 rfl ?_
    refine x_land dX3_isTarget_13 ?_
    refine x_lconst (v := 1) dX3_isTarget_14 rfl ?_
    refine x_lcmp dX3_isTarget_15 rfl ?_
    refine x_if_ne (tgt := 23) dX3_isTarget_16 (by decide) (fun hc16 => ?_) (fun hc16 => ?_)
    · refine x_ic0 dX3_isTarget_23 ?_
      refine x_goto (tgt := 48) dX3_isTarget_24 (by decide) ?_
      exact x_iret dX3_isTarget_48 rfl (by rfl) (fc_re.of2 (show _ = bI (b2 (U β 9) (U β 10) f = true) from (bI_f (fun z => pk_f hc3 hc16 ((b2_lo hc3).symm.trans z))).symm) rfl)
    · refine x_ic1 dX3_isTarget_19 ?_
      refine x_goto (tgt := 48) dX3_isTarget_20 (by decide) ?_
      exact x_iret dX3_isTarget_48 rfl (by rfl) (fc_re.of2 (show _ = bI (b2 (U β 9) (U β 10) f = true) from (bI_t ((b2_lo hc3).trans (pk_t hc3 hc16))).symm) rfl)
set_option maxHeartbeats 1000000 in
theorem d_turnsFun (hL : LT g M β) {c f : Nat} (hc : c < 4) (hf : f < 128) : fc_CX g l yX5_turnsFun cX5_turnsFun 2 (none) 1 [.ref (fc_B g + (β + 63 + c)), .int (nI f)] (cR M S U β w) (fc_rn (cR M S (tnU U (β + 63 + c) 6 f) β w)) := by
  refine fc_enter (by decide) (Nat.le_of_ble_eq_true rfl) rfl ?_
  refine x_iload_n dX5_turnsFun_0 rfl ?_
  refine x_bipush (v := nI 64) dX5_turnsFun_1 (by decide) ?_
  refine x_icmpN_ge (tgt := 21) dX5_turnsFun_3 (by decide) (by omega) (by omega) (fun hc3 => ?_) (fun hc3 => ?_)
  · refine x_aload_n dX5_turnsFun_21 rfl ?_
    refine x_dup dX5_turnsFun_22 rfl ?_
    refine k_cgetl 7 hL dX5_turnsFun_23 (by decide) q328 (by omega) ?_
    refine x_lconst (v := 1) dX5_turnsFun_26 rfl ?_
    refine x_iload_n dX5_turnsFun_27 rfl ?_
    refine x_bipush (v := nI 64) dX5_turnsFun_28 (by decide) ?_
    refine x_isubN dX5_turnsFun_30 (by omega) ?_
    refine x_lshl dX5_turnsFun_31 rfl ?_
    refine x_lxor dX5_turnsFun_32 ?_
    refine k_cputl 7 (by decide) hL dX5_turnsFun_33 q328 rfl (by omega) ?_
    exact x_vret dX5_turnsFun_36 rfl (fc_rn.of2 (congrArg (fun z => cR M S z β w) (show _ = tnU U (β + 63 + c) 6 f from (if_neg (Nat.not_lt.mpr hc3)).symm)))
  · refine x_aload_n dX5_turnsFun_6 rfl ?_
    refine x_dup dX5_turnsFun_7 rfl ?_
    refine k_cgetl 6 hL dX5_turnsFun_8 (by decide) q326 (by omega) ?_
    refine x_lconst (v := 1) dX5_turnsFun_11 rfl ?_
    refine x_iload_n dX5_turnsFun_12 rfl ?_
    refine x_lshl dX5_turnsFun_13 rfl ?_
    refine x_lxor dX5_turnsFun_14 ?_
    refine k_cputl 6 (by decide) hL dX5_turnsFun_15 q326 rfl (by omega) ?_
    refine x_goto (tgt := 36) dX5_turnsFun_18 (by decide) ?_
    exact x_vret dX5_turnsFun_36 rfl (fc_rn.of2 (congrArg (fun z => cR M S z β w) (show _ = tnU U (β + 63 + c) 6 f from (if_pos hc3).symm)))
set_option maxHeartbeats 1000000 in
theorem d_aims (hL : LT g M β) {f : Nat} (hf : f < 128) : fc_CX g l yX3_aims cX3_aims 2 (none) 1 [.ref (fc_B g + β), .int (nI f)] (cR M S U β w) (fc_rn (cR M S (amU U β 9 f) β w)) := by
  refine fc_enter (by decide) (Nat.le_of_ble_eq_true rfl) rfl ?_
  refine x_iload_n dX3_aims_0 rfl ?_
  refine x_bipush (v := nI 64) dX3_aims_1 (by decide) ?_
  refine x_icmpN_ge (tgt := 21) dX3_aims_3 (by decide) (by omega) (by omega) (fun hc3 => ?_) (fun hc3 => ?_)
  · refine x_aload_n dX3_aims_21 rfl ?_
    refine x_dup dX3_aims_22 rfl ?_
    refine k_tgetl 10 hL dX3_aims_23 (by decide) q366 ?_
    refine x_lconst (v := 1) dX3_aims_26 rfl ?_
    refine x_iload_n dX3_aims_27 rfl ?_
    refine x_bipush (v := nI 64) dX3_aims_28 (by decide) ?_
    refine x_isubN dX3_aims_30 (by omega) ?_
    refine x_lshl dX3_aims_31 rfl ?_
    refine x_lor dX3_aims_32 ?_
    refine k_tputl 10 hL dX3_aims_33 (by decide) q366 rfl ?_
    exact x_vret dX3_aims_36 rfl (fc_rn.of2 (congrArg (fun z => cR M S z β w) (show _ = amU U (β) 9 f from (if_neg (Nat.not_lt.mpr hc3)).symm)))
  · refine x_aload_n dX3_aims_6 rfl ?_
    refine x_dup dX3_aims_7 rfl ?_
    refine k_tgetl 9 hL dX3_aims_8 (by decide) q365 ?_
    refine x_lconst (v := 1) dX3_aims_11 rfl ?_
    refine x_iload_n dX3_aims_12 rfl ?_
    refine x_lshl dX3_aims_13 rfl ?_
    refine x_lor dX3_aims_14 ?_
    refine k_tputl 9 hL dX3_aims_15 (by decide) q365 rfl ?_
    refine x_goto (tgt := 36) dX3_aims_18 (by decide) ?_
    exact x_vret dX3_aims_36 rfl (fc_rn.of2 (congrArg (fun z => cR M S z β w) (show _ = amU U (β) 9 f from (if_pos hc3).symm)))
def amO (U : tU) (β : Nat) (o : Option Nat) : tU := match o with
  | some f => amU U β 9 f
  | none => U
def ftU (β : Nat) (w : Nat → Int32) (c n : Nat) : Nat → Nat → tU → tU
  | 0, _, U => U
  | k + 1, i, U => if i < n then ftU β w c n k (i + 1) (amO U β (tO w c i)) else U
def ft0 (β c : Nat) (U : tU) : tU := tuL (tuL U β 9 (U (β + 63 + c) 6)) β 10 (U (β + 63 + c) 7)
theorem kG_X3_X3_aims : GoodIn lw_all (wsV RX3 161 RX3 yX3_aims (ws_ yX3_aims cX3_aims 2 (none))) := lw_V q949 q951 qs30 q121 q952
theorem kP_X3_aims : kPar yX3_aims 1 := by decide +kernel
set_option maxHeartbeats 1000000 in
theorem m_finds {n0 s0 : Nat} (hL : LT g M β) {n f : Nat} (hn : n ≤ 60) (hw : w 2 = nI n) (hP : PI w n f) (hf : f ≤ 80) {c : Nat} (hc : c < 4) : ∀ (k i : Nat) (U : tU) (o3 : Option Value), i ≤ n → n < i + k → fc_X g l yX3_findsTargets cX3_findsTargets 4 (none) 2 n0 s0 (cR M S U β w) 28 [some (.ref (fc_B g + β)), some (.int (nI c)), some (.int (nI i)), o3] [] (fc_rn (cR M S (ftU β w c n k i U) β w)) := by
  intro k
  induction k with
  | zero => intro i U o3 h1 h2; omega
  | succ k ih =>
    intro i U o3 h1 h2
    refine x_iload_n dX3_findsTargets_28 rfl ?_
    refine x_aload_n dX3_findsTargets_29 rfl ?_
    refine k_tget 2 hL dX3_findsTargets_30 (by decide) q351 ?_
    refine x_top hw ?_
    refine x_icmpN_ge (tgt := 92) dX3_findsTargets_33 (by decide) (by omega) (by omega) (fun hc33 => ?_) (fun hc33 => ?_)
    · rw [ftU, if_neg (Nat.not_lt.mpr hc33)]
      exact x_vret dX3_findsTargets_92 rfl fc_rn.of
    · refine x_aload_n dX3_findsTargets_36 rfl ?_
      obtain ⟨a, b, ha, hb, haf, hbf, hab⟩ := hP i hc33
      refine k_people 0 rfl hL dX3_findsTargets_37 q347 ?_
      refine x_iload_n dX3_findsTargets_40 rfl ?_
      refine k_pald hL dX3_findsTargets_41 (by omega) ?_
      refine x_astore_n dX3_findsTargets_42 (by decide) rfl ?_
      refine x_aload_n dX3_findsTargets_43 rfl ?_
      refine k_pget 4 hL dX3_findsTargets_44 (by decide) q280 (by omega) ?_
      refine x_iload_n dX3_findsTargets_47 rfl ?_
      refine x_icmp_eq (tgt := 54) dX3_findsTargets_48 (by decide) (fun hc48 => ?_) (fun hc48 => ?_)
      · refine x_aload_n dX3_findsTargets_54 rfl ?_
        refine k_pget 3 hL dX3_findsTargets_55 (by decide) q277 (by omega) ?_
        refine x_ic2 dX3_findsTargets_58 ?_
        refine x_icmp_ne (tgt := 70) dX3_findsTargets_59 (by decide) (fun hc59 => ?_) (fun hc59 => ?_)
        · refine x_aload_n dX3_findsTargets_70 rfl ?_
          refine k_pget 3 hL dX3_findsTargets_71 (by decide) q277 (by omega) ?_
          refine x_ic1 dX3_findsTargets_74 ?_
          refine x_icmp_ne (tgt := 86) dX3_findsTargets_75 (by decide) (fun hc75 => ?_) (fun hc75 => ?_)
          · refine x_iincN (n := 1) dX3_findsTargets_86 (by decide) rfl (by decide) rfl ?_
            refine x_goto (tgt := 28) dX3_findsTargets_89 (by decide) ?_
            rw [ftU, if_pos hc33, show tO w c i = none from by rw [tO, if_pos hc48, if_neg hc59, if_neg hc75]]
            exact ih (i + 1) _ _ (by omega) (by omega)
          · refine x_aload_n dX3_findsTargets_78 rfl ?_
            refine x_aload_n dX3_findsTargets_79 rfl ?_
            refine k_pget 1 hL dX3_findsTargets_80 (by decide) q271 (by omega) ?_
            refine x_top ha ?_
            refine k_V1vT hL dX3_findsTargets_83 kG_X3_X3_aims kP_X3_aims rfl (by omega) (by decide) (Nat.le_of_ble_eq_true rfl) (d_aims hL (by omega)) ?_
            refine x_iincN (n := 1) dX3_findsTargets_86 (by decide) rfl (by decide) rfl ?_
            refine x_goto (tgt := 28) dX3_findsTargets_89 (by decide) ?_
            rw [ftU, if_pos hc33, show tO w c i = some a from by rw [tO, if_pos hc48, if_neg hc59, if_pos hc75, ha, nI_clamp (by omega)]]
            exact ih (i + 1) _ _ (by omega) (by omega)
        · refine x_aload_n dX3_findsTargets_62 rfl ?_
          refine x_aload_n dX3_findsTargets_63 rfl ?_
          refine k_pget 2 hL dX3_findsTargets_64 (by decide) q274 (by omega) ?_
          refine x_top hb ?_
          refine k_V1vT hL dX3_findsTargets_67 kG_X3_X3_aims kP_X3_aims rfl (by omega) (by decide) (Nat.le_of_ble_eq_true rfl) (d_aims hL (by omega)) ?_
          refine x_aload_n dX3_findsTargets_70 rfl ?_
          refine k_pget 3 hL dX3_findsTargets_71 (by decide) q277 (by omega) ?_
          refine x_ic1 dX3_findsTargets_74 ?_
          refine x_icmp_ne (tgt := 86) dX3_findsTargets_75 (by decide) (fun hc75 => ?_) (fun hc75 => ?_)
          · refine x_iincN (n := 1) dX3_findsTargets_86 (by decide) rfl (by decide) rfl ?_
            refine x_goto (tgt := 28) dX3_findsTargets_89 (by decide) ?_
            rw [ftU, if_pos hc33, show tO w c i = some b from by rw [tO, if_pos hc48, if_pos hc59, hb, nI_clamp (by omega)]]
            exact ih (i + 1) _ _ (by omega) (by omega)
          · exact absurd (hc59.symm.trans hc75) (by decide)
      · refine x_goto (tgt := 86) dX3_findsTargets_51 (by decide) ?_
        refine x_iincN (n := 1) dX3_findsTargets_86 (by decide) rfl (by decide) rfl ?_
        refine x_goto (tgt := 28) dX3_findsTargets_89 (by decide) ?_
        rw [ftU, if_pos hc33, show tO w c i = none from by rw [tO, if_neg hc48]]
        exact ih (i + 1) _ _ (by omega) (by omega)
set_option maxHeartbeats 1000000 in
theorem d_finds (hL : LT g M β) {n f : Nat} (hn : n ≤ 60) (hw : w 2 = nI n) (hP : PI w n f) (hf : f ≤ 80) {c : Nat} (hc : c < 4) : fc_CX g l yX3_findsTargets cX3_findsTargets 4 (none) 2 [.ref (fc_B g + β), .int (nI c)] (cR M S U β w) (fc_rn (cR M S (ftU β w c n (n + 1) 0 (ft0 β c U)) β w)) := by
  refine fc_enter (by decide) (Nat.le_of_ble_eq_true rfl) rfl ?_
  refine x_aload_n dX3_findsTargets_0 rfl ?_
  refine x_aload_n dX3_findsTargets_1 rfl ?_
  refine k_cars 1 rfl hL dX3_findsTargets_2 q349 ?_
  refine x_iload_n dX3_findsTargets_5 rfl ?_
  refine k_cald hL dX3_findsTargets_6 (by omega) ?_
  refine k_cgetl 6 hL dX3_findsTargets_7 (by decide) q327 (by omega) ?_
  refine k_tputl 9 hL dX3_findsTargets_10 (by decide) q365 rfl ?_
  refine x_aload_n dX3_findsTargets_13 rfl ?_
  refine x_aload_n dX3_findsTargets_14 rfl ?_
  refine k_cars 1 rfl hL dX3_findsTargets_15 q349 ?_
  refine x_iload_n dX3_findsTargets_18 rfl ?_
  refine k_cald hL dX3_findsTargets_19 (by omega) ?_
  refine k_cgetl 7 hL dX3_findsTargets_20 (by decide) q329 (by omega) ?_
  refine x_topv (congrArg Value.long (tuL_n (by omega))) ?_
  refine k_tputl 10 hL dX3_findsTargets_23 (by decide) q366 rfl ?_
  refine x_ic0 dX3_findsTargets_26 ?_
  refine x_istore_n dX3_findsTargets_27 (by decide) rfl ?_
  exact m_finds hL hn hw hP hf hc (n + 1) 0 _ _ (by omega) (by omega)
set_option maxHeartbeats 1000000 in
theorem d_aheadU (hL : LT g M β) {c a : Nat} (hc : c < 4) (ha : w (10 + 20 * c + 0) = nI a) (ha2 : a < 80) (hy : w (10 + 20 * c + 1) = nI 1) : fc_CX g l yX3_hasAhead cX3_hasAhead 3 (some .boolean) 1 [.ref (fc_B g + β), .ref (fc_B g + (β + 63 + c))] (cR M S U β w) (fc_re (@bI (ahU (U β 9) (U β 10) true a) (Classical.propDecidable _)) (cR M S U β w)) := by
  refine fc_enter (by decide) (Nat.le_of_ble_eq_true rfl) rfl ?_
  refine x_aload_n dX3_hasAhead_0 rfl ?_
  refine k_cget 0 0 rfl hL dX3_hasAhead_1 (by decide) q309 (by omega) ?_
  refine x_top ha ?_
  refine x_istore_n dX3_hasAhead_4 (by decide) rfl ?_
  refine x_aload_n dX3_hasAhead_5 rfl ?_
  refine k_cget 1 1 rfl hL dX3_hasAhead_6 (by decide) q312 (by omega) ?_
  refine x_top hy ?_
  refine x_if_le (tgt := 76) dX3_hasAhead_9 (by decide) (fun hc9 => ?_) (fun hc9 => ?_)
  · exact absurd hc9 (by decide)
  · refine x_iload_n dX3_hasAhead_12 rfl ?_
    refine x_bipush (v := nI 63) dX3_hasAhead_13 (by decide) ?_
    refine x_icmpN_ge (tgt := 52) dX3_hasAhead_15 (by decide) (by omega) (by omega) (fun hc15 => ?_) (fun hc15 => ?_)
    · refine x_aload_n dX3_hasAhead_52 rfl ?_
      refine k_tgetl 10 hL dX3_hasAhead_53 (by decide) q366 ?_
      refine x_ldc2 dX3_hasAhead_56 q957 ?_
      refine x_iload_n dX3_hasAhead_59 rfl ?_
      refine x_bipush (v := nI 63) dX3_hasAhead_60 (by decide) ?_
      refine x_isubN dX3_hasAhead_62 (by omega) ?_
      refine x_lshl dX3_hasAhead_63 rfl ?_
      refine x_land dX3_hasAhead_64 ?_
      refine x_lconst (v := 0) dX3_hasAhead_65 rfl ?_
      refine x_lcmp dX3_hasAhead_66 rfl ?_
      refine x_if_eq (tgt := 74) dX3_hasAhead_67 (by decide) (fun hc67 => ?_) (fun hc67 => ?_)
      · refine x_ic0 dX3_hasAhead_74 ?_
        exact x_iret dX3_hasAhead_75 rfl (by rfl) (fc_re.of2 (show _ = @bI (ahU (U β 9) (U β 10) true a) (Classical.propDecidable _) from (@bI_f (ahU (U β 9) (U β 10) true a) (Classical.propDecidable _) (fun q => (fun z => z (lcm_0.mp hc67)) ((ah_up2 (Nat.not_lt.mpr hc15) (by omega)).mp q))).symm) rfl)
      · refine x_ic1 dX3_hasAhead_70 ?_
        refine x_goto (tgt := 75) dX3_hasAhead_71 (by decide) ?_
        exact x_iret dX3_hasAhead_75 rfl (by rfl) (fc_re.of2 (show _ = @bI (ahU (U β 9) (U β 10) true a) (Classical.propDecidable _) from (@bI_t (ahU (U β 9) (U β 10) true a) (Classical.propDecidable _) ((ah_up2 (Nat.not_lt.mpr hc15) (by omega)).mpr (fun e => hc67 (lcm_0.mpr e)))).symm) rfl)
    · refine x_aload_n dX3_hasAhead_18 rfl ?_
      refine k_tgetl 10 hL dX3_hasAhead_19 (by decide) q366 ?_
      refine x_lconst (v := 0) dX3_hasAhead_22 rfl ?_
      refine x_lcmp dX3_hasAhead_23 rfl ?_
      refine x_if_ne (tgt := 44) dX3_hasAhead_24 (by decide) (fun hc24 => ?_) (fun hc24 => ?_)
      · refine x_ic1 dX3_hasAhead_44 ?_
        refine x_goto (tgt := 75) dX3_hasAhead_45 (by decide) ?_
        exact x_iret dX3_hasAhead_75 rfl (by rfl) (fc_re.of2 (show _ = @bI (ahU (U β 9) (U β 10) true a) (Classical.propDecidable _) from (@bI_t (ahU (U β 9) (U β 10) true a) (Classical.propDecidable _) ((ah_up1 hc15).mpr (Or.inl (fun e => hc24 (lcm_0.mpr e))))).symm) rfl)
      · refine x_aload_n dX3_hasAhead_27 rfl ?_
        refine k_tgetl 9 hL dX3_hasAhead_28 (by decide) q365 ?_
        refine x_ldc2 dX3_hasAhead_31 q957 ?_
        refine x_iload_n dX3_hasAhead_34 rfl ?_
        refine x_ic1 dX3_hasAhead_35 ?_
        refine x_iaddN dX3_hasAhead_36 ?_
        refine x_lshl dX3_hasAhead_37 rfl ?_
        refine x_land dX3_hasAhead_38 ?_
        refine x_lconst (v := 0) dX3_hasAhead_39 rfl ?_
        refine x_lcmp dX3_hasAhead_40 rfl ?_
        refine x_if_eq (tgt := 48) dX3_hasAhead_41 (by decide) (fun hc41 => ?_) (fun hc41 => ?_)
        · refine x_ic0 dX3_hasAhead_48 ?_
          refine x_goto (tgt := 75) dX3_hasAhead_49 (by decide) ?_
          exact x_iret dX3_hasAhead_75 rfl (by rfl) (fc_re.of2 (show _ = @bI (ahU (U β 9) (U β 10) true a) (Classical.propDecidable _) from (@bI_f (ahU (U β 9) (U β 10) true a) (Classical.propDecidable _) (fun q => (fun z => z.elim (fun z => z (lcm_0.mp hc24)) (fun z => z (lcm_0.mp hc41))) ((ah_up1 hc15).mp q))).symm) rfl)
        · refine x_ic1 dX3_hasAhead_44 ?_
          refine x_goto (tgt := 75) dX3_hasAhead_45 (by decide) ?_
          exact x_iret dX3_hasAhead_75 rfl (by rfl) (fc_re.of2 (show _ = @bI (ahU (U β 9) (U β 10) true a) (Classical.propDecidable _) from (@bI_t (ahU (U β 9) (U β 10) true a) (Classical.propDecidable _) ((ah_up1 hc15).mpr (Or.inr (fun e => hc41 (lcm_0.mpr e))))).symm) rfl)
set_option maxHeartbeats 1000000 in
theorem d_aheadD (hL : LT g M β) {c a : Nat} (hc : c < 4) (ha : w (10 + 20 * c + 0) = nI a) (ha2 : a < 80) (hy : w (10 + 20 * c + 1) = -1) : fc_CX g l yX3_hasAhead cX3_hasAhead 3 (some .boolean) 1 [.ref (fc_B g + β), .ref (fc_B g + (β + 63 + c))] (cR M S U β w) (fc_re (@bI (ahU (U β 9) (U β 10) false a) (Classical.propDecidable _)) (cR M S U β w)) := by
  refine fc_enter (by decide) (Nat.le_of_ble_eq_true rfl) rfl ?_
  refine x_aload_n dX3_hasAhead_0 rfl ?_
  refine k_cget 0 0 rfl hL dX3_hasAhead_1 (by decide) q309 (by omega) ?_
  refine x_top ha ?_
  refine x_istore_n dX3_hasAhead_4 (by decide) rfl ?_
  refine x_aload_n dX3_hasAhead_5 rfl ?_
  refine k_cget 1 1 rfl hL dX3_hasAhead_6 (by decide) q312 (by omega) ?_
  refine x_top hy ?_
  refine x_if_le (tgt := 76) dX3_hasAhead_9 (by decide) (fun hc9 => ?_) (fun hc9 => ?_)
  · refine x_iload_n dX3_hasAhead_76 rfl ?_
    refine x_bipush (v := nI 64) dX3_hasAhead_77 (by decide) ?_
    refine x_icmpN_ge (tgt := 105) dX3_hasAhead_79 (by decide) (by omega) (by omega) (fun hc79 => ?_) (fun hc79 => ?_)
    · refine x_aload_n dX3_hasAhead_105 rfl ?_
      refine k_tgetl 9 hL dX3_hasAhead_106 (by decide) q365 ?_
      refine x_lconst (v := 0) dX3_hasAhead_109 rfl ?_
      refine x_lcmp dX3_hasAhead_110 rfl ?_
      refine x_if_ne (tgt := 132) dX3_hasAhead_111 (by decide) (fun hc111 => ?_) (fun hc111 => ?_)
      · refine x_ic1 dX3_hasAhead_132 ?_
        refine x_goto (tgt := 137) dX3_hasAhead_133 (by decide) ?_
        exact x_iret dX3_hasAhead_137 rfl (by rfl) (fc_re.of2 (show _ = @bI (ahU (U β 9) (U β 10) false a) (Classical.propDecidable _) from (@bI_t (ahU (U β 9) (U β 10) false a) (Classical.propDecidable _) ((ah_dn2 (Nat.not_lt.mpr hc79) (by omega)).mpr (Or.inl (fun e => hc111 (lcm_0.mpr e))))).symm) rfl)
      · refine x_aload_n dX3_hasAhead_114 rfl ?_
        refine k_tgetl 10 hL dX3_hasAhead_115 (by decide) q366 ?_
        refine x_lconst (v := 1) dX3_hasAhead_118 rfl ?_
        refine x_iload_n dX3_hasAhead_119 rfl ?_
        refine x_bipush (v := nI 64) dX3_hasAhead_120 (by decide) ?_
        refine x_isubN dX3_hasAhead_122 (by omega) ?_
        refine x_lshl dX3_hasAhead_123 rfl ?_
        refine x_lconst (v := 1) dX3_hasAhead_124 rfl ?_
        refine x_lsub dX3_hasAhead_125 ?_
        refine x_land dX3_hasAhead_126 ?_
        refine x_lconst (v := 0) dX3_hasAhead_127 rfl ?_
        refine x_lcmp dX3_hasAhead_128 rfl ?_
        refine x_if_eq (tgt := 136) dX3_hasAhead_129 (by decide) (fun hc129 => ?_) (fun hc129 => ?_)
        · refine x_ic0 dX3_hasAhead_136 ?_
          exact x_iret dX3_hasAhead_137 rfl (by rfl) (fc_re.of2 (show _ = @bI (ahU (U β 9) (U β 10) false a) (Classical.propDecidable _) from (@bI_f (ahU (U β 9) (U β 10) false a) (Classical.propDecidable _) (fun q => (fun z => z.elim (fun z => z (lcm_0.mp hc111)) (fun z => z (lcm_0.mp hc129))) ((ah_dn2 (Nat.not_lt.mpr hc79) (by omega)).mp q))).symm) rfl)
        · refine x_ic1 dX3_hasAhead_132 ?_
          refine x_goto (tgt := 137) dX3_hasAhead_133 (by decide) ?_
          exact x_iret dX3_hasAhead_137 rfl (by rfl) (fc_re.of2 (show _ = @bI (ahU (U β 9) (U β 10) false a) (Classical.propDecidable _) from (@bI_t (ahU (U β 9) (U β 10) false a) (Classical.propDecidable _) ((ah_dn2 (Nat.not_lt.mpr hc79) (by omega)).mpr (Or.inr (fun e => hc129 (lcm_0.mpr e))))).symm) rfl)
    · refine x_aload_n dX3_hasAhead_82 rfl ?_
      refine k_tgetl 9 hL dX3_hasAhead_83 (by decide) q365 ?_
      refine x_lconst (v := 1) dX3_hasAhead_86 rfl ?_
      refine x_iload_n dX3_hasAhead_87 rfl ?_
      refine x_lshl dX3_hasAhead_88 rfl ?_
      refine x_lconst (v := 1) dX3_hasAhead_89 rfl ?_
      refine x_lsub dX3_hasAhead_90 ?_
      refine x_land dX3_hasAhead_91 ?_
      refine x_lconst (v := 0) dX3_hasAhead_92 rfl ?_
      refine x_lcmp dX3_hasAhead_93 rfl ?_
      refine x_if_eq (tgt := 101) dX3_hasAhead_94 (by decide) (fun hc94 => ?_) (fun hc94 => ?_)
      · refine x_ic0 dX3_hasAhead_101 ?_
        refine x_goto (tgt := 137) dX3_hasAhead_102 (by decide) ?_
        exact x_iret dX3_hasAhead_137 rfl (by rfl) (fc_re.of2 (show _ = @bI (ahU (U β 9) (U β 10) false a) (Classical.propDecidable _) from (@bI_f (ahU (U β 9) (U β 10) false a) (Classical.propDecidable _) (fun q => (fun z => z (lcm_0.mp hc94)) ((ah_dn1 hc79).mp q))).symm) rfl)
      · refine x_ic1 dX3_hasAhead_97 ?_
        refine x_goto (tgt := 137) dX3_hasAhead_98 (by decide) ?_
        exact x_iret dX3_hasAhead_137 rfl (by rfl) (fc_re.of2 (show _ = @bI (ahU (U β 9) (U β 10) false a) (Classical.propDecidable _) from (@bI_t (ahU (U β 9) (U β 10) false a) (Classical.propDecidable _) ((ah_dn1 hc79).mpr (fun e => hc94 (lcm_0.mpr e)))).symm) rfl)
  · exact absurd (by decide) hc9
end T93
