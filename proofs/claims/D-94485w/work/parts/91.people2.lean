set_option maxRecDepth 100000
section T91
variable {g : fc_G} {l : Launch} {M : fc_M} {S : tT} {U : tU} {β : Nat} {w : Nat → Int32}
set_option maxHeartbeats 1000000 in
theorem m_firstHere {n0 s0 : Nat} (hL : LT g M β) {n : Nat} (hn : n ≤ 60) (hw : w 2 = nI n) {c : Nat} (hc : c < 4) : ∀ (k i : Nat), i ≤ n → n < i + k → fc_X g l yX3_firstHere cX3_firstHere 3 (some .int) 2 n0 s0 (cR M S U β w) 2 [some (.ref (fc_B g + β)), some (.int (nI c)), some (.int (nI i))] [] (fc_re (fhW w c n k i) (cR M S U β w)) := by
  intro k
  induction k with
  | zero => intro i h1 h2; omega
  | succ k ih =>
    intro i h1 h2
    refine x_iload_n dX3_firstHere_2 rfl ?_
    refine x_aload_n dX3_firstHere_3 rfl ?_
    refine k_tget 2 hL dX3_firstHere_4 (by decide) q351 ?_
    refine x_top hw ?_
    refine x_icmpN_ge (tgt := 65) dX3_firstHere_7 (by decide) (by omega) (by omega) (fun hc7 => ?_) (fun hc7 => ?_)
    · refine x_icm1 dX3_firstHere_65 ?_
      exact x_iret dX3_firstHere_66 rfl rfl (fc_re.of2 (by rw [fhW, if_neg (Nat.not_lt.mpr hc7)]) rfl)
    · refine x_aload_n dX3_firstHere_10 rfl ?_
      refine k_people 0 rfl hL dX3_firstHere_11 q347 ?_
      refine x_iload_n dX3_firstHere_14 rfl ?_
      refine k_pald hL dX3_firstHere_15 (by omega) ?_
      refine k_pget 4 hL dX3_firstHere_16 (by decide) q280 (by omega) ?_
      refine x_iload_n dX3_firstHere_19 rfl ?_
      refine x_icmp_ne (tgt := 59) dX3_firstHere_20 (by decide) (fun hc20 => ?_) (fun hc20 => ?_)
      · refine x_iincN (n := 1) dX3_firstHere_59 (by decide) rfl (by decide) rfl ?_
        refine x_goto (tgt := 2) dX3_firstHere_62 (by decide) ?_
        rw [fhW, if_pos hc7, if_neg (fun z => hc20 z.2.1)]
        exact ih (i + 1) (by omega) (by omega)
      · refine x_aload_n dX3_firstHere_23 rfl ?_
        refine k_people 0 rfl hL dX3_firstHere_24 q347 ?_
        refine x_iload_n dX3_firstHere_27 rfl ?_
        refine k_pald hL dX3_firstHere_28 (by omega) ?_
        refine k_pget 3 hL dX3_firstHere_29 (by decide) q277 (by omega) ?_
        refine x_ic1 dX3_firstHere_32 ?_
        refine x_icmp_ne (tgt := 59) dX3_firstHere_33 (by decide) (fun hc33 => ?_) (fun hc33 => ?_)
        · refine x_iincN (n := 1) dX3_firstHere_59 (by decide) rfl (by decide) rfl ?_
          refine x_goto (tgt := 2) dX3_firstHere_62 (by decide) ?_
          rw [fhW, if_pos hc7, if_neg (fun z => hc33 z.1)]
          exact ih (i + 1) (by omega) (by omega)
        · refine x_aload_n dX3_firstHere_36 rfl ?_
          refine k_people 0 rfl hL dX3_firstHere_37 q347 ?_
          refine x_iload_n dX3_firstHere_40 rfl ?_
          refine k_pald hL dX3_firstHere_41 (by omega) ?_
          refine k_pget 1 hL dX3_firstHere_42 (by decide) q271 (by omega) ?_
          refine x_aload_n dX3_firstHere_45 rfl ?_
          refine k_cars 1 rfl hL dX3_firstHere_46 q349 ?_
          refine x_iload_n dX3_firstHere_49 rfl ?_
          refine k_cald hL dX3_firstHere_50 (by omega) ?_
          refine k_cget 0 0 rfl hL dX3_firstHere_51 (by decide) q309 (by omega) ?_
          refine x_icmp_ne (tgt := 59) dX3_firstHere_54 (by decide) (fun hc54 => ?_) (fun hc54 => ?_)
          · refine x_iincN (n := 1) dX3_firstHere_59 (by decide) rfl (by decide) rfl ?_
            refine x_goto (tgt := 2) dX3_firstHere_62 (by decide) ?_
            rw [fhW, if_pos hc7, if_neg (fun z => hc54 z.2.2)]
            exact ih (i + 1) (by omega) (by omega)
          · refine x_iload_n dX3_firstHere_57 rfl ?_
            exact x_iret dX3_firstHere_58 rfl rfl (fc_re.of2 (by rw [fhW, if_pos hc7, if_pos ⟨hc33, hc20, hc54⟩]) rfl)
set_option maxHeartbeats 1000000 in
theorem d_firstHere (hL : LT g M β) {n : Nat} (hn : n ≤ 60) (hw : w 2 = nI n) {c : Nat} (hc : c < 4) : fc_CX g l yX3_firstHere cX3_firstHere 3 (some .int) 2 [.ref (fc_B g + β), .int (nI c)] (cR M S U β w) (fc_re (fhW w c n (n + 1) 0) (cR M S U β w)) := by
  refine fc_enter (by decide) (Nat.le_of_ble_eq_true rfl) rfl ?_
  refine x_ic0 dX3_firstHere_0 ?_
  refine x_istore_n dX3_firstHere_1 (by decide) rfl ?_
  exact m_firstHere hL hn hw hc (n + 1) 0 (by omega) (by omega)
set_option maxHeartbeats 1000000 in
theorem m_goOut {n0 s0 : Nat} (hL : LT g M β) {n : Nat} (hn : n ≤ 60) {c : Nat} (hc : c < 4) : ∀ (k i m : Nat) (w : Nat → Int32) (o4 : Option Value), w 2 = nI n → i ≤ n → n < i + k → fc_X g l yX3_goOut cX3_goOut 5 (some .int) 2 n0 s0 (cR M S U β w) 4 [some (.ref (fc_B g + β)), some (.int (nI c)), some (.int (nI m)), some (.int (nI i)), o4] [] (fc_re (nI (goW c n k i w m).2) (cR M S U β (goW c n k i w m).1)) := by
  intro k
  induction k with
  | zero => intro i m w o4 hw h1 h2; omega
  | succ k ih =>
    intro i m w o4 hw h1 h2
    refine x_iload_n dX3_goOut_4 rfl ?_
    refine x_aload_n dX3_goOut_5 rfl ?_
    refine k_tget 2 hL dX3_goOut_6 (by decide) q351 ?_
    refine x_top hw ?_
    refine x_icmpN_ge (tgt := 82) dX3_goOut_9 (by decide) (by omega) (by omega) (fun hc9 => ?_) (fun hc9 => ?_)
    · refine x_iload_n dX3_goOut_82 rfl ?_
      rw [goW, if_neg (Nat.not_lt.mpr hc9)]
      exact x_iret dX3_goOut_83 rfl rfl fc_re.of
    · refine x_aload_n dX3_goOut_12 rfl ?_
      refine k_people 0 rfl hL dX3_goOut_13 q347 ?_
      refine x_iload_n dX3_goOut_16 rfl ?_
      refine k_pald hL dX3_goOut_17 (by omega) ?_
      refine x_astore dX3_goOut_18 (by decide) rfl ?_
      refine x_aload dX3_goOut_20 rfl ?_
      refine k_pget 4 hL dX3_goOut_22 (by decide) q280 (by omega) ?_
      refine x_iload_n dX3_goOut_25 rfl ?_
      refine x_icmp_ne (tgt := 76) dX3_goOut_26 (by decide) (fun hc26 => ?_) (fun hc26 => ?_)
      · refine x_iincN (n := 1) dX3_goOut_76 (by decide) rfl (by decide) rfl ?_
        refine x_goto (tgt := 4) dX3_goOut_79 (by decide) ?_
        rw [goW, if_pos hc9, if_neg (fun z => hc26 z.2.1)]
        exact ih (i + 1) m w _ hw (by omega) (by omega)
      · refine x_aload dX3_goOut_29 rfl ?_
        refine k_pget 3 hL dX3_goOut_31 (by decide) q277 (by omega) ?_
        refine x_ic2 dX3_goOut_34 ?_
        refine x_icmp_ne (tgt := 76) dX3_goOut_35 (by decide) (fun hc35 => ?_) (fun hc35 => ?_)
        · refine x_iincN (n := 1) dX3_goOut_76 (by decide) rfl (by decide) rfl ?_
          refine x_goto (tgt := 4) dX3_goOut_79 (by decide) ?_
          rw [goW, if_pos hc9, if_neg (fun z => hc35 z.1)]
          exact ih (i + 1) m w _ hw (by omega) (by omega)
        · refine x_aload dX3_goOut_38 rfl ?_
          refine k_pget 2 hL dX3_goOut_40 (by decide) q274 (by omega) ?_
          refine x_aload_n dX3_goOut_43 rfl ?_
          refine k_cars 1 rfl hL dX3_goOut_44 q349 ?_
          refine x_iload_n dX3_goOut_47 rfl ?_
          refine k_cald hL dX3_goOut_48 (by omega) ?_
          refine k_cget 0 0 rfl hL dX3_goOut_49 (by decide) q309 (by omega) ?_
          refine x_icmp_eq (tgt := 58) dX3_goOut_52 (by decide) (fun hc52 => ?_) (fun hc52 => ?_)
          · refine x_aload dX3_goOut_58 rfl ?_
            refine x_ic3 dX3_goOut_60 ?_
            refine k_pput 3 hL dX3_goOut_61 (by decide) q277 rfl (by omega) ?_
            refine x_aload dX3_goOut_64 rfl ?_
            refine x_aload_n dX3_goOut_66 rfl ?_
            refine k_tget 3 hL dX3_goOut_67 (by decide) q353 ?_
            refine x_top (up_n (by omega)) ?_
            refine k_pput 6 hL dX3_goOut_70 (by decide) q286 rfl (by omega) ?_
            refine x_iincN (n := 1) dX3_goOut_73 (by decide) rfl (by decide) rfl ?_
            refine x_iincN (n := 1) dX3_goOut_76 (by decide) rfl (by decide) rfl ?_
            refine x_goto (tgt := 4) dX3_goOut_79 (by decide) ?_
            rw [goW, if_pos hc9, if_pos ⟨hc35, hc26, hc52⟩]
            exact ih (i + 1) (m + 1) _ _ (by rw [up_n (by omega), up_n (by omega)]; exact hw) (by omega) (by omega)
          · refine x_goto (tgt := 76) dX3_goOut_55 (by decide) ?_
            refine x_iincN (n := 1) dX3_goOut_76 (by decide) rfl (by decide) rfl ?_
            refine x_goto (tgt := 4) dX3_goOut_79 (by decide) ?_
            rw [goW, if_pos hc9, if_neg (fun z => hc52 z.2.2)]
            exact ih (i + 1) m w _ hw (by omega) (by omega)
set_option maxHeartbeats 1000000 in
theorem d_goOut (hL : LT g M β) {n : Nat} (hn : n ≤ 60) (hw : w 2 = nI n) {c : Nat} (hc : c < 4) : fc_CX g l yX3_goOut cX3_goOut 5 (some .int) 2 [.ref (fc_B g + β), .int (nI c)] (cR M S U β w) (fc_re (nI (goW c n (n + 1) 0 w 0).2) (cR M S U β (goW c n (n + 1) 0 w 0).1)) := by
  refine fc_enter (by decide) (Nat.le_of_ble_eq_true rfl) rfl ?_
  refine x_ic0 dX3_goOut_0 ?_
  refine x_istore_n dX3_goOut_1 (by decide) rfl ?_
  refine x_ic0 dX3_goOut_2 ?_
  refine x_istore_n dX3_goOut_3 (by decide) rfl ?_
  exact m_goOut hL hn hc (n + 1) 0 0 w _ hw (by omega) (by omega)
theorem kG_X3_X4_over : GoodIn lw_all (wsV RX3 240 RX4 yX4_over (ws_ yX4_over cX4_over 1 (some .int))) := lw_V q1027 q1028 q1029 q122 q1030
theorem kP_X4_over : kPar yX4_over 0 := by decide +kernel
set_option maxHeartbeats 1000000 in
theorem m_overOf {n0 s0 : Nat} (hL : LT g M β) {n : Nat} (hn : n ≤ 60) (hw : w 2 = nI n) {b : Int32} : ∀ (k i : Nat) (x : Int32), i ≤ n → n < i + k → fc_X g l yX3_overOf cX3_overOf 4 (some .int) 2 n0 s0 (cR M S U β w) 4 [some (.ref (fc_B g + β)), some (.int b), some (.int x), some (.int (nI i))] [] (fc_re (ovW w b n k i x) (cR M S U β w)) := by
  intro k
  induction k with
  | zero => intro i x h1 h2; omega
  | succ k ih =>
    intro i x h1 h2
    refine x_iload_n dX3_overOf_4 rfl ?_
    refine x_aload_n dX3_overOf_5 rfl ?_
    refine k_tget 2 hL dX3_overOf_6 (by decide) q351 ?_
    refine x_top hw ?_
    refine x_icmpN_ge (tgt := 39) dX3_overOf_9 (by decide) (by omega) (by omega) (fun hc9 => ?_) (fun hc9 => ?_)
    · refine x_iload_n dX3_overOf_39 rfl ?_
      rw [ovW, if_neg (Nat.not_lt.mpr hc9)]
      exact x_iret dX3_overOf_40 rfl rfl fc_re.of
    · refine x_iload_n dX3_overOf_12 rfl ?_
      refine x_iload_n dX3_overOf_13 rfl ?_
      refine x_iload_n dX3_overOf_14 rfl ?_
      refine x_icmp_ne (tgt := 22) dX3_overOf_15 (by decide) (fun hc15 => ?_) (fun hc15 => ?_)
      · refine x_aload_n dX3_overOf_22 rfl ?_
        refine k_people 0 rfl hL dX3_overOf_23 q347 ?_
        refine x_iload_n dX3_overOf_26 rfl ?_
        refine k_pald hL dX3_overOf_27 (by omega) ?_
        refine k_V0iP hL (by omega) dX3_overOf_28 kG_X3_X4_over kP_X4_over rfl (by omega) (by decide) (Nat.le_of_ble_eq_true rfl) (d_over hL (by omega)) ?_
        refine x_iadd dX3_overOf_31 ?_
        refine x_istore_n dX3_overOf_32 (by decide) rfl ?_
        refine x_iincN (n := 1) dX3_overOf_33 (by decide) rfl (by decide) rfl ?_
        refine x_goto (tgt := 4) dX3_overOf_36 (by decide) ?_
        rw [ovW, if_pos hc9, if_neg hc15]
        exact ih (i + 1) _ (by omega) (by omega)
      · refine x_ic0 dX3_overOf_18 ?_
        refine x_goto (tgt := 31) dX3_overOf_19 (by decide) ?_
        refine x_iadd dX3_overOf_31 ?_
        refine x_istore_n dX3_overOf_32 (by decide) rfl ?_
        refine x_iincN (n := 1) dX3_overOf_33 (by decide) rfl (by decide) rfl ?_
        refine x_goto (tgt := 4) dX3_overOf_36 (by decide) ?_
        rw [ovW, if_pos hc9, if_pos hc15]
        exact ih (i + 1) _ (by omega) (by omega)
set_option maxHeartbeats 1000000 in
theorem d_overOf (hL : LT g M β) {n : Nat} (hn : n ≤ 60) (hw : w 2 = nI n) {b : Int32} : fc_CX g l yX3_overOf cX3_overOf 4 (some .int) 2 [.ref (fc_B g + β), .int b] (cR M S U β w) (fc_re (ovW w b n (n + 1) 0 (nI 0)) (cR M S U β w)) := by
  refine fc_enter (by decide) (Nat.le_of_ble_eq_true rfl) rfl ?_
  refine x_ic0 dX3_overOf_0 ?_
  refine x_istore_n dX3_overOf_1 (by decide) rfl ?_
  refine x_ic0 dX3_overOf_2 ?_
  refine x_istore_n dX3_overOf_3 (by decide) rfl ?_
  exact m_overOf hL hn hw (n + 1) 0 (nI 0) (by omega) (by omega)
end T91
