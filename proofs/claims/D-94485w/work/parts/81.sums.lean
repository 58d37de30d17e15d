set_option maxRecDepth 100000
section T81
variable {g : fc_G} {l : Launch} {M : fc_M} {T : tT} {w : Nat → Int32} {E : tEn}
theorem rO.bd {T0 T1 : tT} {q0 q1 : tTk} {n dep j : Nat} {ps : tLs} (h : rO E T0 q0 n dep j (q1, ps) T1) : q0.1 + ps.length + j ≤ q1.1 := h.2.2.2.2.2.2
theorem c_nextO (hM : tw0 + 17 ≤ fc_nx M) {T0 : tT} {q0 q1 : tTk} {n dep j : Nat} {ps : tLs} (h : rO E T0 q0 n dep j (q1, ps) T) (hc : q1.2.2.1 ≠ nI 0) : fc_CX g l yX6_next0 cX6_next0 3 (none) 8 [.ref (fc_B g + tw0)] (tv g M T w) (tv_q g M w (rO E T0 q0 n dep (j + 1) (nxt E q1, ps))) := by
  obtain ⟨o, M2, ho, hC⟩ := c_next0 (g := g) (l := l) (w := w) hM (t := E.2.2) h.2.1.2.2.1 h.2.1.2.2.2 (a := q1.2.1) h.2.2.1.1 h.tk.2.1
  refine ⟨o, M2, ?_, hC⟩
  obtain ⟨h1, T2, w2, e, h2, h3⟩ := ho
  refine ⟨h1, T2, w2, e, ?_, h3⟩
  have h4 : tSk T (nxK (T 0 11) (T 7) E.2.2 q1.2.1 (T 0 20)) = tSk T (nxt E q1) := by rw [h.2.1.1, h.2.1.2.1, h.val]; rfl
  rw [h2, h4]
  exact h.next hc
theorem c_layO (hM : tw0 + 17 ≤ fc_nx M) {T0 : tT} {q0 q1 : tTk} {n dep j : Nat} {ps : tLs} {x y : Int32} (h : rO E T0 q0 n dep (j + 1) (q1, ps) T) : fc_CX g l yX6_lay cX6_lay 3 (none) 1 [.ref (fc_B g + tw0), .int x, .int y] (tv g M T w) (tv_q g M w (rO E T0 q0 n dep j (q1, ps ++ [(x, y)]))) := by
  have hl := h.le
  obtain ⟨o, M2, ho, hC⟩ := c_lay (g := g) (l := l) (w := w) hM (s := n + ps.length) h.stp (by omega) (x := x) (y := y)
  refine ⟨o, M2, ?_, hC⟩
  obtain ⟨h1, T2, w2, e, h2, h3⟩ := ho
  refine ⟨h1, T2, w2, e, ?_, h3⟩
  rw [h2]
  exact h.lay
theorem c_badO (hM : tw0 + 17 ≤ fc_nx M) {T0 : tT} {q0 q1 : tTk} {n dep j : Nat} {ps : tLs} {x : Int32} (h : rO E T0 q0 n dep j (q1, ps) T) : fc_CX g l yX6_bad cX6_bad 2 (some .boolean) 1 [.ref (fc_B g + tw0), .int x] (tv g M T w) (tv_p g M w (fun r T2 => r = nI 0 ∧ rE T0 (x, q1.1) T2)) := by
  obtain ⟨o, M2, ho, hC⟩ := c_bad (g := g) (l := l) (T := T) (w := w) hM (x := x)
  refine ⟨o, M2, ?_, hC⟩
  obtain ⟨r, h1, T2, w2, e, hr, h2, h3⟩ := ho
  refine ⟨r, h1, T2, w2, e, ⟨hr, ?_⟩, h3⟩
  rw [h2]
  refine ⟨h.1.trans ⟨fun a k h5 h0 => ?_, fun k hk => ?_⟩, ?_, ?_⟩
  · simp [tu, h0]
  · have e1 : k ≠ 21 := by omega
    have e2 : k ≠ 22 := by omega
    simp [tu, e1, e2]
  · simp [tu]
  · rw [← h.2.2.1.2.2.1]
    simp [tu]
theorem tS_lay {q : tTk} {a b : Nat} {x y z : Int32} : tSk (tu (tu (tu T 5 a x) 5 b y) 0 13 z) q = tu (tu (tu (tSk T q) 5 a x) 5 b y) 0 13 z := by
  funext i k
  by_cases h : i = 0
  · subst h
    by_cases h1 : k = 13
    · subst h1; rfl
    · simp [tSk, tS4, tu, h1]
  · simp [tSk, tS4, tu, h]
theorem rO.unit {q : tTk} {n dep : Nat} {x : Int32} (h : rI E T q n dep) (hc : q.2.2.1 ≠ nI 0) : rO E T q n dep 0 (nxt E q, [(x, q.2.2.2)]) (tSk (tu (tu (tu T 5 (2 * n) x) 5 (2 * n + 1) q.2.2.2) 0 13 (nI (n + 1))) (nxt E q)) := by
  rw [tS_lay]
  exact (h.next hc).lay (x := x) (y := q.2.2.2)
theorem kG_X6_X6_lay : GoodIn lw_all (wsV RX6 180 RX6 yX6_lay (ws_ yX6_lay cX6_lay 3 (none))) := lw_V q1333 q1335 qs61 q124 q1336
theorem kP_X6_lay : kPar yX6_lay 2 := by decide +kernel
theorem kG_X6_X6_next0 : GoodIn lw_all (wsV RX6 167 RX6 yX6_next0 (ws_ yX6_next0 cX6_next0 3 (none))) := lw_V q1263 q1265 qs50 q124 q1266
theorem kP_X6_next0 : kPar yX6_next0 0 := by decide +kernel
theorem kG_X6_X6_bad : GoodIn lw_all (wsV RX6 164 RX6 yX6_bad (ws_ yX6_bad cX6_bad 2 (some .boolean))) := lw_V q1317 q1319 qs57 q124 q1320
theorem kP_X6_bad : kPar yX6_bad 1 := by decide +kernel
set_option maxHeartbeats 1000000 in
theorem c_unit (hM : tw0 + 17 ≤ fc_nx M) {q : tTk} {n dep : Nat} (h : rI E T q n dep) : fc_CX g l yX6_unit cX6_unit 2 (some .boolean) 9 [.ref (fc_B g + tw0)] (tv g M T w) (tv_p g M w (rP E T q n dep (pUn E q))) := by
  refine fc_enter (by decide) (Nat.le_of_ble_eq_true rfl) rfl ?_
  refine x_aload_n dX6_unit_0 rfl ?_
  refine v_geti 18 hM dX6_unit_1 (by decide) rfl q1148 ?_
  refine x_top h.tok ?_
  refine x_bipush (v := nI 41) dX6_unit_4 (by decide) ?_
  refine x_bipush (v := nI 50) dX6_unit_6 (by decide) ?_
  refine v_S3ie dX6_unit_8 kG_X6_X6_isIn kP_X6_isIn (by omega) (by decide) (Nat.le_of_ble_eq_true rfl) c_isIn ?_
  refine x_istore_n dX6_unit_11 (by decide) rfl ?_
  refine x_aload_n dX6_unit_12 rfl ?_
  refine v_geti 18 hM dX6_unit_13 (by decide) rfl q1148 ?_
  refine x_top h.tok ?_
  refine x_ic2 dX6_unit_16 ?_
  refine x_icmp_eq (tgt := 30) dX6_unit_17 (by decide) (fun hc17 => ?_) (fun hc17 => ?_)
  · refine x_aload_n dX6_unit_30 rfl ?_
    refine x_iload_n dX6_unit_31 rfl ?_
    refine x_ifB_eq (tgt := 45) dX6_unit_32 (by decide) (fun hc32 => ?_) (fun hc32 => ?_)
    · refine x_ic0 dX6_unit_45 ?_
      refine x_aload_n dX6_unit_46 rfl ?_
      refine v_geti 20 hM dX6_unit_47 (by decide) rfl q1150 ?_
      refine x_top h.val ?_
      have h8 := h.le
      refine v_V2ve hM dX6_unit_50 kG_X6_X6_lay kP_X6_lay rfl (by omega) (by decide) (Nat.le_of_ble_eq_true rfl) (c_lay hM (s := n) h.stp (by omega)) ?_
      refine x_aload_n dX6_unit_53 rfl ?_
      have hc0 : q.2.2.1 ≠ nI 0 := by rw [hc17]; decide
      refine v_V0ve hM dX6_unit_54 kG_X6_X6_next0 kP_X6_next0 rfl (by omega) (by decide) (Nat.le_of_ble_eq_true rfl) (c_next0 (T := tu (tu (tu T 5 (2 * n) (nI 0)) 5 (2 * n + 1) q.2.2.2) 0 13 (nI (n + 1))) (w := w) hM (t := E.2.2) h.2.1.2.2.1 h.2.1.2.2.2 (a := q.2.1) h.2.2.1.1 h.tk.2.1) ?_
      refine x_ic1 dX6_unit_57 ?_
      have h4 : tSk (tu (tu (tu T 5 (2 * n) (nI 0)) 5 (2 * n + 1) q.2.2.2) 0 13 (nI (n + 1))) (nxK ((tu (tu (tu T 5 (2 * n) (nI 0)) 5 (2 * n + 1) q.2.2.2) 0 13 (nI (n + 1))) 0 11) ((tu (tu (tu T 5 (2 * n) (nI 0)) 5 (2 * n + 1) q.2.2.2) 0 13 (nI (n + 1))) 7) E.2.2 q.2.1 ((tu (tu (tu T 5 (2 * n) (nI 0)) 5 (2 * n + 1) q.2.2.2) 0 13 (nI (n + 1))) 0 20)) = tSk (tu (tu (tu T 5 (2 * n) (nI 0)) 5 (2 * n + 1) q.2.2.2) 0 13 (nI (n + 1))) (nxt E q) := by
        show tSk (tu (tu (tu T 5 (2 * n) (nI 0)) 5 (2 * n + 1) q.2.2.2) 0 13 (nI (n + 1))) (nxK (T 0 11) (T 7) E.2.2 q.2.1 (T 0 20)) = _
        rw [h.2.1.1, h.2.1.2.1, h.val]
        rfl
      refine x_eqM (congrArg (fun z => tv g M z w) h4) ?_
      exact x_iret dX6_unit_58 rfl (by rfl) (tv_pe (rP_k (by rw [pUn, if_pos hc17]) (rO.unit h hc0)))
    · exact absurd (hc17 ▸ hc32 : isNm (nI 2)) (by decide)
  · refine x_iload_n dX6_unit_20 rfl ?_
    refine x_ifB_ne (tgt := 30) dX6_unit_21 (by decide) (fun hc21 => ?_) (fun hc21 => ?_)
    · refine x_aload_n dX6_unit_30 rfl ?_
      refine x_iload_n dX6_unit_31 rfl ?_
      refine x_ifB_eq (tgt := 45) dX6_unit_32 (by decide) (fun hc32 => ?_) (fun hc32 => ?_)
      · exact absurd hc21 hc32
      · refine x_aload_n dX6_unit_35 rfl ?_
        refine v_geti 18 hM dX6_unit_36 (by decide) rfl q1148 ?_
        refine x_top h.tok ?_
        refine x_bipush (v := nI 40) dX6_unit_39 (by decide) ?_
        refine x_isub dX6_unit_41 ?_
        refine x_goto (tgt := 46) dX6_unit_42 (by decide) ?_
        refine x_aload_n dX6_unit_46 rfl ?_
        refine v_geti 20 hM dX6_unit_47 (by decide) rfl q1150 ?_
        refine x_top h.val ?_
        have h8 := h.le
        refine v_V2ve hM dX6_unit_50 kG_X6_X6_lay kP_X6_lay rfl (by omega) (by decide) (Nat.le_of_ble_eq_true rfl) (c_lay hM (s := n) h.stp (by omega)) ?_
        refine x_aload_n dX6_unit_53 rfl ?_
        have hc0 : q.2.2.1 ≠ nI 0 := fun z => absurd (z ▸ hc21 : isNm (nI 0)) (by decide)
        refine v_V0ve hM dX6_unit_54 kG_X6_X6_next0 kP_X6_next0 rfl (by omega) (by decide) (Nat.le_of_ble_eq_true rfl) (c_next0 (T := tu (tu (tu T 5 (2 * n) (q.2.2.1 - nI 40)) 5 (2 * n + 1) q.2.2.2) 0 13 (nI (n + 1))) (w := w) hM (t := E.2.2) h.2.1.2.2.1 h.2.1.2.2.2 (a := q.2.1) h.2.2.1.1 h.tk.2.1) ?_
        refine x_ic1 dX6_unit_57 ?_
        have h4 : tSk (tu (tu (tu T 5 (2 * n) (q.2.2.1 - nI 40)) 5 (2 * n + 1) q.2.2.2) 0 13 (nI (n + 1))) (nxK ((tu (tu (tu T 5 (2 * n) (q.2.2.1 - nI 40)) 5 (2 * n + 1) q.2.2.2) 0 13 (nI (n + 1))) 0 11) ((tu (tu (tu T 5 (2 * n) (q.2.2.1 - nI 40)) 5 (2 * n + 1) q.2.2.2) 0 13 (nI (n + 1))) 7) E.2.2 q.2.1 ((tu (tu (tu T 5 (2 * n) (q.2.2.1 - nI 40)) 5 (2 * n + 1) q.2.2.2) 0 13 (nI (n + 1))) 0 20)) = tSk (tu (tu (tu T 5 (2 * n) (q.2.2.1 - nI 40)) 5 (2 * n + 1) q.2.2.2) 0 13 (nI (n + 1))) (nxt E q) := by
          show tSk (tu (tu (tu T 5 (2 * n) (q.2.2.1 - nI 40)) 5 (2 * n + 1) q.2.2.2) 0 13 (nI (n + 1))) (nxK (T 0 11) (T 7) E.2.2 q.2.1 (T 0 20)) = _
          rw [h.2.1.1, h.2.1.2.1, h.val]
          rfl
        refine x_eqM (congrArg (fun z => tv g M z w) h4) ?_
        exact x_iret dX6_unit_58 rfl (by rfl) (tv_pe (rP_k (by rw [pUn, if_neg hc17, if_pos hc21]) (rO.unit h hc0)))
    · refine x_aload_n dX6_unit_24 rfl ?_
      refine x_ic1 dX6_unit_25 ?_
      refine y_V1p hM dX6_unit_26 kG_X6_X6_bad kP_X6_bad rfl (by omega) (by decide) (Nat.le_of_ble_eq_true rfl) (c_badO hM h) (fun r1 T1 hp1 => ?_)
      obtain ⟨hr1, hE1⟩ := hp1
      subst hr1
      exact x_iret dX6_unit_29 rfl (by rfl) (tv_pe (rP_e (by rw [pUn, if_neg hc17, if_neg hc21]) (hE1)))
theorem kG_X6_X6_unit : GoodIn lw_all (wsV RX6 184 RX6 yX6_unit (ws_ yX6_unit cX6_unit 2 (some .boolean))) := lw_V q1329 q1331 qs60 q124 q1332
theorem kP_X6_unit : kPar yX6_unit 0 := by decide +kernel
set_option maxHeartbeats 1000000 in
theorem l_product {n0 s0 : Nat} (hM : tw0 + 17 ≤ fc_nx M) {q0 : tTk} {n dep : Nat} : ∀ (k : Nat) (T1 : tT) (q : tTk) (ps : tLs) (o1 o2 : Option Value), rO E T q0 n dep 0 (q, ps) T1 → E.2.2 < q.1 + k → fc_X g l yX6_product cX6_product 3 (some .boolean) 10 n0 s0 (tv g M T1 w) 9 [some (.ref (fc_B g + tw0)), o1, o2] [] (tv_p g M w (rP E T q0 n dep (pPL E k q ps))) := by
  intro k
  induction k with
  | zero => intro T1 q ps o1 o2 h hk; have h8 := h.le; omega
  | succ k ih =>
    intro T1 q ps o1 o2 h hk
    refine x_aload_n dX6_product_9 rfl ?_
    refine v_geti 18 hM dX6_product_10 (by decide) rfl q1148 ?_
    refine x_top h.tok ?_
    refine x_sipush (v := nI 142) dX6_product_13 (by decide) ?_
    refine x_icmp_eq (tgt := 29) dX6_product_16 (by decide) (fun hc16 => ?_) (fun hc16 => ?_)
    · refine x_aload_n dX6_product_29 rfl ?_
      refine v_geti 18 hM dX6_product_30 (by decide) rfl q1148 ?_
      refine x_top h.tok ?_
      refine x_sipush (v := nI 147) dX6_product_33 (by decide) ?_
      refine x_icmp_ne (tgt := 43) dX6_product_36 (by decide) (fun hc36 => ?_) (fun hc36 => ?_)
      · refine x_ic0 dX6_product_43 ?_
        refine x_istore_n dX6_product_44 (by decide) rfl ?_
        refine x_aload_n dX6_product_45 rfl ?_
        have b2 := nxt_lt h.tk (by rw [hc16]; decide)
        refine y_V0q hM dX6_product_46 kG_X6_X6_next0 kP_X6_next0 rfl (by omega) (by decide) (Nat.le_of_ble_eq_true rfl) (c_nextO hM h (by rw [hc16]; decide)) (fun T2 h2 => ?_)
        refine x_iload_n dX6_product_49 rfl ?_
        refine x_ifN_eq (tgt := 96) dX6_product_50 (by decide) (by decide) (fun _ => ?_) (fun hc50 => absurd hc50 (by decide))
        refine x_aload_n dX6_product_96 rfl ?_
        refine y_V0p hM dX6_product_97 kG_X6_X6_unit kP_X6_unit rfl (by omega) (by decide) (Nat.le_of_ble_eq_true rfl) (c_unit hM h2.self) (fun r3 T3 hp3 => ?_)
        rcases rP_or hp3 with ⟨e3, hR3, hr3, hE3⟩ | ⟨q3, ps3, hR3, hr3, hO3⟩
        · subst hr3
          refine x_ifN_ne (tgt := 105) dX6_product_100 (by decide) (by decide) (fun hc100 => absurd hc100 (by decide)) (fun _ => ?_)
          refine x_ic0 dX6_product_103 ?_
          exact x_iret dX6_product_104 rfl (by rfl) (tv_pe (rP_e (by rw [pPL, if_neg hc36, if_pos hc16, bindR_e hR3]) (rE.comp h2.1 hE3)))
        · subst hr3
          have b3 := hO3.bd
          have h3 := h2.comp hO3
          refine x_ifN_ne (tgt := 105) dX6_product_100 (by decide) (by decide) (fun _ => ?_) (fun hc100 => absurd hc100 (by decide))
          refine x_aload_n dX6_product_105 rfl ?_
          refine x_bipush (v := nI 15) dX6_product_106 (by decide) ?_
          refine x_ic0 dX6_product_108 ?_
          refine y_V2q hM dX6_product_109 kG_X6_X6_lay kP_X6_lay rfl (by omega) (by decide) (Nat.le_of_ble_eq_true rfl) (c_layO hM h3) (fun T4 h4 => ?_)
          refine x_goto (tgt := 9) dX6_product_112 (by decide) ?_
          rw [pPL, if_neg hc36, if_pos hc16, bindR_k hR3]
          exact ih _ q3 _ _ _ h4 (by omega)
      · exact absurd (hc16.symm.trans hc36) (by decide)
    · refine x_aload_n dX6_product_19 rfl ?_
      refine v_geti 18 hM dX6_product_20 (by decide) rfl q1148 ?_
      refine x_top h.tok ?_
      refine x_sipush (v := nI 147) dX6_product_23 (by decide) ?_
      refine x_icmp_ne (tgt := 115) dX6_product_26 (by decide) (fun hc26 => ?_) (fun hc26 => ?_)
      · refine x_ic1 dX6_product_115 ?_
        exact x_iret dX6_product_116 rfl (by rfl) (tv_pe (rP_k (by rw [pPL, if_neg hc26, if_neg hc16]) h))
      · refine x_aload_n dX6_product_29 rfl ?_
        refine v_geti 18 hM dX6_product_30 (by decide) rfl q1148 ?_
        refine x_top h.tok ?_
        refine x_sipush (v := nI 147) dX6_product_33 (by decide) ?_
        refine x_icmp_ne (tgt := 43) dX6_product_36 (by decide) (fun hc36 => ?_) (fun hc36 => ?_)
        · exact absurd hc26 hc36
        · refine x_ic1 dX6_product_39 ?_
          refine x_goto (tgt := 44) dX6_product_40 (by decide) ?_
          refine x_istore_n dX6_product_44 (by decide) rfl ?_
          refine x_aload_n dX6_product_45 rfl ?_
          have b2 := nxt_lt h.tk (by rw [hc26]; decide)
          refine y_V0q hM dX6_product_46 kG_X6_X6_next0 kP_X6_next0 rfl (by omega) (by decide) (Nat.le_of_ble_eq_true rfl) (c_nextO hM h (by rw [hc26]; decide)) (fun T2 h2 => ?_)
          refine x_iload_n dX6_product_49 rfl ?_
          refine x_ifN_eq (tgt := 96) dX6_product_50 (by decide) (by decide) (fun hc50 => absurd hc50 (by decide)) (fun _ => ?_)
          refine x_aload_n dX6_product_53 rfl ?_
          refine v_geti 20 hM dX6_product_54 (by decide) rfl q1150 ?_
          refine x_top h2.val ?_
          refine x_istore_n dX6_product_57 (by decide) rfl ?_
          refine x_aload_n dX6_product_58 rfl ?_
          refine v_geti 18 hM dX6_product_59 (by decide) rfl q1148 ?_
          refine x_top h2.tok ?_
          refine x_ic2 dX6_product_62 ?_
          refine x_icmp_eq (tgt := 72) dX6_product_63 (by decide) (fun hc63 => ?_) (fun hc63 => ?_)
          · refine x_iload_n dX6_product_72 rfl ?_
            refine x_if_ne (tgt := 82) dX6_product_73 (by decide) (fun hc73 => ?_) (fun hc73 => ?_)
            · refine x_aload_n dX6_product_82 rfl ?_
              have b3 := nxt_lt h2.tk (by rw [hc63]; decide)
              refine y_V0q hM dX6_product_83 kG_X6_X6_next0 kP_X6_next0 rfl (by omega) (by decide) (Nat.le_of_ble_eq_true rfl) (c_nextO hM h2 (by rw [hc63]; decide)) (fun T3 h3 => ?_)
              refine x_aload_n dX6_product_86 rfl ?_
              refine x_bipush (v := nI 16) dX6_product_87 (by decide) ?_
              refine x_iload_n dX6_product_89 rfl ?_
              refine y_V2q hM dX6_product_90 kG_X6_X6_lay kP_X6_lay rfl (by omega) (by decide) (Nat.le_of_ble_eq_true rfl) (c_layO hM h3) (fun T4 h4 => ?_)
              refine x_goto (tgt := 112) dX6_product_93 (by decide) ?_
              refine x_goto (tgt := 9) dX6_product_112 (by decide) ?_
              rw [pPL, if_pos hc26, if_pos hc63, if_neg hc73]
              exact ih _ _ _ _ _ (h4.less) (by omega)
            · refine x_aload_n dX6_product_76 rfl ?_
              refine x_ic2 dX6_product_77 ?_
              refine y_V1p hM dX6_product_78 kG_X6_X6_bad kP_X6_bad rfl (by omega) (by decide) (Nat.le_of_ble_eq_true rfl) (c_badO hM h2) (fun r3 T3 hp3 => ?_)
              obtain ⟨hr3, hE3⟩ := hp3
              subst hr3
              exact x_iret dX6_product_81 rfl (by rfl) (tv_pe (rP_e (by rw [pPL, if_pos hc26, if_pos hc63, if_pos hc73]) (hE3)))
          · refine x_aload_n dX6_product_66 rfl ?_
            refine x_ic1 dX6_product_67 ?_
            refine y_V1p hM dX6_product_68 kG_X6_X6_bad kP_X6_bad rfl (by omega) (by decide) (Nat.le_of_ble_eq_true rfl) (c_badO hM h2) (fun r3 T3 hp3 => ?_)
            obtain ⟨hr3, hE3⟩ := hp3
            subst hr3
            exact x_iret dX6_product_71 rfl (by rfl) (tv_pe (rP_e (by rw [pPL, if_pos hc26, if_neg hc63]) (hE3)))
set_option maxHeartbeats 1000000 in
theorem c_product (hM : tw0 + 17 ≤ fc_nx M) {q : tTk} {n dep : Nat} (h : rI E T q n dep) : fc_CX g l yX6_product cX6_product 3 (some .boolean) 10 [.ref (fc_B g + tw0)] (tv g M T w) (tv_p g M w (rP E T q n dep (pPr E q))) := by
  refine fc_enter (by decide) (Nat.le_of_ble_eq_true rfl) rfl ?_
  refine x_aload_n dX6_product_0 rfl ?_
  refine y_V0p hM dX6_product_1 kG_X6_X6_unit kP_X6_unit rfl (by omega) (by decide) (Nat.le_of_ble_eq_true rfl) (c_unit hM h) (fun r1 T1 hp1 => ?_)
  rcases rP_or hp1 with ⟨e1, hR1, hr1, hE1⟩ | ⟨q1, ps1, hR1, hr1, hO1⟩
  · subst hr1
    refine x_ifN_ne (tgt := 9) dX6_product_4 (by decide) (by decide) (fun hc4 => absurd hc4 (by decide)) (fun _ => ?_)
    refine x_ic0 dX6_product_7 ?_
    exact x_iret dX6_product_8 rfl (by rfl) (tv_pe (rP_e (bindR_e hR1) hE1))
  · subst hr1
    have b1 := hO1.bd
    refine x_ifN_ne (tgt := 9) dX6_product_4 (by decide) (by decide) (fun _ => ?_) (fun hc4 => absurd hc4 (by decide))
    have h8 := hO1.le
    rw [show pPr E q = pPL E 401 q1 ps1 from bindR_k hR1]
    exact l_product hM 401 _ _ _ _ _ hO1 (by omega)
theorem kG_X6_X6_product : GoodIn lw_all (wsV RX6 176 RX6 yX6_product (ws_ yX6_product cX6_product 3 (some .boolean))) := lw_V q1325 q1327 qs59 q124 q1328
theorem kP_X6_product : kPar yX6_product 0 := by decide +kernel
set_option maxHeartbeats 1000000 in
theorem l_sumUp {n0 s0 : Nat} (hM : tw0 + 17 ≤ fc_nx M) {q0 : tTk} {n dep : Nat} : ∀ (k : Nat) (T1 : tT) (q : tTk) (ps : tLs) (o1 : Option Value), rO E T q0 n dep 0 (q, ps) T1 → E.2.2 < q.1 + k → fc_X g l yX6_sumUp cX6_sumUp 2 (some .boolean) 11 n0 s0 (tv g M T1 w) 9 [some (.ref (fc_B g + tw0)), o1] [] (tv_p g M w (rP E T q0 n dep (pSL E k q ps))) := by
  intro k
  induction k with
  | zero => intro T1 q ps o1 h hk; have h8 := h.le; omega
  | succ k ih =>
    intro T1 q ps o1 h hk
    refine x_aload_n dX6_sumUp_9 rfl ?_
    refine v_geti 18 hM dX6_sumUp_10 (by decide) rfl q1148 ?_
    refine x_top h.tok ?_
    refine x_sipush (v := nI 143) dX6_sumUp_13 (by decide) ?_
    refine x_icmp_eq (tgt := 29) dX6_sumUp_16 (by decide) (fun hc16 => ?_) (fun hc16 => ?_)
    · refine x_aload_n dX6_sumUp_29 rfl ?_
      refine v_geti 18 hM dX6_sumUp_30 (by decide) rfl q1148 ?_
      refine x_top h.tok ?_
      refine x_sipush (v := nI 143) dX6_sumUp_33 (by decide) ?_
      refine x_icmp_ne (tgt := 44) dX6_sumUp_36 (by decide) (fun hc36 => ?_) (fun hc36 => ?_)
      · exact absurd hc16 hc36
      · refine x_bipush (v := nI 13) dX6_sumUp_39 (by decide) ?_
        refine x_goto (tgt := 46) dX6_sumUp_41 (by decide) ?_
        refine x_istore_n dX6_sumUp_46 (by decide) rfl ?_
        refine x_aload_n dX6_sumUp_47 rfl ?_
        have b2 := nxt_lt h.tk (by rw [hc16]; decide)
        refine y_V0q hM dX6_sumUp_48 kG_X6_X6_next0 kP_X6_next0 rfl (by omega) (by decide) (Nat.le_of_ble_eq_true rfl) (c_nextO hM h (by rw [hc16]; decide)) (fun T2 h2 => ?_)
        refine x_aload_n dX6_sumUp_51 rfl ?_
        refine y_V0p hM dX6_sumUp_52 kG_X6_X6_product kP_X6_product rfl (by omega) (by decide) (Nat.le_of_ble_eq_true rfl) (c_product hM h2.self) (fun r3 T3 hp3 => ?_)
        rcases rP_or hp3 with ⟨e3, hR3, hr3, hE3⟩ | ⟨q3, ps3, hR3, hr3, hO3⟩
        · subst hr3
          refine x_ifN_ne (tgt := 60) dX6_sumUp_55 (by decide) (by decide) (fun hc55 => absurd hc55 (by decide)) (fun _ => ?_)
          refine x_ic0 dX6_sumUp_58 ?_
          exact x_iret dX6_sumUp_59 rfl (by rfl) (tv_pe (rP_e (by rw [pSL, if_pos hc16, bindR_e hR3]) (rE.comp h2.1 hE3)))
        · subst hr3
          have b3 := hO3.bd
          have h3 := h2.comp hO3
          refine x_ifN_ne (tgt := 60) dX6_sumUp_55 (by decide) (by decide) (fun _ => ?_) (fun hc55 => absurd hc55 (by decide))
          refine x_aload_n dX6_sumUp_60 rfl ?_
          refine x_iload_n dX6_sumUp_61 rfl ?_
          refine x_ic0 dX6_sumUp_62 ?_
          refine y_V2q hM dX6_sumUp_63 kG_X6_X6_lay kP_X6_lay rfl (by omega) (by decide) (Nat.le_of_ble_eq_true rfl) (c_layO hM h3) (fun T4 h4 => ?_)
          refine x_goto (tgt := 9) dX6_sumUp_66 (by decide) ?_
          rw [pSL, if_pos hc16, bindR_k hR3]
          exact ih _ q3 _ _ h4 (by omega)
    · refine x_aload_n dX6_sumUp_19 rfl ?_
      refine v_geti 18 hM dX6_sumUp_20 (by decide) rfl q1148 ?_
      refine x_top h.tok ?_
      refine x_sipush (v := nI 145) dX6_sumUp_23 (by decide) ?_
      refine x_icmp_ne (tgt := 69) dX6_sumUp_26 (by decide) (fun hc26 => ?_) (fun hc26 => ?_)
      · refine x_ic1 dX6_sumUp_69 ?_
        exact x_iret dX6_sumUp_70 rfl (by rfl) (tv_pe (rP_k (by rw [pSL, if_neg hc16, if_neg hc26]) h))
      · refine x_aload_n dX6_sumUp_29 rfl ?_
        refine v_geti 18 hM dX6_sumUp_30 (by decide) rfl q1148 ?_
        refine x_top h.tok ?_
        refine x_sipush (v := nI 143) dX6_sumUp_33 (by decide) ?_
        refine x_icmp_ne (tgt := 44) dX6_sumUp_36 (by decide) (fun hc36 => ?_) (fun hc36 => ?_)
        · refine x_bipush (v := nI 14) dX6_sumUp_44 (by decide) ?_
          refine x_istore_n dX6_sumUp_46 (by decide) rfl ?_
          refine x_aload_n dX6_sumUp_47 rfl ?_
          have b2 := nxt_lt h.tk (by rw [hc26]; decide)
          refine y_V0q hM dX6_sumUp_48 kG_X6_X6_next0 kP_X6_next0 rfl (by omega) (by decide) (Nat.le_of_ble_eq_true rfl) (c_nextO hM h (by rw [hc26]; decide)) (fun T2 h2 => ?_)
          refine x_aload_n dX6_sumUp_51 rfl ?_
          refine y_V0p hM dX6_sumUp_52 kG_X6_X6_product kP_X6_product rfl (by omega) (by decide) (Nat.le_of_ble_eq_true rfl) (c_product hM h2.self) (fun r3 T3 hp3 => ?_)
          rcases rP_or hp3 with ⟨e3, hR3, hr3, hE3⟩ | ⟨q3, ps3, hR3, hr3, hO3⟩
          · subst hr3
            refine x_ifN_ne (tgt := 60) dX6_sumUp_55 (by decide) (by decide) (fun hc55 => absurd hc55 (by decide)) (fun _ => ?_)
            refine x_ic0 dX6_sumUp_58 ?_
            exact x_iret dX6_sumUp_59 rfl (by rfl) (tv_pe (rP_e (by rw [pSL, if_neg hc16, if_pos hc26, bindR_e hR3]) (rE.comp h2.1 hE3)))
          · subst hr3
            have b3 := hO3.bd
            have h3 := h2.comp hO3
            refine x_ifN_ne (tgt := 60) dX6_sumUp_55 (by decide) (by decide) (fun _ => ?_) (fun hc55 => absurd hc55 (by decide))
            refine x_aload_n dX6_sumUp_60 rfl ?_
            refine x_iload_n dX6_sumUp_61 rfl ?_
            refine x_ic0 dX6_sumUp_62 ?_
            refine y_V2q hM dX6_sumUp_63 kG_X6_X6_lay kP_X6_lay rfl (by omega) (by decide) (Nat.le_of_ble_eq_true rfl) (c_layO hM h3) (fun T4 h4 => ?_)
            refine x_goto (tgt := 9) dX6_sumUp_66 (by decide) ?_
            rw [pSL, if_neg hc16, if_pos hc26, bindR_k hR3]
            exact ih _ q3 _ _ h4 (by omega)
        · exact absurd hc36 hc16
set_option maxHeartbeats 1000000 in
theorem c_sumUp (hM : tw0 + 17 ≤ fc_nx M) {q : tTk} {n dep : Nat} (h : rI E T q n dep) : fc_CX g l yX6_sumUp cX6_sumUp 2 (some .boolean) 11 [.ref (fc_B g + tw0)] (tv g M T w) (tv_p g M w (rP E T q n dep (pSu E q))) := by
  refine fc_enter (by decide) (Nat.le_of_ble_eq_true rfl) rfl ?_
  refine x_aload_n dX6_sumUp_0 rfl ?_
  refine y_V0p hM dX6_sumUp_1 kG_X6_X6_product kP_X6_product rfl (by omega) (by decide) (Nat.le_of_ble_eq_true rfl) (c_product hM h) (fun r1 T1 hp1 => ?_)
  rcases rP_or hp1 with ⟨e1, hR1, hr1, hE1⟩ | ⟨q1, ps1, hR1, hr1, hO1⟩
  · subst hr1
    refine x_ifN_ne (tgt := 9) dX6_sumUp_4 (by decide) (by decide) (fun hc4 => absurd hc4 (by decide)) (fun _ => ?_)
    refine x_ic0 dX6_sumUp_7 ?_
    exact x_iret dX6_sumUp_8 rfl (by rfl) (tv_pe (rP_e (bindR_e hR1) hE1))
  · subst hr1
    have b1 := hO1.bd
    refine x_ifN_ne (tgt := 9) dX6_sumUp_4 (by decide) (by decide) (fun _ => ?_) (fun hc4 => absurd hc4 (by decide))
    have h8 := hO1.le
    rw [show pSu E q = pSL E 401 q1 ps1 from bindR_k hR1]
    exact l_sumUp hM 401 _ _ _ _ hO1 (by omega)
end T81
