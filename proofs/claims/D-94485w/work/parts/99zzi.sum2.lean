set_option maxRecDepth 100000
section T99ZZI
variable {g : fc_G} {l : Launch} {M M0 : fc_M} {S S0 : tT} {U : tU} {E : tEn} {q : tTk}
theorem kG_X0_X0_unit : GoodIn lw_all (wsV RX0 233 RX0 yX0_unit (ws_ yX0_unit cX0_unit 2 (Option.some (Jvm.ClassFile.FieldType.object "FourCars$Term")))) := lw_V q733 q735 qs10 q118 q736
theorem kP_X0_unit : kPar yX0_unit 0 := by decide +kernel
theorem kG_X0_X0_product : GoodIn lw_all (wsV RX0 242 RX0 yX0_product (ws_ yX0_product cX0_product 3 (Option.some (Jvm.ClassFile.FieldType.object "FourCars$Term")))) := lw_V q729 q731 qs9 q118 q732
theorem kP_X0_product : kPar yX0_product 0 := by decide +kernel
theorem kG_X0_X0_sum : GoodIn lw_all (wsV RX0 269 RX0 yX0_sum (ws_ yX0_sum cX0_sum 3 (Option.some (Jvm.ClassFile.FieldType.object "FourCars$Term")))) := lw_V q725 q727 qs8 q118 q728
theorem kP_X0_sum : kPar yX0_sum 0 := by decide +kernel
theorem pUn_le {r : tTk × tLs} (hk : ctk g M S E q) (h : pUn E q = .ok r) : q.1 ≤ r.1.1 := by
  unfold pUn at h
  have hv := nxt_v hk.2.1
  have h1 := hk.2.1.1
  have h2 := hv.2
  by_cases c : q.2.2.1 = nI 2
  · rw [if_pos c] at h; cases h; show q.1 ≤ (nxt E q).1; omega
  · rw [if_neg c] at h
    by_cases c2 : isNm q.2.2.1
    · rw [if_pos c2] at h; cases h; show q.1 ≤ (nxt E q).1; omega
    · rw [if_neg c2] at h; cases h
set_option maxHeartbeats 1000000 in
theorem m_product {n0 s0 : Nat} (hF0 : LF g M0) (hW0 : WD g M0) (hE : ¬ E.1 = nI 3) {p0 dp : Nat} : ∀ (k a : Nat) (M : fc_M) (S : tT) (q : tTk) (ps : tLs) {o2 : Option Value}, LF g M → WD g M → ctk g M S E q → S 0 10 = nI dp → jw M0 S0 p0 0 M S q.1 → tmI g M S ps.length a ps → E.2.2 < q.1 + k → fc_X g l yX0_product cX0_product 3 (Option.some (Jvm.ClassFile.FieldType.object "FourCars$Term")) 9 n0 s0 (cl M S U) 5 [some (.ref (fc_B g + 0)), some (.ref (fc_B g + a)), o2] [] (rdP g M0 S0 U E p0 dp (pPL E k q ps)) := by
  intro k
  induction k with
  | zero => intro a M S q ps o2 hF hW hk h10 hj hA hfu; exfalso; have := hk.2.1.1; have := hk.2.1.2.1; omega
  | succ k ih =>
    intro a M S q ps o2 hF hW hk h10 hj hA hfu
    refine x_aload_n dX0_product_5 rfl ?_
    refine x_bipush (v := nI 42) dX0_product_6 (by decide) ?_
    refine k_V1iF hF dX0_product_8 kG_X0_X0_isSign kP_X0_isSign rfl (by omega) (by decide) (Nat.le_of_ble_eq_true rfl) (c_sign (c := 42) hF hk (by decide)) ?_
    refine x_ifB_ne (tgt := 23) dX0_product_11 (by decide) (fun hc11 => ?_) (fun hc11 => ?_)
    · refine x_aload_n dX0_product_23 rfl ?_
      refine q_geti 0 9 dX0_product_24 (C := RX0) (T := TX0) (N := 30) rfl (by decide) q404 (show 0 < fc_nx M by have := hF.1; omega) (hF.2.2 0 _ rfl) rfl (ctk_sv (c := 42) hk (by decide) hc11) ?_
      refine x_i2c (v := nI 42) dX0_product_27 (by decide) ?_
      refine x_istore_n dX0_product_28 (by decide) rfl ?_
      refine x_aload_n dX0_product_29 rfl ?_
      refine k_next hF hW hk (fun z => absurd (hc11.symm.trans z) (by decide)) dX0_product_30 kG_X0_X0_readNext (by omega) (Nat.le_of_ble_eq_true rfl) (fun M1 S1 hj1 hk1 h10b => ?_)
      have hF1 := LF_gw hF hj1.1
      have hW1 := WD_gw hF hW hj1.1
      have hA1 := tmI_gw (hF.2.2 0 _ rfl) hj1.1 _ _ _ hA
      have h10c := h10b.trans h10
      refine x_iload_n dX0_product_33 rfl ?_
      refine x_bipush (v := nI 47) dX0_product_34 (by decide) ?_
      refine x_icmpN_ne (tgt := 78) dX0_product_36 (by decide) (by omega) (by omega) (fun _ => ?_) (fun z => absurd z (by decide))
      have hc142 : ¬ q.2.2.1 = nI 147 := fun z => absurd (hc11.symm.trans z) (by decide)
      refine x_two (s := 42) (n4 := 1) hF1 hW1 hk1 h10c (hj.tr hj1) hA1 (by unfold isSn; decide) rfl rfl dX0_product_78 dX0_product_81 (fun h => x_iload_n dX0_product_82 rfl h) dX0_product_83 dX0_product_84 dX0_product_85 dX0_product_88 q732 kG_X0_X0_unit kP_X0_unit rfl (by omega) (by omega) (by decide) (Nat.le_of_ble_eq_true rfl) (fun M S h1 h2 h3 h4 => d_unit h1 h2 h3 hE h4) (fun r x M2 S2 hr hj2 hk2 h2 ht => ?_) (fun e x M2 S2 hr hj2 hf => ?_)
      · refine x_astore_n dX0_product_91 (by decide) rfl ?_
        refine x_goto (tgt := 5) dX0_product_92 (by decide) ?_
        rw [pPL, if_neg hc142, if_pos hc11, bindR_k hr]
        have hl2 := nxt_lt hk.2.1 (fun z => absurd (hc11.symm.trans z) (by decide))
        have hl3 : (nxt E q).1 ≤ r.1.1 := pUn_le hk1 hr
        exact ih x M2 S2 r.1 _ (LF_gw hF0 hj2.1) (WD_gw hF0 hW0 hj2.1) hk2 h2 hj2 (ht _ (Or.inr ⟨by unfold isSn; decide, rfl⟩)) (by omega)
      · exact rdP_e (by rw [pPL, if_neg hc142, if_pos hc11, bindR_e hr]) hj2 hf
    · refine x_aload_n dX0_product_14 rfl ?_
      refine x_bipush (v := nI 47) dX0_product_15 (by decide) ?_
      refine k_V1iF hF dX0_product_17 kG_X0_X0_isSign kP_X0_isSign rfl (by omega) (by decide) (Nat.le_of_ble_eq_true rfl) (c_sign (c := 47) hF hk (by decide)) ?_
      refine x_ifB_eq (tgt := 95) dX0_product_20 (by decide) (fun hc20 => ?_) (fun hc20 => ?_)
      · refine x_aload_n dX0_product_95 rfl ?_
        exact x_aret dX0_product_96 rfl (Or.inl ⟨_, rfl⟩) (Or.inr ⟨_, rfl⟩) (rdP_k (r := (q, ps)) (by rw [pPL, if_neg hc20, if_neg hc11]) hj hk h10 hA)
      · refine x_aload_n dX0_product_23 rfl ?_
        refine q_geti 0 9 dX0_product_24 (C := RX0) (T := TX0) (N := 30) rfl (by decide) q404 (show 0 < fc_nx M by have := hF.1; omega) (hF.2.2 0 _ rfl) rfl (ctk_sv (c := 47) hk (by decide) hc20) ?_
        refine x_i2c (v := nI 47) dX0_product_27 (by decide) ?_
        refine x_istore_n dX0_product_28 (by decide) rfl ?_
        refine x_aload_n dX0_product_29 rfl ?_
        refine k_next hF hW hk (fun z => absurd (hc20.symm.trans z) (by decide)) dX0_product_30 kG_X0_X0_readNext (by omega) (Nat.le_of_ble_eq_true rfl) (fun M1 S1 hj1 hk1 h10b => ?_)
        have hF1 := LF_gw hF hj1.1
        have hW1 := WD_gw hF hW hj1.1
        have hA1 := tmI_gw (hF.2.2 0 _ rfl) hj1.1 _ _ _ hA
        have h10c := h10b.trans h10
        refine x_iload_n dX0_product_33 rfl ?_
        refine x_bipush (v := nI 47) dX0_product_34 (by decide) ?_
        refine x_icmpN_ne (tgt := 78) dX0_product_36 (by decide) (by omega) (by omega) (fun z => absurd rfl z) (fun _ => ?_)
        obtain ⟨hT1, hV1, κ1, hB1, hR1⟩ := id hk1
        refine x_aload_n dX0_product_39 rfl ?_
        refine x_aload_n dX0_product_40 rfl ?_
        refine q_getr 0 6 dX0_product_41 (C := RX0) (T := TX0) (N := 30) rfl (by decide) q401 (show 0 < fc_nx M1 by have := hF1.1; omega) (hF1.2.2 0 _ rfl) rfl hB1.1 ?_
        refine x_tok 3 dX0_product_44 (by decide) rfl q593 ?_
        refine x_acmpT_ne (tgt := 54) dX0_product_47 (by decide) hB1.2.1 (by decide) (fun hκ => ?_) (fun hκ => ?_)
        · refine x_ic0 dX0_product_54 ?_
          rw [show nI 0 = bI False by decide]
          exact k_must hF1 hk1 q732 dX0_product_55 kG_X0_X0_must (by omega) (Nat.le_of_ble_eq_true rfl) (fun z => z.elim) (fun _ x M2 S2 h1 h2 => rdP_e (e := (nI 1, (nxt E q).1)) (by rw [pPL, if_pos hc20, if_neg (fun z => hκ ((tokR_num hR1).mpr z))]) ((hj.tr hj1).tre h1) h2)
        · refine x_ic1 dX0_product_50 ?_
          refine x_goto (tgt := 55) dX0_product_51 (by decide) ?_
          have hP := (tokR_num hR1).mp hκ
          rw [show nI 1 = bI True by decide]
          refine k_must hF1 hk1 q732 dX0_product_55 kG_X0_X0_must (by omega) (Nat.le_of_ble_eq_true rfl) (fun _ => ?_) (fun z => absurd trivial z)
          refine x_aload_n dX0_product_58 rfl ?_
          refine q_geti 0 9 dX0_product_59 (C := RX0) (T := TX0) (N := 30) rfl (by decide) q404 (show 0 < fc_nx M1 by have := hF1.1; omega) (hF1.2.2 0 _ rfl) rfl (tokR_val hR1 hP) ?_
          refine x_if_ne (tgt := 78) dX0_product_62 (by decide) (fun hc62 => ?_) (fun hc62 => ?_)
          · refine x_two (s := 47) (n4 := 1) hF1 hW1 hk1 h10c (hj.tr hj1) hA1 (by unfold isSn; decide) rfl rfl dX0_product_78 dX0_product_81 (fun h => x_iload_n dX0_product_82 rfl h) dX0_product_83 dX0_product_84 dX0_product_85 dX0_product_88 q732 kG_X0_X0_unit kP_X0_unit rfl (by omega) (by omega) (by decide) (Nat.le_of_ble_eq_true rfl) (fun M S h1 h2 h3 h4 => d_unit h1 h2 h3 hE h4) (fun r x M2 S2 hr hj2 hk2 h2 ht => ?_) (fun e x M2 S2 hr hj2 hf => ?_)
            · refine x_astore_n dX0_product_91 (by decide) rfl ?_
              refine x_goto (tgt := 5) dX0_product_92 (by decide) ?_
              obtain rfl : r = (nxt E (nxt E q), [(nI 0, (nxt E q).2.2.2)]) := (Except.ok.inj ((if_pos hP).symm.trans hr)).symm
              rw [pPL, if_pos hc20, if_pos hP, if_neg hc62]
              have hl1 := hj1.2.1
              have hl2 := nxt_lt hk.2.1 (fun z => absurd (hc20.symm.trans z) (by decide))
              have hl3 := nxt_lt hk1.2.1 (fun z => absurd (hP.symm.trans z) (by decide))
              exact ih x M2 S2 _ _ (LF_gw hF0 hj2.1) (WD_gw hF0 hW0 hj2.1) hk2 h2 hj2 (ht _ (Or.inl ⟨rfl, _, hc62, rfl, rfl⟩)) (by omega)
            · exact absurd ((if_pos hP).symm.trans hr) (fun z => by cases z)
          · exact x_fault hF1 (ctk_le hk1) (ctk_8 hk1) rfl (Nat.le_of_ble_eq_true rfl) dX0_product_65 dX0_product_68 (fun h => x_ic2 dX0_product_69 h) dX0_product_70 dX0_product_71 dX0_product_74 dX0_product_77 q732 (by omega) (fun x M2 S2 h1 h2 => rdP_e (e := (nI 2, (nxt E q).1)) (by rw [pPL, if_pos hc20, if_pos hP, if_pos hc62]) ((hj.tr hj1).tre h1) h2)
set_option maxHeartbeats 1000000 in
theorem d_product (hF : LF g M) (hW : WD g M) (hk : ctk g M S E q) (hE : ¬ E.1 = nI 3) {dp : Nat} (h10 : S 0 10 = nI dp) : fc_CX g l yX0_product cX0_product 3 (Option.some (Jvm.ClassFile.FieldType.object "FourCars$Term")) 9 [.ref (fc_B g + 0)] (cl M S U) (rdP g M S U E q.1 dp (pPr E q)) := by
  refine fc_enter (by decide) (Nat.le_of_ble_eq_true rfl) rfl ?_
  refine x_aload_n dX0_product_0 rfl ?_
  refine k_P hF q732 dX0_product_1 kG_X0_X0_unit kP_X0_unit rfl (by omega) (by decide) (Nat.le_of_ble_eq_true rfl) (d_unit hF hW hk hE h10) (fun r a M1 S1 hr hj hk1 h1 hA => ?_) (fun e x M2 S2 hr hj2 hf => rdP_e (by rw [pPr, bindR_e hr]) hj2 hf)
  refine x_astore_n dX0_product_4 (by decide) rfl ?_
  rw [pPr, bindR_k hr]
  exact m_product hF hW hE 401 a M1 S1 r.1 r.2 (LF_gw hF hj.1) (WD_gw hF hW hj.1) hk1 h1 hj hA (by have := hk1.1.2.1; omega)
theorem tkv_le (hv : tkv E.2.2 q) : q.1 ≤ (nxt E q).1 := by
  have h := nxt_v hv
  have h1 := hv.1
  omega
theorem pUn_v {r : tTk × tLs} (hv : tkv E.2.2 q) (h : pUn E q = .ok r) : tkv E.2.2 r.1 ∧ q.1 ≤ r.1.1 := by
  unfold pUn at h
  by_cases c : q.2.2.1 = nI 2
  · rw [if_pos c] at h; cases h; exact ⟨(nxt_v hv).1, tkv_le hv⟩
  · rw [if_neg c] at h
    by_cases c2 : isNm q.2.2.1
    · rw [if_pos c2] at h; cases h; exact ⟨(nxt_v hv).1, tkv_le hv⟩
    · rw [if_neg c2] at h; cases h
theorem pPL_v : ∀ (k : Nat) (q : tTk) (ps : tLs) {r : tTk × tLs}, tkv E.2.2 q → pPL E k q ps = .ok r → tkv E.2.2 r.1 ∧ q.1 ≤ r.1.1
  | 0, q, ps, r, hv, h => by cases h; exact ⟨hv, Nat.le_refl _⟩
  | k + 1, q, ps, r, hv, h => by
    have v1 := (nxt_v hv).1
    have l1 := tkv_le hv
    rw [pPL] at h
    split at h
    · split at h
      · split at h
        · cases h
        · have z := pPL_v k _ _ (nxt_v v1).1 h
          have l2 := tkv_le v1
          exact ⟨z.1, by omega⟩
      · cases h
    · split at h
      · cases hu : pUn E (nxt E q) with
        | error e => rw [hu] at h; cases h
        | ok u =>
          rw [hu] at h
          have z0 := pUn_v v1 hu
          have z := pPL_v k _ _ z0.1 h
          exact ⟨z.1, by omega⟩
      · cases h; exact ⟨hv, Nat.le_refl _⟩
theorem pPr_v {r : tTk × tLs} (hv : tkv E.2.2 q) (h : pPr E q = .ok r) : tkv E.2.2 r.1 ∧ q.1 ≤ r.1.1 := by
  unfold pPr at h
  cases hu : pUn E q with
  | error e => rw [hu] at h; cases h
  | ok u =>
    rw [hu] at h
    have z0 := pUn_v hv hu
    have z := pPL_v 401 _ _ z0.1 h
    exact ⟨z.1, by omega⟩
theorem pPr_le {r : tTk × tLs} (hk : ctk g M S E q) (h : pPr E q = .ok r) : q.1 ≤ r.1.1 := (pPr_v hk.2.1 h).2
set_option maxHeartbeats 1000000 in
theorem m_sum {n0 s0 : Nat} (hF0 : LF g M0) (hW0 : WD g M0) (hE : ¬ E.1 = nI 3) {p0 dp : Nat} : ∀ (k a : Nat) (M : fc_M) (S : tT) (q : tTk) (ps : tLs) {o2 : Option Value}, LF g M → WD g M → ctk g M S E q → S 0 10 = nI dp → jw M0 S0 p0 0 M S q.1 → tmI g M S ps.length a ps → E.2.2 < q.1 + k → fc_X g l yX0_sum cX0_sum 3 (Option.some (Jvm.ClassFile.FieldType.object "FourCars$Term")) 10 n0 s0 (cl M S U) 5 [some (.ref (fc_B g + 0)), some (.ref (fc_B g + a)), o2] [] (rdP g M0 S0 U E p0 dp (pSL E k q ps)) := by
  intro k
  induction k with
  | zero => intro a M S q ps o2 hF hW hk h10 hj hA hfu; exfalso; have := hk.2.1.1; have := hk.2.1.2.1; omega
  | succ k ih =>
    intro a M S q ps o2 hF hW hk h10 hj hA hfu
    refine x_aload_n dX0_sum_5 rfl ?_
    refine x_bipush (v := nI 43) dX0_sum_6 (by decide) ?_
    refine k_V1iF hF dX0_sum_8 kG_X0_X0_isSign kP_X0_isSign rfl (by omega) (by decide) (Nat.le_of_ble_eq_true rfl) (c_sign (c := 43) hF hk (by decide)) ?_
    refine x_ifB_ne (tgt := 23) dX0_sum_11 (by decide) (fun hc11 => ?_) (fun hc11 => ?_)
    · refine x_aload_n dX0_sum_23 rfl ?_
      refine q_geti 0 9 dX0_sum_24 (C := RX0) (T := TX0) (N := 30) rfl (by decide) q404 (show 0 < fc_nx M by have := hF.1; omega) (hF.2.2 0 _ rfl) rfl (ctk_sv (c := 43) hk (by decide) hc11) ?_
      refine x_i2c (v := nI 43) dX0_sum_27 (by decide) ?_
      refine x_istore_n dX0_sum_28 (by decide) rfl ?_
      refine x_aload_n dX0_sum_29 rfl ?_
      refine k_next hF hW hk (fun z => absurd (hc11.symm.trans z) (by decide)) dX0_sum_30 kG_X0_X0_readNext (by omega) (Nat.le_of_ble_eq_true rfl) (fun M1 S1 hj1 hk1 h10b => ?_)
      have hF1 := LF_gw hF hj1.1
      have hW1 := WD_gw hF hW hj1.1
      have hA1 := tmI_gw (hF.2.2 0 _ rfl) hj1.1 _ _ _ hA
      have h10c := h10b.trans h10
      refine x_two (s := 43) (n4 := 1) hF1 hW1 hk1 h10c (hj.tr hj1) hA1 (by unfold isSn; decide) rfl rfl dX0_sum_33 dX0_sum_36 (fun h => x_iload_n dX0_sum_37 rfl h) dX0_sum_38 dX0_sum_39 dX0_sum_40 dX0_sum_43 q728 kG_X0_X0_product kP_X0_product rfl (by omega) (by omega) (by decide) (Nat.le_of_ble_eq_true rfl) (fun M S h1 h2 h3 h4 => d_product h1 h2 h3 hE h4) (fun r x M2 S2 hr hj2 hk2 h2 ht => ?_) (fun e x M2 S2 hr hj2 hf => ?_)
      · refine x_astore_n dX0_sum_46 (by decide) rfl ?_
        refine x_goto (tgt := 5) dX0_sum_47 (by decide) ?_
        rw [pSL, if_pos hc11, bindR_k hr]
        have hl2 := nxt_lt hk.2.1 (fun z => absurd (hc11.symm.trans z) (by decide))
        have hl3 : (nxt E q).1 ≤ r.1.1 := by
          have z1 := hj2.2.2.1
          have z2 := hj2.2.1
          exact pPr_le hk1 hr
        exact ih x M2 S2 r.1 _ (LF_gw hF0 hj2.1) (WD_gw hF0 hW0 hj2.1) hk2 h2 hj2 (ht _ (Or.inr ⟨by unfold isSn; decide, rfl⟩)) (by omega)
      · exact rdP_e (by rw [pSL, if_pos hc11, bindR_e hr]) hj2 hf
    · refine x_aload_n dX0_sum_14 rfl ?_
      refine x_bipush (v := nI 45) dX0_sum_15 (by decide) ?_
      refine k_V1iF hF dX0_sum_17 kG_X0_X0_isSign kP_X0_isSign rfl (by omega) (by decide) (Nat.le_of_ble_eq_true rfl) (c_sign (c := 45) hF hk (by decide)) ?_
      refine x_ifB_eq (tgt := 50) dX0_sum_20 (by decide) (fun hc20 => ?_) (fun hc20 => ?_)
      · refine x_aload_n dX0_sum_50 rfl ?_
        exact x_aret dX0_sum_51 rfl (Or.inl ⟨_, rfl⟩) (Or.inr ⟨_, rfl⟩) (rdP_k (r := (q, ps)) (by rw [pSL, if_neg hc11, if_neg hc20]) hj hk h10 hA)
      · refine x_aload_n dX0_sum_23 rfl ?_
        refine q_geti 0 9 dX0_sum_24 (C := RX0) (T := TX0) (N := 30) rfl (by decide) q404 (show 0 < fc_nx M by have := hF.1; omega) (hF.2.2 0 _ rfl) rfl (ctk_sv (c := 45) hk (by decide) hc20) ?_
        refine x_i2c (v := nI 45) dX0_sum_27 (by decide) ?_
        refine x_istore_n dX0_sum_28 (by decide) rfl ?_
        refine x_aload_n dX0_sum_29 rfl ?_
        refine k_next hF hW hk (fun z => absurd (hc20.symm.trans z) (by decide)) dX0_sum_30 kG_X0_X0_readNext (by omega) (Nat.le_of_ble_eq_true rfl) (fun M1 S1 hj1 hk1 h10b => ?_)
        have hF1 := LF_gw hF hj1.1
        have hW1 := WD_gw hF hW hj1.1
        have hA1 := tmI_gw (hF.2.2 0 _ rfl) hj1.1 _ _ _ hA
        have h10c := h10b.trans h10
        refine x_two (s := 45) (n4 := 1) hF1 hW1 hk1 h10c (hj.tr hj1) hA1 (by unfold isSn; decide) rfl rfl dX0_sum_33 dX0_sum_36 (fun h => x_iload_n dX0_sum_37 rfl h) dX0_sum_38 dX0_sum_39 dX0_sum_40 dX0_sum_43 q728 kG_X0_X0_product kP_X0_product rfl (by omega) (by omega) (by decide) (Nat.le_of_ble_eq_true rfl) (fun M S h1 h2 h3 h4 => d_product h1 h2 h3 hE h4) (fun r x M2 S2 hr hj2 hk2 h2 ht => ?_) (fun e x M2 S2 hr hj2 hf => ?_)
        · refine x_astore_n dX0_sum_46 (by decide) rfl ?_
          refine x_goto (tgt := 5) dX0_sum_47 (by decide) ?_
          rw [pSL, if_neg hc11, if_pos hc20, bindR_k hr]
          have hl2 := nxt_lt hk.2.1 (fun z => absurd (hc20.symm.trans z) (by decide))
          have hl3 : (nxt E q).1 ≤ r.1.1 := by
            have z1 := hj2.2.2.1
            have z2 := hj2.2.1
            exact pPr_le hk1 hr
          exact ih x M2 S2 r.1 _ (LF_gw hF0 hj2.1) (WD_gw hF0 hW0 hj2.1) hk2 h2 hj2 (ht _ (Or.inr ⟨by unfold isSn; decide, rfl⟩)) (by omega)
        · exact rdP_e (by rw [pSL, if_neg hc11, if_pos hc20, bindR_e hr]) hj2 hf
set_option maxHeartbeats 1000000 in
theorem d_sum (hF : LF g M) (hW : WD g M) (hk : ctk g M S E q) (hE : ¬ E.1 = nI 3) {dp : Nat} (h10 : S 0 10 = nI dp) : fc_CX g l yX0_sum cX0_sum 3 (Option.some (Jvm.ClassFile.FieldType.object "FourCars$Term")) 10 [.ref (fc_B g + 0)] (cl M S U) (rdP g M S U E q.1 dp (pSu E q)) := by
  refine fc_enter (by decide) (Nat.le_of_ble_eq_true rfl) rfl ?_
  refine x_aload_n dX0_sum_0 rfl ?_
  refine k_P hF q728 dX0_sum_1 kG_X0_X0_product kP_X0_product rfl (by omega) (by decide) (Nat.le_of_ble_eq_true rfl) (d_product hF hW hk hE h10) (fun r a M1 S1 hr hj hk1 h1 hA => ?_) (fun e x M2 S2 hr hj2 hf => rdP_e (by rw [pSu, bindR_e hr]) hj2 hf)
  refine x_astore_n dX0_sum_4 (by decide) rfl ?_
  rw [pSu, bindR_k hr]
  exact m_sum hF hW hE 401 a M1 S1 r.1 r.2 (LF_gw hF hj.1) (WD_gw hF hW hj.1) hk1 h1 hj hA (by have := hk1.1.2.1; omega)
end T99ZZI
