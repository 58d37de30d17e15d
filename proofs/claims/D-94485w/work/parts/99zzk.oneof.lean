set_option maxRecDepth 100000
section T99ZZK
variable {g : fc_G} {l : Launch} {M M0 : fc_M} {S S0 : tT} {U : tU} {E : tEn} {q : tTk}
set_option maxHeartbeats 2000000 in
theorem d_oneOf1 (hE : ¬ E.1 = nI 3) {k dp dd : Nat} (hdd : 10 ≤ dd) (hd8 : dp ≤ 8) (H1 : ¬ dp = 8 → trC g l U E yX0_oneOf cX0_oneOf 3 dd (dp + 1) (some (.object "FourCars$Term")) (pOne E k (dp + 1))) (H2 : ¬ dp = 8 → trC g l U E yX0_any cX0_any 2 (dd + 2) (dp + 1) (some (.object "FourCars$Term")) (pAn E k (dp + 1))) (hF : LF g M) (hW : WD g M) (hk : ctk g M S E q) (h10 : S 0 10 = nI dp) : fc_CX g l yX0_oneOf cX0_oneOf 3 (Option.some (Jvm.ClassFile.FieldType.object "FourCars$Term")) (dd + 3) [.ref (fc_B g + 0)] (cl M S U) (rdP g M S U E q.1 dp (pOne E (k + 1) dp q)) := by
  refine fc_enter (by decide) (Nat.le_of_ble_eq_true rfl) rfl ?_
  refine x_aload_n dX0_oneOf_0 rfl ?_
  refine x_ldcS fs_17 rfl rfl dX0_oneOf_1 ?_
  refine k_V1iF hF dX0_oneOf_3 kG_X0_X0_isWord kP_X0_isWord rfl (by omega) (by decide) (Nat.le_of_ble_eq_true rfl) (c_isW (k := 3) hF hk hE (by decide)) ?_
  refine x_ifB_eq (tgt := 37) dX0_oneOf_6 (by decide) (fun hc6 => ?_) (fun hc6 => ?_)
  · refine x_aload_n dX0_oneOf_37 rfl ?_
    refine x_bipush (v := nI 40) dX0_oneOf_38 (by decide) ?_
    refine k_V1iF hF dX0_oneOf_40 kG_X0_X0_isSign kP_X0_isSign rfl (by omega) (by decide) (Nat.le_of_ble_eq_true rfl) (c_sign (c := 40) hF hk (by decide)) ?_
    refine x_ifB_eq (tgt := 73) dX0_oneOf_43 (by decide) (fun hc43 => ?_) (fun hc43 => ?_)
    · refine x_aload_n dX0_oneOf_73 rfl ?_
      refine k_P hF q795 dX0_oneOf_74 kG_X0_X0_sum kP_X0_sum rfl (by omega) (by decide) (Nat.le_of_ble_eq_true rfl) (d_sum hF hW hk hE h10) (fun r a M1 S1 hr hj hk h1 hA => ?_) (fun e x M2 S2 hr hj2 hf => rdP_e (by rw [pOne, if_neg hc6, if_neg hc43, bindR_e hr]) hj2 hf)
      have hF1 := LF_gw hF hj.1
      have hW1 := WD_gw hF hW hj.1
      refine x_astore_n dX0_oneOf_77 (by decide) rfl ?_
      refine x_aload_n dX0_oneOf_78 rfl ?_
      refine x_aload_n dX0_oneOf_79 rfl ?_
      refine x_bipush (v := nI 60) dX0_oneOf_80 (by decide) ?_
      refine k_V1iF hF1 dX0_oneOf_82 kG_X0_X0_isSign kP_X0_isSign rfl (by omega) (by decide) (Nat.le_of_ble_eq_true rfl) (c_sign (c := 60) hF1 hk (by decide)) ?_
      refine x_ifB_ne (tgt := 106) dX0_oneOf_85 (by decide) (fun hc85 => ?_) (fun hc85 => ?_)
      · refine x_ic1 dX0_oneOf_106 ?_
        refine x_goto (tgt := 111) dX0_oneOf_107 (by decide) ?_
        rw [show nI 1 = bI True by decide]
        have hH : pHow r.1.2.2.1 = nI 17 := by rw [pHow, if_pos hc85]
        refine k_must hF1 hk q795 dX0_oneOf_111 kG_X0_X0_must (by omega) (Nat.le_of_ble_eq_true rfl) (fun _ => ?_) (fun z => absurd trivial z)
        refine x_aload_n dX0_oneOf_114 rfl ?_
        refine q_geti 0 9 dX0_oneOf_115 (C := RX0) (T := TX0) (N := 30) rfl (by decide) q404 (show 0 < fc_nx M1 by have := hF1.1; omega) (hF1.2.2 0 _ rfl) rfl (ctk_sv (c := 60) hk (by decide) hc85) ?_
        refine x_i2c (v := nI 60) dX0_oneOf_118 (by decide) ?_
        refine x_istore_n dX0_oneOf_119 (by decide) rfl ?_
        refine x_aload_n dX0_oneOf_120 rfl ?_
        refine k_next hF1 hW1 hk (fun z => absurd (hc85.symm.trans z) (by decide)) dX0_oneOf_121 kG_X0_X0_readNext (by omega) (Nat.le_of_ble_eq_true rfl) (fun M2 S2 hj1 hk1 h10b => ?_)
        have hF2 := LF_gw hF1 hj1.1
        have hW2 := WD_gw hF1 hW1 hj1.1
        have hA1 := tmI_gw (hF1.2.2 0 _ rfl) hj1.1 _ _ _ hA
        refine x_two (s := 60) (n4 := 1) hF2 hW2 hk1 (h10b.trans h1) (hj.tr hj1) hA1 (by unfold isSn; decide) rfl rfl dX0_oneOf_124 dX0_oneOf_127 (fun h => x_iload_n dX0_oneOf_128 rfl h) dX0_oneOf_129 dX0_oneOf_130 dX0_oneOf_131 dX0_oneOf_134 q795 kG_X0_X0_sum kP_X0_sum rfl (by omega) (by omega) (by decide) (Nat.le_of_ble_eq_true rfl) (fun M S h1 h2 h3 h4 => d_sum h1 h2 h3 hE h4) (fun r2 x M3 S3 hr2 hj2 hk2 h2 ht => ?_) (fun e x M3 S3 hr2 hj2 hf => ?_)
        · refine x_aret dX0_oneOf_137 rfl (Or.inl ⟨_, rfl⟩) (Or.inr ⟨_, rfl⟩) (rdP_k (r := (r2.1, r.2 ++ r2.2 ++ [(nI 17, nI 0)])) (by rw [pOne, if_neg hc6, if_neg hc43, bindR_k hr, if_neg (show ¬ pHow r.1.2.2.1 = -1 by rw [hH]; decide), bindR_k hr2, hH]) hj2 hk2 h2 (ht _ (Or.inr ⟨by unfold isSn; decide, rfl⟩)))
        · exact rdP_e (by rw [pOne, if_neg hc6, if_neg hc43, bindR_k hr, if_neg (show ¬ pHow r.1.2.2.1 = -1 by rw [hH]; decide), bindR_e hr2]) hj2 hf
      · refine x_aload_n dX0_oneOf_88 rfl ?_
        refine x_bipush (v := nI 61) dX0_oneOf_89 (by decide) ?_
        refine k_V1iF hF1 dX0_oneOf_91 kG_X0_X0_isSign kP_X0_isSign rfl (by omega) (by decide) (Nat.le_of_ble_eq_true rfl) (c_sign (c := 61) hF1 hk (by decide)) ?_
        refine x_ifB_ne (tgt := 106) dX0_oneOf_94 (by decide) (fun hc94 => ?_) (fun hc94 => ?_)
        · refine x_ic1 dX0_oneOf_106 ?_
          refine x_goto (tgt := 111) dX0_oneOf_107 (by decide) ?_
          rw [show nI 1 = bI True by decide]
          have hH : pHow r.1.2.2.1 = nI 18 := by rw [pHow, if_neg hc85, if_pos hc94]
          refine k_must hF1 hk q795 dX0_oneOf_111 kG_X0_X0_must (by omega) (Nat.le_of_ble_eq_true rfl) (fun _ => ?_) (fun z => absurd trivial z)
          refine x_aload_n dX0_oneOf_114 rfl ?_
          refine q_geti 0 9 dX0_oneOf_115 (C := RX0) (T := TX0) (N := 30) rfl (by decide) q404 (show 0 < fc_nx M1 by have := hF1.1; omega) (hF1.2.2 0 _ rfl) rfl (ctk_sv (c := 61) hk (by decide) hc94) ?_
          refine x_i2c (v := nI 61) dX0_oneOf_118 (by decide) ?_
          refine x_istore_n dX0_oneOf_119 (by decide) rfl ?_
          refine x_aload_n dX0_oneOf_120 rfl ?_
          refine k_next hF1 hW1 hk (fun z => absurd (hc94.symm.trans z) (by decide)) dX0_oneOf_121 kG_X0_X0_readNext (by omega) (Nat.le_of_ble_eq_true rfl) (fun M2 S2 hj1 hk1 h10b => ?_)
          have hF2 := LF_gw hF1 hj1.1
          have hW2 := WD_gw hF1 hW1 hj1.1
          have hA1 := tmI_gw (hF1.2.2 0 _ rfl) hj1.1 _ _ _ hA
          refine x_two (s := 61) (n4 := 1) hF2 hW2 hk1 (h10b.trans h1) (hj.tr hj1) hA1 (by unfold isSn; decide) rfl rfl dX0_oneOf_124 dX0_oneOf_127 (fun h => x_iload_n dX0_oneOf_128 rfl h) dX0_oneOf_129 dX0_oneOf_130 dX0_oneOf_131 dX0_oneOf_134 q795 kG_X0_X0_sum kP_X0_sum rfl (by omega) (by omega) (by decide) (Nat.le_of_ble_eq_true rfl) (fun M S h1 h2 h3 h4 => d_sum h1 h2 h3 hE h4) (fun r2 x M3 S3 hr2 hj2 hk2 h2 ht => ?_) (fun e x M3 S3 hr2 hj2 hf => ?_)
          · refine x_aret dX0_oneOf_137 rfl (Or.inl ⟨_, rfl⟩) (Or.inr ⟨_, rfl⟩) (rdP_k (r := (r2.1, r.2 ++ r2.2 ++ [(nI 18, nI 0)])) (by rw [pOne, if_neg hc6, if_neg hc43, bindR_k hr, if_neg (show ¬ pHow r.1.2.2.1 = -1 by rw [hH]; decide), bindR_k hr2, hH]) hj2 hk2 h2 (ht _ (Or.inr ⟨by unfold isSn; decide, rfl⟩)))
          · exact rdP_e (by rw [pOne, if_neg hc6, if_neg hc43, bindR_k hr, if_neg (show ¬ pHow r.1.2.2.1 = -1 by rw [hH]; decide), bindR_e hr2]) hj2 hf
        · refine x_aload_n dX0_oneOf_97 rfl ?_
          refine x_bipush (v := nI 62) dX0_oneOf_98 (by decide) ?_
          refine k_V1iF hF1 dX0_oneOf_100 kG_X0_X0_isSign kP_X0_isSign rfl (by omega) (by decide) (Nat.le_of_ble_eq_true rfl) (c_sign (c := 62) hF1 hk (by decide)) ?_
          refine x_ifB_eq (tgt := 110) dX0_oneOf_103 (by decide) (fun hc103 => ?_) (fun hc103 => ?_)
          · refine x_ic0 dX0_oneOf_110 ?_
            rw [show nI 0 = bI False by decide]
            have hH : pHow r.1.2.2.1 = -1 := by rw [pHow, if_neg hc85, if_neg hc94, if_neg hc103]
            exact k_must hF1 hk q795 dX0_oneOf_111 kG_X0_X0_must (by omega) (Nat.le_of_ble_eq_true rfl) (fun z => z.elim) (fun _ x M2 S2 h1 h2 => rdP_e (e := (nI 1, r.1.1)) (by rw [pOne, if_neg hc6, if_neg hc43, bindR_k hr, if_pos hH]) (hj.tre h1) h2)
          · refine x_ic1 dX0_oneOf_106 ?_
            refine x_goto (tgt := 111) dX0_oneOf_107 (by decide) ?_
            rw [show nI 1 = bI True by decide]
            have hH : pHow r.1.2.2.1 = nI 19 := by rw [pHow, if_neg hc85, if_neg hc94, if_pos hc103]
            refine k_must hF1 hk q795 dX0_oneOf_111 kG_X0_X0_must (by omega) (Nat.le_of_ble_eq_true rfl) (fun _ => ?_) (fun z => absurd trivial z)
            refine x_aload_n dX0_oneOf_114 rfl ?_
            refine q_geti 0 9 dX0_oneOf_115 (C := RX0) (T := TX0) (N := 30) rfl (by decide) q404 (show 0 < fc_nx M1 by have := hF1.1; omega) (hF1.2.2 0 _ rfl) rfl (ctk_sv (c := 62) hk (by decide) hc103) ?_
            refine x_i2c (v := nI 62) dX0_oneOf_118 (by decide) ?_
            refine x_istore_n dX0_oneOf_119 (by decide) rfl ?_
            refine x_aload_n dX0_oneOf_120 rfl ?_
            refine k_next hF1 hW1 hk (fun z => absurd (hc103.symm.trans z) (by decide)) dX0_oneOf_121 kG_X0_X0_readNext (by omega) (Nat.le_of_ble_eq_true rfl) (fun M2 S2 hj1 hk1 h10b => ?_)
            have hF2 := LF_gw hF1 hj1.1
            have hW2 := WD_gw hF1 hW1 hj1.1
            have hA1 := tmI_gw (hF1.2.2 0 _ rfl) hj1.1 _ _ _ hA
            refine x_two (s := 62) (n4 := 1) hF2 hW2 hk1 (h10b.trans h1) (hj.tr hj1) hA1 (by unfold isSn; decide) rfl rfl dX0_oneOf_124 dX0_oneOf_127 (fun h => x_iload_n dX0_oneOf_128 rfl h) dX0_oneOf_129 dX0_oneOf_130 dX0_oneOf_131 dX0_oneOf_134 q795 kG_X0_X0_sum kP_X0_sum rfl (by omega) (by omega) (by decide) (Nat.le_of_ble_eq_true rfl) (fun M S h1 h2 h3 h4 => d_sum h1 h2 h3 hE h4) (fun r2 x M3 S3 hr2 hj2 hk2 h2 ht => ?_) (fun e x M3 S3 hr2 hj2 hf => ?_)
            · refine x_aret dX0_oneOf_137 rfl (Or.inl ⟨_, rfl⟩) (Or.inr ⟨_, rfl⟩) (rdP_k (r := (r2.1, r.2 ++ r2.2 ++ [(nI 19, nI 0)])) (by rw [pOne, if_neg hc6, if_neg hc43, bindR_k hr, if_neg (show ¬ pHow r.1.2.2.1 = -1 by rw [hH]; decide), bindR_k hr2, hH]) hj2 hk2 h2 (ht _ (Or.inr ⟨by unfold isSn; decide, rfl⟩)))
            · exact rdP_e (by rw [pOne, if_neg hc6, if_neg hc43, bindR_k hr, if_neg (show ¬ pHow r.1.2.2.1 = -1 by rw [hH]; decide), bindR_e hr2]) hj2 hf
    · refine x_aload_n dX0_oneOf_46 rfl ?_
      refine k_opens hF hW hk (fun z => absurd (hc43.symm.trans z) (by decide)) hd8 h10 q795 dX0_oneOf_47 kG_X0_X0_opens (by omega) (Nat.le_of_ble_eq_true rfl) (fun hn8 M1 S1 hj1 hk1 h1 => ?_) (fun h8 x M2 S2 h1 h2 => rdP_e (e := (nI 3, q.1)) (by rw [pOne, if_neg hc6, if_pos hc43, if_pos h8]) h1 h2)
      have hF1 := LF_gw hF hj1.1
      have hW1 := WD_gw hF hW hj1.1
      refine x_aload_n dX0_oneOf_50 rfl ?_
      refine k_P hF1 q795 dX0_oneOf_51 kG_X0_X0_any kP_X0_any rfl (by omega) (by decide) (Nat.le_of_ble_eq_true rfl) (H2 hn8 M1 S1 _ hF1 hW1 hk1 h1) (fun r a M2 S2 hr hj2 hk2 h2 hA => ?_) (fun e x M2 S2 hr hj2 hf => rdP_e (by rw [pOne, if_neg hc6, if_pos hc43, if_neg hn8]; exact bindR_e hr) (hj1.tre hj2) hf)
      have hF2 := LF_gw hF1 hj2.1
      have hW2 := WD_gw hF1 hW1 hj2.1
      refine x_astore_n dX0_oneOf_54 (by decide) rfl ?_
      refine x_aload_n dX0_oneOf_55 rfl ?_
      refine x_bipush (v := nI 41) dX0_oneOf_56 (by decide) ?_
      refine k_takes (c := 41) hF2 hW2 hk2 (by decide) q795 dX0_oneOf_58 kG_X0_X0_takesSign (by omega) (Nat.le_of_ble_eq_true rfl) (fun hP M3 S3 hj3 hk3 h3 => ?_) (fun hP x M3 S3 hj3 hf => rdP_e (e := (nI 1, r.1.1)) (by rw [pOne, if_neg hc6, if_pos hc43, if_neg hn8]; exact (bindR_k hr).trans (if_neg hP)) ((hj1.tr hj2).tre hj3) hf)
      have hF3 := LF_gw hF2 hj3.1
      refine x_aload_n dX0_oneOf_61 rfl ?_
      refine x_dup dX0_oneOf_62 rfl ?_
      refine q_geti 0 10 dX0_oneOf_63 (C := RX0) (T := TX0) (N := 30) rfl (by decide) q405 (show 0 < fc_nx M3 by have := hF3.1; omega) (hF3.2.2 0 _ rfl) rfl (h3.trans h2) ?_
      refine x_ic1 dX0_oneOf_66 ?_
      refine x_isubN dX0_oneOf_67 (by omega) ?_
      rw [show dp + 1 - 1 = dp by omega]
      refine q_puti 0 10 dX0_oneOf_68 (C := RX0) (T := TX0) (N := 30) rfl (by decide) q405 rfl rfl rfl (show 0 < fc_nx M3 by have := hF3.1; omega) (hF3.2.2 0 _ rfl) rfl ?_
      refine x_aload_n dX0_oneOf_71 rfl ?_
      refine x_aret dX0_oneOf_72 rfl (Or.inl ⟨_, rfl⟩) (Or.inr ⟨_, rfl⟩) (rdP_k (r := (nxt E r.1, r.2)) (by rw [pOne, if_neg hc6, if_pos hc43, if_neg hn8]; exact (bindR_k hr).trans (if_pos hP)) (((hj1.tr hj2).tr hj3).less (by omega)).opn (ctk_sm hk3 rfl (fun c k _ h => if_neg h)) tu_at (tmI_gw (hF3.2.2 0 _ rfl) gw.opn _ _ _ (tmI_gw (hF2.2.2 0 _ rfl) hj3.1 _ _ _ hA)))
  · refine x_aload_n dX0_oneOf_9 rfl ?_
    refine k_opens hF hW hk (fun z => absurd (hc6.symm.trans z) (by decide)) hd8 h10 q795 dX0_oneOf_10 kG_X0_X0_opens (by omega) (Nat.le_of_ble_eq_true rfl) (fun hn8 M1 S1 hj1 hk1 h1 => ?_) (fun h8 x M2 S2 h1 h2 => rdP_e (e := (nI 3, q.1)) (by rw [pOne, if_pos hc6, if_pos h8]) h1 h2)
    have hF1 := LF_gw hF hj1.1
    have hW1 := WD_gw hF hW hj1.1
    refine x_aload_n dX0_oneOf_13 rfl ?_
    refine k_P hF1 q795 dX0_oneOf_14 kG_X0_X0_oneOf kP_X0_oneOf rfl (by omega) (by decide) (Nat.le_of_ble_eq_true rfl) (H1 hn8 M1 S1 _ hF1 hW1 hk1 h1) (fun r a M2 S2 hr hj2 hk2 h2 hA => ?_) (fun e x M2 S2 hr hj2 hf => rdP_e (by rw [pOne, if_pos hc6, if_neg hn8, bindR_e hr]) (hj1.tre hj2) hf)
    have hF2 := LF_gw hF1 hj2.1
    refine x_astore_n dX0_oneOf_17 (by decide) rfl ?_
    refine x_aload_n dX0_oneOf_18 rfl ?_
    refine x_dup dX0_oneOf_19 rfl ?_
    refine q_geti 0 10 dX0_oneOf_20 (C := RX0) (T := TX0) (N := 30) rfl (by decide) q405 (show 0 < fc_nx M2 by have := hF2.1; omega) (hF2.2.2 0 _ rfl) rfl h2 ?_
    refine x_ic1 dX0_oneOf_23 ?_
    refine x_isubN dX0_oneOf_24 (by omega) ?_
    rw [show dp + 1 - 1 = dp by omega]
    refine q_puti 0 10 dX0_oneOf_25 (C := RX0) (T := TX0) (N := 30) rfl (by decide) q405 rfl rfl rfl (show 0 < fc_nx M2 by have := hF2.1; omega) (hF2.2.2 0 _ rfl) rfl ?_
    refine x_newC 11 dX0_oneOf_28 (C := RX12) (T := TX12) (N := 1) rfl q800 q801 q140 kda_11 kdb_11 ?_
    refine x_dup dX0_oneOf_31 rfl ?_
    refine x_aload_n dX0_oneOf_32 rfl ?_
    refine x_I1 dX0_oneOf_33 q804 q140 q802 q803 rfl kP_X12_init (by omega) (by decide) (Nat.le_of_ble_eq_true rfl) (d_iNot (Nat.lt_succ_self _) sh_new) ?_
    have h0 := hF.1
    have h9 := hj1.1.1
    have h8 := hj2.1.1
    refine x_aret dX0_oneOf_36 rfl (Or.inl ⟨_, rfl⟩) (Or.inr ⟨_, rfl⟩) (rdP_k (r := (r.1, r.2 ++ [(nI 20, nI 0)])) (by rw [pOne, if_pos hc6, if_neg hn8, bindR_k hr]) (((((hj1.tr hj2).opn).new (by decide)).put (by omega))) (ctk_sm hk2 ((ct_pn (fun z => by omega)).trans (ct_newn (by omega))) (fun c k hc h => (tz0_lt (by omega)).trans (if_neg h))) ((tz0_lt (by omega)).trans tu_at) (tmI_not (hF2.2.2 0 _ rfl) (tmI_gw (hF2.2.2 0 _ rfl) gw.opn _ _ _ hA)))
theorem d_oneOf (hE : ¬ E.1 = nI 3) : ∀ (k dp : Nat), k + dp = 9 → dp ≤ 8 → trC g l U E yX0_oneOf cX0_oneOf 3 (10 + 3 * k) dp (some (.object "FourCars$Term")) (pOne E k dp)
  | 0, dp, h, h8 => by omega
  | k + 1, dp, h, h8 => fun M S q hF hW hk h10 => by
    have H1 : ¬ dp = 8 → trC g l U E yX0_oneOf cX0_oneOf 3 (10 + 3 * k) (dp + 1) (some (.object "FourCars$Term")) (pOne E k (dp + 1)) := fun h9 => d_oneOf hE k (dp + 1) (by omega) (by omega)
    exact d_oneOf1 (dd := 10 + 3 * k) hE (by omega) h8 H1 (fun h9 => d_any (dd := 10 + 3 * k + 1) hE (by omega) (chF_v (pOne_v k (dp + 1))) (d_both (dd := 10 + 3 * k) hE (by omega) (pOne_v k (dp + 1)) (H1 h9))) hF hW hk h10
theorem d_anyT (hE : ¬ E.1 = nI 3) : trC g l U E yX0_any cX0_any 2 39 0 (some (.object "FourCars$Term")) (pAn E 9 0) :=
  d_any hE (by decide) (chF_v (pOne_v 9 0)) (d_both hE (by decide) (pOne_v 9 0) (d_oneOf hE 9 0 rfl (by decide)))
end T99ZZK
