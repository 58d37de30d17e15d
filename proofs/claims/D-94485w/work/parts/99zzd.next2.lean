set_option maxRecDepth 100000
section T99ZZD
variable {g : fc_G} {l : Launch} {M : fc_M} {S : tT} {U : tU} {b : Nat → Int32} {t : Nat} {wh v0 : Int32}
theorem kG_X0_X0_wordOf : GoodIn lw_all (wsV RX0 188 RX0 yX0_wordOf (ws_ yX0_wordOf cX0_wordOf 3 (some .int))) := lw_V q530 q532 qs4 q118 q533
theorem kP_X0_wordOf : kPar yX0_wordOf 1 := by decide +kernel
set_option maxHeartbeats 1000000 in
theorem b_rn124 {n0 s0 : Nat} (hF : LF g M) (hT : tpR S b t) (hW : WD g M) {T : Value} {v : Int32} {s e : Nat} (hse : s ≤ e) (he : e ≤ t) {o1 : Option Value} : fc_X g l yX0_readNext cX0_readNext 2 (none) 7 n0 s0 (cl (fc_put M 0 6 T) (s3 S (nI e) (nI s) v) U) 124 [some (.ref (fc_B g + 0)), o1] [] (rn_v g M S U wh b (s, e, wdW wh b s (e - s), v0)) := by
  have ht4 := hT.2.1
  refine x_aload_n dX0_readNext_124 rfl ?_
  refine x_tok 2 dX0_readNext_125 (by decide) rfl q528 ?_
  refine x_putf 0 6 dX0_readNext_128 (C := RX0) (T := TX0) (N := 30) rfl (by decide) q401 rfl rfl rfl (show 0 < fc_nx M by have := hF.1; omega) (hF.2.2 0 _ rfl) ?_
  rw [cl_putr (by rw [show fc_sh (fc_put M 0 6 _) 0 = .inl 0 from hF.2.2 0 _ rfl]; rfl), putp]
  have hA : tkA g (fc_put M 0 6 (.ref (fc_tk g 2))) (s3 S (nI e) (nI s) v) t 2 s (e - s) := ⟨ct_ps, by decide, rfl, by rw [show s + (e - s) = e by omega]; rfl, by omega⟩
  refine x_aload_n dX0_readNext_131 rfl ?_
  refine x_aload_n dX0_readNext_132 rfl ?_
  refine q_getr 0 2 dX0_readNext_133 (C := RX0) (T := TX0) (N := 30) rfl (by decide) q397 (show 0 < fc_nx M by have := hF.1; omega) (hF.2.2 0 _ rfl) rfl ((ct_pn (fun z => absurd z.2 (by decide))).trans (hF.2.1 2 _ rfl)) ?_
  refine k_V1iF (LF_p0 rfl hF) dX0_readNext_136 kG_X0_X0_wordOf kP_X0_wordOf rfl (by omega) (by decide) (Nat.le_of_ble_eq_true rfl) (d_wordOf (ix := fun k => k) (LF_p0 rfl hF) (tpR_s3 hT) hA (show 2 < fc_nx M by have := hF.1; omega) (hF.2.2 2 _ rfl) (by decide) (fun i hi => ⟨by omega, (ct_pn (fun z => absurd z.1 (by decide))).trans (hW.1 i hi)⟩)) ?_
  refine x_top (if_pos rfl) ?_
  refine x_icm1 dX0_readNext_139 ?_
  refine x_icmp_ne (tgt := 303) dX0_readNext_140 (by decide) (fun hc140 => ?_) (fun hc140 => ?_)
  · exact x_vret dX0_readNext_303 rfl ⟨rfl, 2, v, rfl, by decide, Or.inr (Or.inr (Or.inl ⟨rfl, rfl⟩))⟩
  · refine x_aload_n dX0_readNext_143 rfl ?_
    refine x_aload_n dX0_readNext_144 rfl ?_
    refine q_getr 0 3 dX0_readNext_145 (C := RX0) (T := TX0) (N := 30) rfl (by decide) q398 (show 0 < fc_nx M by have := hF.1; omega) (hF.2.2 0 _ rfl) rfl ((ct_pn (fun z => absurd z.2 (by decide))).trans (hF.2.1 3 _ rfl)) ?_
    refine k_V1iF (LF_p0 rfl hF) dX0_readNext_148 kG_X0_X0_wordOf kP_X0_wordOf rfl (by omega) (by decide) (Nat.le_of_ble_eq_true rfl) (d_wordOf (ix := fun k => 2 + k) (LF_p0 rfl hF) (tpR_s3 hT) hA (show 3 < fc_nx M by have := hF.1; omega) (hF.2.2 3 _ rfl) (by decide) (fun i hi => ⟨by omega, (ct_pn (fun z => absurd z.1 (by decide))).trans (hW.2.1 i hi)⟩)) ?_
    refine x_top (if_pos rfl) ?_
    refine x_icm1 dX0_readNext_151 ?_
    refine x_icmp_ne (tgt := 303) dX0_readNext_152 (by decide) (fun hc152 => ?_) (fun hc152 => ?_)
    · exact x_vret dX0_readNext_303 rfl ⟨rfl, 2, v, rfl, by decide, Or.inr (Or.inr (Or.inl ⟨rfl, rfl⟩))⟩
    · refine x_aload_n dX0_readNext_155 rfl ?_
      refine x_aload_n dX0_readNext_156 rfl ?_
      refine q_getr 0 4 dX0_readNext_157 (C := RX0) (T := TX0) (N := 30) rfl (by decide) q399 (show 0 < fc_nx M by have := hF.1; omega) (hF.2.2 0 _ rfl) rfl ((ct_pn (fun z => absurd z.2 (by decide))).trans (hF.2.1 4 _ rfl)) ?_
      refine k_V1iF (LF_p0 rfl hF) dX0_readNext_160 kG_X0_X0_wordOf kP_X0_wordOf rfl (by omega) (by decide) (Nat.le_of_ble_eq_true rfl) (d_wordOf (ix := asI) (LF_p0 rfl hF) (tpR_s3 hT) hA (show 4 < fc_nx M by have := hF.1; omega) (hF.2.2 4 _ rfl) (by decide) (fun i hi => ⟨by unfold asI; split <;> omega, (ct_pn (fun z => absurd z.1 (by decide))).trans (hW.2.2.1 i hi)⟩)) ?_
      refine x_top (if_pos rfl) ?_
      refine x_icm1 dX0_readNext_163 ?_
      refine x_icmp_ne (tgt := 303) dX0_readNext_164 (by decide) (fun hc164 => ?_) (fun hc164 => ?_)
      · exact x_vret dX0_readNext_303 rfl ⟨rfl, 2, v, rfl, by decide, Or.inr (Or.inr (Or.inl ⟨rfl, rfl⟩))⟩
      · refine x_aload_n dX0_readNext_167 rfl ?_
        refine x_aload_n dX0_readNext_168 rfl ?_
        refine q_getr 0 5 dX0_readNext_169 (C := RX0) (T := TX0) (N := 30) rfl (by decide) q400 (show 0 < fc_nx M by have := hF.1; omega) (hF.2.2 0 _ rfl) rfl ((ct_pn (fun z => absurd z.2 (by decide))).trans (hF.2.1 5 _ rfl)) ?_
        refine k_V1iF (LF_p0 rfl hF) dX0_readNext_172 kG_X0_X0_wordOf kP_X0_wordOf rfl (by omega) (by decide) (Nat.le_of_ble_eq_true rfl) (d_wordOf (ix := fun k => 14 + k) (LF_p0 rfl hF) (tpR_s3 hT) hA (show 5 < fc_nx M by have := hF.1; omega) (hF.2.2 5 _ rfl) (by decide) (fun i hi => ⟨by omega, (ct_pn (fun z => absurd z.1 (by decide))).trans (hW.2.2.2 i hi)⟩)) ?_
        refine x_top (if_pos rfl) ?_
        refine x_icm1 dX0_readNext_175 ?_
        refine x_icmp_ne (tgt := 303) dX0_readNext_176 (by decide) (fun hc176 => ?_) (fun hc176 => ?_)
        · exact x_vret dX0_readNext_303 rfl ⟨rfl, 2, v, rfl, by decide, Or.inr (Or.inr (Or.inl ⟨rfl, rfl⟩))⟩
        · refine x_aload_n dX0_readNext_179 rfl ?_
          refine x_tok 1 dX0_readNext_180 (by decide) rfl q523 ?_
          refine x_putf 0 6 dX0_readNext_183 (C := RX0) (T := TX0) (N := 30) rfl (by decide) q401 rfl rfl rfl (show 0 < fc_nx M by have := hF.1; omega) (hF.2.2 0 _ rfl) ?_
          rw [cl_putr (by rw [show fc_sh (fc_put M 0 6 _) 0 = .inl 0 from hF.2.2 0 _ rfl]; rfl), putp]
          refine x_goto (tgt := 303) dX0_readNext_186 (by decide) ?_
          exact x_vret dX0_readNext_303 rfl ⟨rfl, 1, v, rfl, by decide, Or.inr (Or.inl ⟨rfl, wdW_none hc140 hc152 hc164 hc176⟩)⟩
set_option maxHeartbeats 1000000 in
theorem b_rn259 {n0 s0 : Nat} (hF : LF g M) (hT : tpR S b t) (hW : WD g M) {v v2 : Int32} {s e : Nat} (hse : s ≤ e) (he : e ≤ t) (hv : e - s < 5 → v = v2) {o1 : Option Value} : fc_X g l yX0_readNext cX0_readNext 2 (none) 7 n0 s0 (cl (fc_put M 0 6 (.ref (fc_tk g 1))) (s3 S (nI e) (nI s) v) U) 259 [some (.ref (fc_B g + 0)), o1] [] (rn_v g M S U wh b (s, e, (if e - s < 5 then nI 2 else nI 1), v2)) := by
  have ht4 := hT.2.1
  refine x_aload_n dX0_readNext_259 rfl ?_
  refine q_geti 0 7 dX0_readNext_260 (C := RX0) (T := TX0) (N := 30) rfl (by decide) q402 (show 0 < fc_nx M by have := hF.1; omega) (hF.2.2 0 _ rfl) rfl rfl ?_
  refine x_top (show s3 _ _ _ _ 0 7 = nI e from rfl) ?_
  refine x_aload_n dX0_readNext_263 rfl ?_
  refine q_geti 0 8 dX0_readNext_264 (C := RX0) (T := TX0) (N := 30) rfl (by decide) q403 (show 0 < fc_nx M by have := hF.1; omega) (hF.2.2 0 _ rfl) rfl rfl ?_
  refine x_top (show s3 _ _ _ _ 0 8 = nI s from rfl) ?_
  refine x_isubN dX0_readNext_267 (by omega) ?_
  refine x_ic4 dX0_readNext_268 ?_
  refine x_icmpN_gt (tgt := 303) dX0_readNext_269 (by decide) (by omega) (by omega) (fun hc269 => ?_) (fun hc269 => ?_)
  · exact x_vret dX0_readNext_303 rfl ⟨rfl, 1, v, rfl, by decide, Or.inr (Or.inl ⟨rfl, if_neg (show ¬ e - s < 5 by omega)⟩)⟩
  · refine x_aload_n dX0_readNext_272 rfl ?_
    refine x_tok 3 dX0_readNext_273 (by decide) rfl q593 ?_
    refine x_putf 0 6 dX0_readNext_276 (C := RX0) (T := TX0) (N := 30) rfl (by decide) q401 rfl rfl rfl (show 0 < fc_nx M by have := hF.1; omega) (hF.2.2 0 _ rfl) ?_
    rw [cl_putr (by rw [show fc_sh (fc_put M 0 6 _) 0 = .inl 0 from hF.2.2 0 _ rfl]; rfl), putp]
    refine x_goto (tgt := 303) dX0_readNext_279 (by decide) ?_
    exact x_vret dX0_readNext_303 rfl ⟨rfl, 3, v, rfl, by decide, Or.inr (Or.inr (Or.inr (Or.inl ⟨rfl, if_pos (show e - s < 5 by omega), hv (by omega)⟩)))⟩
theorem kG_X0_J0_indexOf : GoodIn lw_all (wsV RX0 207 RJ0 yJ0_indexOf (ws_ yJ0_indexOf cJ0_indexOf 2 (some .int))) := lw_V q596 q597 q598 q127 q599
theorem kP_J0_indexOf : kPar yJ0_indexOf 1 := by decide +kernel
set_option maxHeartbeats 1000000 in
theorem b_rn39 {n0 s0 : Nat} (hF : LF g M) (hT : tpR S b t) (hW : WD g M) {T : Value} {y v : Int32} {s : Nat} (hs : s ≤ t) {o1 : Option Value} : fc_X g l yX0_readNext cX0_readNext 2 (none) 7 n0 s0 (cl (fc_put M 0 6 T) (s3 S (nI s) y v) U) 39 [some (.ref (fc_B g + 0)), o1] [] (rn_v g M S U wh b (nxC wh b t s v0)) := by
  have ht4 := hT.2.1
  refine x_aload_n dX0_readNext_39 rfl ?_
  refine x_aload_n dX0_readNext_40 rfl ?_
  refine q_geti 0 7 dX0_readNext_41 (C := RX0) (T := TX0) (N := 30) rfl (by decide) q402 (show 0 < fc_nx M by have := hF.1; omega) (hF.2.2 0 _ rfl) rfl rfl ?_
  refine x_top (show s3 _ _ _ _ 0 7 = nI s from rfl) ?_
  refine q_puti 0 8 dX0_readNext_44 (C := RX0) (T := TX0) (N := 30) rfl (by decide) q403 rfl rfl rfl (show 0 < fc_nx M by have := hF.1; omega) (hF.2.2 0 _ rfl) rfl ?_
  rw [s3_8]
  refine x_aload_n dX0_readNext_47 rfl ?_
  refine x_aload_n dX0_readNext_48 rfl ?_
  refine q_geti 0 7 dX0_readNext_49 (C := RX0) (T := TX0) (N := 30) rfl (by decide) q402 (show 0 < fc_nx M by have := hF.1; omega) (hF.2.2 0 _ rfl) rfl rfl ?_
  refine x_top (show s3 _ _ _ _ 0 7 = nI s from rfl) ?_
  refine k_V1iF (LF_p0 rfl hF) dX0_readNext_52 kG_X0_X0_raw kP_X0_raw rfl (by omega) (by decide) (Nat.le_of_ble_eq_true rfl) (d_raw (LF_p0 rfl hF) (tpR_s3 hT) (by omega)) ?_
  refine x_istore_n dX0_readNext_55 (by decide) rfl ?_
  refine x_aload_n dX0_readNext_56 rfl ?_
  refine x_iload_n dX0_readNext_57 rfl ?_
  refine x_icm1 dX0_readNext_58 ?_
  refine x_icmp_ne (tgt := 68) dX0_readNext_59 (by decide) (fun hc59 => ?_) (fun hc59 => ?_)
  · refine x_tok 1 dX0_readNext_68 (by decide) rfl q523 ?_
    refine x_putf 0 6 dX0_readNext_71 (C := RX0) (T := TX0) (N := 30) rfl (by decide) q401 rfl rfl rfl (show 0 < fc_nx M by have := hF.1; omega) (hF.2.2 0 _ rfl) ?_
    rw [cl_putr (by rw [show fc_sh (fc_put M 0 6 _) 0 = .inl 0 from hF.2.2 0 _ rfl]; rfl), putp]
    refine x_iload_n dX0_readNext_74 rfl ?_
    refine x_icm1 dX0_readNext_75 ?_
    refine x_icmp_ne (tgt := 80) dX0_readNext_76 (by decide) (fun hc76 => ?_) (fun hc76 => ?_)
    · have hlt := sq_lt hc59
      obtain ⟨m, hm, em⟩ := sq_m hT hc59
      rw [em]
      · refine x_aload_n dX0_readNext_80 rfl ?_
        refine x_dup dX0_readNext_81 rfl ?_
        refine q_geti 0 7 dX0_readNext_82 (C := RX0) (T := TX0) (N := 30) rfl (by decide) q402 (show 0 < fc_nx M by have := hF.1; omega) (hF.2.2 0 _ rfl) rfl rfl ?_
        refine x_top (show s3 _ _ _ _ 0 7 = nI s from rfl) ?_
        refine x_ic1 dX0_readNext_85 ?_
        refine x_iaddN dX0_readNext_86 ?_
        refine q_puti 0 7 dX0_readNext_87 (C := RX0) (T := TX0) (N := 30) rfl (by decide) q402 rfl rfl rfl (show 0 < fc_nx M by have := hF.1; omega) (hF.2.2 0 _ rfl) rfl ?_
        rw [s3_7]
        refine x_iload_n dX0_readNext_90 rfl ?_
        refine k_S1i dX0_readNext_91 kG_X0_X0_isLetter kP_X0_isLetter (by omega) (by decide) (Nat.le_of_ble_eq_true rfl) d_isLetter ?_
        refine x_ifB_eq (tgt := 189) dX0_readNext_94 (by decide) (fun hc94 => ?_) (fun hc94 => ?_)
        · refine x_iload_n dX0_readNext_189 rfl ?_
          refine k_S1i dX0_readNext_190 kG_X0_X0_isDigit kP_X0_isDigit (by omega) (by decide) (Nat.le_of_ble_eq_true rfl) d_isDigit ?_
          refine x_ifB_eq (tgt := 282) dX0_readNext_193 (by decide) (fun hc193 => ?_) (fun hc193 => ?_)
          · refine x_ldcS fs_18 rfl rfl dX0_readNext_282 ?_
            refine x_iload_n dX0_readNext_284 rfl ?_
            refine x_O1e dX0_readNext_285 kG_X0_J0_indexOf kP_J0_indexOf (fun U h => (h.2.2.2.1 18 _ fs_18).2.1) (by omega) (by decide) (Nat.le_of_ble_eq_true rfl) (c_sidx fs_18 (by decide) (by decide) hm) ?_
            refine x_if_lt (tgt := 303) dX0_readNext_288 (by decide) (fun hc288 => ?_) (fun hc288 => ?_)
            · rw [nxC, if_neg hc59, if_neg (by rw [em]; exact hc94), if_neg (by rw [em]; exact hc193), if_neg (by rw [em]; exact fun z => (ix_sg hm).mpr z hc288)]
              exact x_vret dX0_readNext_303 rfl ⟨rfl, 1, v, rfl, by decide, Or.inr (Or.inl ⟨rfl, rfl⟩)⟩
            · refine x_aload_n dX0_readNext_291 rfl ?_
              refine x_tok 4 dX0_readNext_292 (by decide) rfl q653 ?_
              refine x_putf 0 6 dX0_readNext_295 (C := RX0) (T := TX0) (N := 30) rfl (by decide) q401 rfl rfl rfl (show 0 < fc_nx M by have := hF.1; omega) (hF.2.2 0 _ rfl) ?_
              rw [cl_putr (by rw [show fc_sh (fc_put M 0 6 _) 0 = .inl 0 from hF.2.2 0 _ rfl]; rfl), putp]
              refine x_aload_n dX0_readNext_298 rfl ?_
              refine x_iload_n dX0_readNext_299 rfl ?_
              refine q_puti 0 9 dX0_readNext_300 (C := RX0) (T := TX0) (N := 30) rfl (by decide) q404 rfl rfl rfl (show 0 < fc_nx M by have := hF.1; omega) (hF.2.2 0 _ rfl) rfl ?_
              rw [s3_9]
              rw [nxC, if_neg hc59, if_neg (by rw [em]; exact hc94), if_neg (by rw [em]; exact hc193), if_pos (by rw [em]; exact (ix_sg hm).mp hc288), em]
              exact x_vret dX0_readNext_303 rfl ⟨rfl, 4, nI m, rfl, by decide, Or.inr (Or.inr (Or.inr (Or.inr ⟨rfl, (ix_sg hm).mp hc288, rfl⟩)))⟩
          · refine x_aload_n dX0_readNext_196 rfl ?_
            refine x_iload_n dX0_readNext_197 rfl ?_
            refine x_bipush (v := nI 48) dX0_readNext_198 (by decide) ?_
            refine x_isub dX0_readNext_200 ?_
            refine q_puti 0 9 dX0_readNext_201 (C := RX0) (T := TX0) (N := 30) rfl (by decide) q404 rfl rfl rfl (show 0 < fc_nx M by have := hF.1; omega) (hF.2.2 0 _ rfl) rfl ?_
            rw [s3_9]
            have hdi : isDi (sq b t s) := by rw [em]; exact hc193
            have h3 : diL b t s 401 s (nI 0) = diL b t s 400 (s + 1) (nI 10 * nI 0 + nI m - nI 48) := by
              rw [diL, if_pos hdi, if_pos (by omega), em]
            rw [nxC, if_neg hc59, if_neg (by rw [em]; exact hc94), if_pos hdi, h3]
            have h9 := diL_le (b := b) (t := t) (s := s) 400 (s + 1) (nI 10 * nI 0 + nI m - nI 48) (by omega)
            obtain ⟨m2, hm2, e4⟩ := di_m (m := 0) (by omega) hc193 hm
            refine m_rn204 hF hT (s := s) 400 (s + 1) (nI m - nI 48) (nI 10 * nI 0 + nI m - nI 48) (by omega) (by omega) (by omega) (fun _ => ⟨?_, m2, ?_, e4⟩) (fun v9 hv9 => b_rn259 hF hT hW (by omega) h9.2 hv9)
            · rw [pk_mul, nI_add, Nat.mul_zero, Nat.zero_add]
            · rw [show s + 1 - s = 1 by omega]; omega
        · rw [nxC, if_neg hc59, if_pos (by rw [em]; exact hc94), show leL b t 401 s = leL b t 400 (s + 1) by rw [leL, if_pos (by rw [em]; exact hc94)]]
          have h9 := leL_le (b := b) (t := t) 400 (s + 1) (by omega)
          exact m_rn97 hF hT 400 (s + 1) (by omega) (by omega) (b_rn124 hF hT hW (by omega) h9.2)
    · exact absurd hc76 hc59
  · refine x_tok 0 dX0_readNext_62 (by decide) rfl q521 ?_
    refine x_goto (tgt := 71) dX0_readNext_65 (by decide) ?_
    refine x_putf 0 6 dX0_readNext_71 (C := RX0) (T := TX0) (N := 30) rfl (by decide) q401 rfl rfl rfl (show 0 < fc_nx M by have := hF.1; omega) (hF.2.2 0 _ rfl) ?_
    rw [cl_putr (by rw [show fc_sh (fc_put M 0 6 _) 0 = .inl 0 from hF.2.2 0 _ rfl]; rfl), putp]
    refine x_iload_n dX0_readNext_74 rfl ?_
    refine x_icm1 dX0_readNext_75 ?_
    refine x_icmp_ne (tgt := 80) dX0_readNext_76 (by decide) (fun hc76 => ?_) (fun hc76 => ?_)
    · exact absurd hc59 hc76
    · rw [nxC, if_pos hc59]
      exact x_vret dX0_readNext_79 rfl ⟨rfl, 0, v, rfl, by decide, Or.inl ⟨rfl, rfl⟩⟩
theorem put_self6 {a k : Nat} : fc_put M a k (fc_ct M a k) = M := by
  refine Prod.ext rfl (Prod.ext rfl (funext fun c => funext fun j => ?_))
  show (if c = a ∧ j = k then fc_ct M a k else fc_ct M c j) = fc_ct M c j
  by_cases h : c = a ∧ j = k
  · rw [if_pos h, h.1, h.2]
  · rw [if_neg h]
theorem d_readNext (hF : LF g M) (hT : tpR S b t) (hW : WD g M) {a : Nat} (h7 : S 0 7 = nI a) (ha : a ≤ t) : fc_CX g l yX0_readNext cX0_readNext 2 none 7 [.ref (fc_B g + 0)] (cl M S U) (rn_v g M S U wh b (nxK wh b t a v0)) := by
  refine fc_enter (by decide) (Nat.le_of_ble_eq_true rfl) rfl ?_
  have h9 := spL_le (b := b) (t := t) 401 a ha
  have ht4 := hT.2.1
  refine x_eqM (show cl M S U = cl (fc_put M 0 6 (fc_ct M 0 6)) (s3 S (nI a) (S 0 8) (S 0 9)) U by rw [← h7, s3_self, put_self6]) ?_
  exact m_rn0 hF hT 401 a ha (by omega) (b_rn39 hF hT hW h9.2)
end T99ZZD
