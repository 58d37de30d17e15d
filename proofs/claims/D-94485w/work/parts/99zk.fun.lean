set_option maxRecDepth 100000
section T99ZK
variable {g : fc_G} {l : Launch} {M : fc_M} {S : tT} {U : tU} {w v : Nat → Int32} {π f nC n : Nat} {τ : Nat → Nat}
theorem tJ_6 {a b : Int32} : tu (tu S 99 6 a) 99 7 b 99 6 = a := by
  show (if 99 = 99 ∧ 6 = 7 then b else if 99 = 99 ∧ 6 = 6 then a else S 99 6) = a
  rw [if_neg (by decide), if_pos ⟨rfl, rfl⟩]
theorem tJ_7 {a b : Int32} : tu (tu S 99 6 a) 99 7 b 99 7 = b := by
  show (if 99 = 99 ∧ 7 = 7 then b else if 99 = 99 ∧ 7 = 6 then a else S 99 7) = b
  rw [if_pos ⟨rfl, rfl⟩]
def fnC (v : Nat → Int32) (n f nC r : Nat) (x1 x2 : Int32) : Int32 := if nI 0 ≤ x1 ∧ x1 ≤ v 2 - nI 1 then (if v (820 + 8 * x1.toNatClampNeg + 3) = nI 1 then (if nI 0 ≤ x2 ∧ x2 ≤ nI f - nI 1 then (if x2 = v (820 + 8 * x1.toNatClampNeg + 1) then -100000 else if x2 = v (820 + 8 * x1.toNatClampNeg + 2) then -100000 else
  if cnt (stp (thP v n f nC r 3000).1 3) n = n then (if cnt (stp (thK v n f nC r 3000 x1 x2.toNatClampNeg).1 3) n = n then ovW (thK v n f nC r 3000 x1 x2.toNatClampNeg).1 x1 n (n + 1) 0 (nI 0) - ovW (thP v n f nC r 3000).1 x1 n (n + 1) 0 (nI 0) else -100000) else -100000) else -100000) else -100000) else -100000
set_option maxHeartbeats 2000000 in
theorem d_fun (h : TI g M S U π f nC n v) (hR : RT g M S τ v) (hv : clr S 32 v = S) {r : Nat} (hr : r < 3) (h4 : v 4 = nI r) {x1 x2 : Int32} : fc_CX g l yX0_fun cX0_fun 4 (some .int) 408 [.ref (fc_B g + 0), .int x1, .int x2] (cl M S U) (th_i M S U (fnC v n f nC r x1 x2)) := by
  refine fc_enter (by decide) (Nat.le_of_ble_eq_true rfl) rfl ?_
  have hn := h.2.2.2.1.1.1
  have hC4 := h.2.2.2.1.1.2.2
  have hf8 := h.2.2.2.1.1.2.1
  have hw := h.2.2.2.1.2.2.2.1
  have hL := h.1.1
  have hO := h.2.1
  refine x_eqM (congrArg (fun z => cl M z U) hv.symm) ?_
  refine x_aload_n dX0_fun_0 rfl ?_
  refine x_iload_n dX0_fun_1 rfl ?_
  refine k_V1iF hO.1 dX0_fun_2 kG_X0_X0_isOne kP_X0_isOne rfl (by omega) (by decide) (Nat.le_of_ble_eq_true rfl) (d_isOne hL hO) ?_
  refine x_ifB_eq (tgt := 64) dX0_fun_5 (by decide) (fun hc5 => ?_) (fun hc5 => ?_)
  · refine x_ldcw dX0_fun_64 q1082 ?_
    have e9 : fnC v n f nC r x1 x2 = -100000 := by rw [fnC, if_neg hc5]
    rw [e9]
    refine x_eqM (congrArg (fun z => cl M z U) hv) ?_
    exact x_iret dX0_fun_67 rfl rfl th_same
  · obtain ⟨pp, hp, rfl⟩ := h.2.2.2.1.one hc5
    have hcp : (nI pp).toNatClampNeg = pp := nI_clamp (by omega)
    · refine x_aload_n dX0_fun_8 rfl ?_
      refine k_Fref 17 hO.1 rfl (by decide) rfl dX0_fun_9 q415 ?_
      refine k_people 0 rfl hL dX0_fun_12 q348 ?_
      refine x_iload_n dX0_fun_15 rfl ?_
      refine k_pald hL dX0_fun_16 (by omega) ?_
      refine k_pget 3 hL dX0_fun_17 (by decide) q278 (by omega) ?_
      refine x_ic1 dX0_fun_20 ?_
      refine x_icmp_ne (tgt := 64) dX0_fun_21 (by decide) (fun hc21 => ?_) (fun hc21 => ?_)
      · refine x_ldcw dX0_fun_64 q1082 ?_
        have e9 : fnC v n f nC r (nI pp) x2 = -100000 := by rw [fnC, if_pos hc5, if_neg (by rw [hcp]; exact hc21)]
        rw [e9]
        refine x_eqM (congrArg (fun z => cl M z U) hv) ?_
        exact x_iret dX0_fun_67 rfl rfl th_same
      · refine x_aload_n dX0_fun_24 rfl ?_
        refine x_iload_n dX0_fun_25 rfl ?_
        refine k_V1iF hO.1 dX0_fun_26 kG_X0_X0_isFloor kP_X0_isFloor rfl (by omega) (by decide) (Nat.le_of_ble_eq_true rfl) (d_isFloor hO) ?_
        refine x_ifB_eq (tgt := 64) dX0_fun_29 (by decide) (fun hc29 => ?_) (fun hc29 => ?_)
        · refine x_ldcw dX0_fun_64 q1082 ?_
          have e9 : fnC v n f nC r (nI pp) x2 = -100000 := by rw [fnC, if_pos hc5, if_pos (by rw [hcp]; exact hc21), if_neg hc29]
          rw [e9]
          refine x_eqM (congrArg (fun z => cl M z U) hv) ?_
          exact x_iret dX0_fun_67 rfl rfl th_same
        · refine x_iload_n dX0_fun_32 rfl ?_
          refine x_aload_n dX0_fun_33 rfl ?_
          refine k_Fref 17 hO.1 rfl (by decide) rfl dX0_fun_34 q415 ?_
          refine k_people 0 rfl hL dX0_fun_37 q348 ?_
          refine x_iload_n dX0_fun_40 rfl ?_
          refine k_pald hL dX0_fun_41 (by omega) ?_
          refine k_pget 1 hL dX0_fun_42 (by decide) q272 (by omega) ?_
          refine x_icmp_eq (tgt := 64) dX0_fun_45 (by decide) (fun hc45 => ?_) (fun hc45 => ?_)
          · refine x_ldcw dX0_fun_64 q1082 ?_
            have e9 : fnC v n f nC r (nI pp) x2 = -100000 := by rw [fnC, if_pos hc5, if_pos (by rw [hcp]; exact hc21), if_pos hc29, if_pos (by rw [hcp]; exact hc45)]
            rw [e9]
            refine x_eqM (congrArg (fun z => cl M z U) hv) ?_
            exact x_iret dX0_fun_67 rfl rfl th_same
          · refine x_iload_n dX0_fun_48 rfl ?_
            refine x_aload_n dX0_fun_49 rfl ?_
            refine k_Fref 17 hO.1 rfl (by decide) rfl dX0_fun_50 q415 ?_
            refine k_people 0 rfl hL dX0_fun_53 q348 ?_
            refine x_iload_n dX0_fun_56 rfl ?_
            refine k_pald hL dX0_fun_57 (by omega) ?_
            refine k_pget 2 hL dX0_fun_58 (by decide) q275 (by omega) ?_
            refine x_icmp_ne (tgt := 68) dX0_fun_61 (by decide) (fun hc61 => ?_) (fun hc61 => ?_)
            · obtain ⟨fl, hfl, rfl⟩ := inC (m := f) (by omega) hc29
              have hJK : JK v (nI pp) fl n := fun i hi e z => hc45 (by rw [← z]; have e9 : i = pp := (nI_eq (by omega) (by omega)).mp e; rw [e9])
              · refine x_aload_n dX0_fun_68 rfl ?_
                refine k_Fref 18 hO.1 rfl (by decide) rfl dX0_fun_69 q416 ?_
                refine x_aload_n dX0_fun_72 rfl ?_
                refine k_Fref 17 hO.1 rfl (by decide) rfl dX0_fun_73 q415 ?_
                refine x_V1v (P := fun M3 => M3 = cR (fc_put M 99 5 .null) (tu (clr S 32 v) 99 6 (-1)) (bcU U 99 32) 99 (vtW S 99 n v)) 3 dX0_fun_76 kG_X0_X3_become kP_X3_become (T := TX3) (N := 12) rfl (show 99 < fc_nx M by have := h.1.2.1; omega) h.1.2.sh0 (by omega) (by decide) (Nat.le_of_ble_eq_true rfl) (fc_rn_v (d_becomeT h.1.2 h.1.1 (Or.inl (by decide)) h.2.2.2.2.2 hn hw)) (fun M3 e9 => ?_)
                subst e9
                have hL := LT_put (v := .null) h.1.2
                have hO : LF g (fc_put M 99 5 .null) ∧ True := ⟨LF_put (by decide) h.2.1.1, trivial⟩
                refine x_aload_n dX0_fun_79 rfl ?_
                refine k_Fref 18 hO.1 rfl (by decide) rfl dX0_fun_80 q416 ?_
                refine x_sipush (v := nI 3000) dX0_fun_83 (by decide) ?_
                rw [← vt_up4 (S := S) (n := n) h4]
                refine k_V1qi hL dX0_fun_86 kG_X0_X3_toTheEnd kP_X3_toTheEnd rfl (by omega) (by decide) (Nat.le_of_ble_eq_true rfl) (th_run h hR hr (by decide)) (fun S2 U2 e3 e4 e5 => ?_)
                have hWE := th_WS (wi := 3000) h hr
                have hle : (thX S v n f nC r 3000).2 ≤ 3000 := edW_le _ _ _ (by decide)
                have hE1 := (thX_P (S := S) (wi := 3000) h.2.2.2.1 hr).1
                generalize thX S v n f nC r 3000 = E at hWE hle hE1 ⊢
                by_cases hce : cnt (stp E.1 3) n = n
                · refine x_top (if_pos hce : teR E.1 n E.2 = nI E.2) ?_
                  refine x_icm1 dX0_fun_89 ?_
                  refine x_icmp_ne (tgt := 97) dX0_fun_90 (by decide) (fun hc90 => ?_) (fun hc90 => ?_)
                  · refine x_aload_n dX0_fun_97 rfl ?_
                    refine k_Fref 18 hO.1 rfl (by decide) rfl dX0_fun_98 q416 ?_
                    refine x_iload_n dX0_fun_101 rfl ?_
                    refine k_V1iT hL dX0_fun_102 kG_X0_X3_overOf kP_X3_overOf rfl (by omega) (by decide) (Nat.le_of_ble_eq_true rfl) (d_overOf hL hn hWE.1.2.2.1) ?_
                    refine x_istore_n dX0_fun_105 (by decide) rfl ?_
                    obtain ⟨-, gv1, S1, U1, e8, hS1, hU1⟩ := th_fin (M := M) (r := 0) (w2 := E.1) e4 e5 hv
                    refine x_eqM e8 ?_
                    have h1 := TI_th (gv := gv1) h hS1 hU1
                    have hR1 := RT_th (gv := gv1) h hS1 hR
                    have hv1 := tel_th hv hS1
                    have hL := h1.1.1
                    have hO := h1.2.1
                    refine x_eqM (congrArg (fun z => cl (fc_put M 99 5 gv1) z U1) hv1.symm) ?_
                    · refine x_aload_n dX0_fun_106 rfl ?_
                      refine k_Fref 18 hO.1 rfl (by decide) rfl dX0_fun_107 q416 ?_
                      refine x_aload_n dX0_fun_110 rfl ?_
                      refine k_Fref 17 hO.1 rfl (by decide) rfl dX0_fun_111 q415 ?_
                      refine x_V1v (P := fun M3 => M3 = cR (fc_put (fc_put M 99 5 gv1) 99 5 .null) (tu (clr S1 32 v) 99 6 (-1)) (bcU U1 99 32) 99 (vtW S1 99 n v)) 3 dX0_fun_114 kG_X0_X3_become kP_X3_become (T := TX3) (N := 12) rfl (show 99 < fc_nx (fc_put M 99 5 gv1) by have := h1.1.2.1; omega) h1.1.2.sh0 (by omega) (by decide) (Nat.le_of_ble_eq_true rfl) (fc_rn_v (d_becomeT h1.1.2 h1.1.1 (Or.inl (by decide)) h1.2.2.2.2.2 hn hw)) (fun M3 e9 => ?_)
                      subst e9
                      have hL := LT_put (v := .null) h1.1.2
                      have hO : LF g (fc_put (fc_put M 99 5 gv1) 99 5 .null) ∧ True := ⟨LF_put (by decide) h1.2.1.1, trivial⟩
                      refine x_aload_n dX0_fun_117 rfl ?_
                      refine k_Fref 18 hO.1 rfl (by decide) rfl dX0_fun_118 q416 ?_
                      refine x_iload_n dX0_fun_121 rfl ?_
                      refine k_tputf 6 hL dX0_fun_122 (by decide) q360 rfl rfl rfl ?_
                      refine x_aload_n dX0_fun_125 rfl ?_
                      refine k_Fref 18 hO.1 rfl (by decide) rfl dX0_fun_126 q416 ?_
                      refine x_iload_n dX0_fun_129 rfl ?_
                      refine k_tputf 7 hL dX0_fun_130 (by decide) q362 rfl rfl rfl ?_
                      refine x_aload_n dX0_fun_133 rfl ?_
                      refine k_Fref 18 hO.1 rfl (by decide) rfl dX0_fun_134 q416 ?_
                      refine x_sipush (v := nI 3000) dX0_fun_137 (by decide) ?_
                      rw [← vt_up4 (S := S1) (n := n) h4]
                      refine k_V1qi hL dX0_fun_140 kG_X0_X3_toTheEnd kP_X3_toTheEnd rfl (by omega) (by decide) (Nat.le_of_ble_eq_true rfl) (thJ_run h1 hR1 hr (by decide) (fun a k e => (if_neg (fun z => by omega)).trans ((if_neg (fun z => by omega)).trans (tS_lo e))) tJ_6 tJ_7 hfl hJK) (fun S2 U2 e3 e4 e5 => ?_)
                      have hWF := thJ_WS (S := S1) (wi := 3000) (pr := nI pp) h.2.2.2.1 hr (show fl < 80 by omega)
                      have hle2 : (thJ S1 v n f nC r 3000 (nI pp) fl).2 ≤ 3000 := edW_le _ _ _ (by decide)
                      have hE2 := (thJ_K (S := S1) (wi := 3000) (pr := nI pp) h.2.2.2.1 hr (show fl < 80 by omega)).1
                      generalize thJ S1 v n f nC r 3000 (nI pp) fl = F at hWF hle2 hE2 ⊢
                      by_cases hcf : cnt (stp F.1 3) n = n
                      · refine x_top (if_pos hcf : teR F.1 n F.2 = nI F.2) ?_
                        refine x_icm1 dX0_fun_143 ?_
                        refine x_icmp_ne (tgt := 153) dX0_fun_144 (by decide) (fun hc144 => ?_) (fun hc144 => ?_)
                        · refine x_aload_n dX0_fun_153 rfl ?_
                          refine k_Fref 18 hO.1 rfl (by decide) rfl dX0_fun_154 q416 ?_
                          refine x_iload_n dX0_fun_157 rfl ?_
                          refine k_V1iT hL dX0_fun_158 kG_X0_X3_overOf kP_X3_overOf rfl (by omega) (by decide) (Nat.le_of_ble_eq_true rfl) (d_overOf hL hn hWF.1.2.2.1) ?_
                          refine x_iload_n dX0_fun_161 rfl ?_
                          refine x_isub dX0_fun_162 ?_
                          have e9 : fnC v n f nC r (nI pp) (nI fl) = ovW F.1 (nI pp) n (n + 1) 0 (nI 0) - ovW E.1 (nI pp) n (n + 1) 0 (nI 0) := by rw [fnC, if_pos hc5, if_pos (by rw [hcp]; exact hc21), if_pos hc29, if_neg (by rw [hcp]; exact hc45), if_neg (by rw [hcp]; exact hc61), nI_clamp (n := fl) (by omega), if_pos (by rw [← hE1.cs1 3]; exact hce), if_pos (by rw [← hE2.cs1 3]; exact hcf), ovW_Rl hE1 (by rw [← hE1.cs1 3]; exact hce), ovW_Rl hE2 (by rw [← hE2.cs1 3]; exact hcf)]
                          obtain ⟨-, gv2, S3, U3, e7, hS3, hU3⟩ := thJ_fin (M := fc_put M 99 5 gv1) (S := S1) (U := U1) (r := 0) (w2 := F.1) (fun a k z => (if_neg (fun y => z y.1)).trans ((if_neg (fun y => z y.1)).trans (if_neg (fun y => z y.1)))) e4 e5 hv1
                          exact x_iret dX0_fun_163 rfl rfl ⟨by rw [e9], gv2, S3, U3, by rw [e7, put_put], fun a k z1 z2 => (hS3 a k z1 z2).trans (hS1 a k z1 z2), fun a k z => (hU3 a k z).trans (hU1 a k z)⟩
                        · exact absurd hc144 (nI_nm2 (by omega))
                      · refine x_top (if_neg hcf : teR F.1 n F.2 = -1) ?_
                        refine x_icm1 dX0_fun_143 ?_
                        refine x_icmp_ne (tgt := 153) dX0_fun_144 (by decide) (fun hc144 => ?_) (fun hc144 => ?_)
                        · exact absurd rfl hc144
                        · refine x_ldcw dX0_fun_147 q1082 ?_
                          refine x_goto (tgt := 163) dX0_fun_150 (by decide) ?_
                          have e9 : fnC v n f nC r (nI pp) (nI fl) = -100000 := by rw [fnC, if_pos hc5, if_pos (by rw [hcp]; exact hc21), if_pos hc29, if_neg (by rw [hcp]; exact hc45), if_neg (by rw [hcp]; exact hc61), nI_clamp (n := fl) (by omega), if_pos (by rw [← hE1.cs1 3]; exact hce), if_neg (by rw [← hE2.cs1 3]; exact hcf)]
                          obtain ⟨-, gv2, S3, U3, e7, hS3, hU3⟩ := thJ_fin (M := fc_put M 99 5 gv1) (S := S1) (U := U1) (r := 0) (w2 := F.1) (fun a k z => (if_neg (fun y => z y.1)).trans ((if_neg (fun y => z y.1)).trans (if_neg (fun y => z y.1)))) e4 e5 hv1
                          exact x_iret dX0_fun_163 rfl rfl ⟨by rw [e9], gv2, S3, U3, by rw [e7, put_put], fun a k z1 z2 => (hS3 a k z1 z2).trans (hS1 a k z1 z2), fun a k z => (hU3 a k z).trans (hU1 a k z)⟩
                  · exact absurd hc90 (nI_nm2 (by omega))
                · refine x_top (if_neg hce : teR E.1 n E.2 = -1) ?_
                  refine x_icm1 dX0_fun_89 ?_
                  refine x_icmp_ne (tgt := 97) dX0_fun_90 (by decide) (fun hc90 => ?_) (fun hc90 => ?_)
                  · exact absurd rfl hc90
                  · refine x_ldcw dX0_fun_93 q1082 ?_
                    have e9 : fnC v n f nC r (nI pp) (nI fl) = -100000 := by rw [fnC, if_pos hc5, if_pos (by rw [hcp]; exact hc21), if_pos hc29, if_neg (by rw [hcp]; exact hc45), if_neg (by rw [hcp]; exact hc61), nI_clamp (n := fl) (by omega), if_neg (by rw [← hE1.cs1 3]; exact hce)]
                    rw [e9]
                    exact x_iret dX0_fun_96 rfl rfl (th_fin e4 e5 hv)
            · refine x_ldcw dX0_fun_64 q1082 ?_
              have e9 : fnC v n f nC r (nI pp) x2 = -100000 := by rw [fnC, if_pos hc5, if_pos (by rw [hcp]; exact hc21), if_pos hc29, if_neg (by rw [hcp]; exact hc45), if_pos (by rw [hcp]; exact hc61)]
              rw [e9]
              refine x_eqM (congrArg (fun z => cl M z U) hv) ?_
              exact x_iret dX0_fun_67 rfl rfl th_same
end T99ZK
