set_option maxRecDepth 100000
section T99ZS
variable {g : fc_G} {l : Launch} {M : fc_M} {S : tT} {U : tU} {w v : Nat → Int32} {π f nC n : Nat} {τ : Nat → Nat}
theorem kG_X0_X0_gives : GoodIn lw_all (wsV RX0 464 RX0 yX0_gives (ws_ yX0_gives cX0_gives 5 (some .boolean))) := lw_V q1057 q1059 qs41 q118 q1060
theorem kP_X0_gives : kPar yX0_gives 1 := by decide +kernel
set_option maxHeartbeats 4000000 in
theorem m_findsBest {n0 s0 : Nat} {r all : Nat} (hr : r < 3) (h4 : v 4 = nI r) (h6 : n ≤ 6) (hC0 : 0 < nC) (hal : all < 1000) : ∀ (k q : Nat) (M : fc_M) (S : tT) (U : tU) (s : tS), TI g M S U π f nC n v → RT g M S τ v → clr S 32 v = S → S 233 = s.1 → (∀ k, k < 6 → S 234 k = s.2.1 k) → q ≤ all → all < q + k → ∀ (o4 : Option Value), fc_X g l yX0_findsBest cX0_findsBest 5 (some .int) 408 n0 s0 (cl M S U) 35 [some (.ref (fc_B g + 0)), some (.int (nI all)), some (.int s.2.2), some (.int (nI q)), o4] [] (fb_i M S U (fbL v n f nC r all k q s)) := by
  intro k
  induction k with
  | zero => intro q M S U s h hR hv hA hB z1 z2 o4; omega
  | succ k ih =>
    intro q M S U s h hR hv hA hB z1 z2 o4
    have hn := h.2.2.2.1.1.1
    have hC4 := h.2.2.2.1.1.2.2
    have hf8 := h.2.2.2.1.1.2.1
    have hw := h.2.2.2.1.2.2.2.1
    have hL := h.1.1
    have hO := h.2.1
    refine x_eqM (congrArg (fun z => cl M z U) hv.symm) ?_
    refine x_iload_n dX0_findsBest_35 rfl ?_
    refine x_iload_n dX0_findsBest_36 rfl ?_
    refine x_icmpN_ge (tgt := 138) dX0_findsBest_37 (by decide) (by omega) (by omega) (fun hc37 => ?_) (fun hc37 => ?_)
    · refine x_iload_n dX0_findsBest_138 rfl ?_
      rw [fbL, if_neg (Nat.not_lt.mpr hc37)]
      refine x_eqM (congrArg (fun z => cl M z U) hv) ?_
      exact x_iret dX0_findsBest_139 rfl rfl ⟨rfl, fc_ct M 99 5, S, U, by rw [put_self], fun _ _ _ _ _ _ => rfl, fun _ _ _ => rfl, hB⟩
    · refine x_aload_n dX0_findsBest_40 rfl ?_
      refine x_iload_n dX0_findsBest_41 rfl ?_
      refine k_V1iF hO.1 dX0_findsBest_42 kG_X0_X0_gives kP_X0_gives rfl (by omega) (by decide) (Nat.le_of_ble_eq_true rfl) (d_gives hL hO h.2.2.1 h6 hw h.2.2.2.1.2.2.2.2.2.1 hf8 hC0 (by omega) (by omega)) ?_
      rw [hA]
      generalize hA1 : (gvL v nC n q s.1 true).1 = A1
      have hS1 : thS3 S (stA S 233 A1) := fun a k z1 z2 z3 z4 => stA_n z2
      have h1 := TI_S3 h hS1 (fun _ _ _ => rfl)
      have hR1 := RT_S3 h hS1 hR
      have hv1 := tel_th3 hv hS1
      have hB1 : ∀ k, k < 6 → stA S 233 A1 234 k = s.2.1 k := fun k hk => (stA_n (by decide)).trans (hB k hk)
      have hL := h1.1.1
      have hO := h1.2.1
      refine x_ifB_ne (tgt := 51) dX0_findsBest_45 (by decide) (fun hc45 => ?_) (fun hc45 => ?_)
      · refine x_aload_n dX0_findsBest_51 rfl ?_
        refine k_Fref 18 hO.1 rfl (by decide) rfl dX0_findsBest_52 q416 ?_
        refine x_aload_n dX0_findsBest_55 rfl ?_
        refine k_Fref 17 hO.1 rfl (by decide) rfl dX0_findsBest_56 q415 ?_
        refine x_V1v (P := fun M3 => M3 = cR (fc_put M 99 5 .null) (tu (clr (stA S 233 A1) 32 v) 99 6 (-1)) (bcU U 99 32) 99 (vtW (stA S 233 A1) 99 n v)) 3 dX0_findsBest_59 kG_X0_X3_become kP_X3_become (T := TX3) (N := 12) rfl (show 99 < fc_nx M by have := h1.1.2.1; omega) h1.1.2.sh0 (by omega) (by decide) (Nat.le_of_ble_eq_true rfl) (fc_rn_v (d_becomeT h1.1.2 h1.1.1 (Or.inl (by decide)) h1.2.2.2.2.2 hn hw)) (fun M3 e9 => ?_)
        subst e9
        have hL := LT_put (v := .null) h1.1.2
        have hO : LF g (fc_put M 99 5 .null) ∧ True := ⟨LF_put (by decide) h1.2.1.1, trivial⟩
        refine x_aload_n dX0_findsBest_62 rfl ?_
        refine k_Fref 18 hO.1 rfl (by decide) rfl dX0_findsBest_63 q416 ?_
        refine x_aload_n dX0_findsBest_66 rfl ?_
        refine k_Fref 20 hO.1 rfl (by decide) rfl dX0_findsBest_67 q418 ?_
        refine k_tputg hL dX0_findsBest_70 q358 rfl rfl ?_
        rw [put_put]
        have hL := LT_put (v := .ref (fc_B g + 233)) h1.1.2
        have hO : LF g (fc_put M 99 5 (.ref (fc_B g + 233))) ∧ True := ⟨LF_put (by decide) h1.2.1.1, trivial⟩
        refine x_aload_n dX0_findsBest_73 rfl ?_
        refine k_Fref 18 hO.1 rfl (by decide) rfl dX0_findsBest_74 q416 ?_
        refine x_sipush (v := nI 3000) dX0_findsBest_77 (by decide) ?_
        rw [← vt_up4 (S := (stA S 233 A1)) (n := n) h4]
        refine k_V1qi hL dX0_findsBest_80 kG_X0_X3_toTheEnd kP_X3_toTheEnd rfl (by omega) (by decide) (Nat.le_of_ble_eq_true rfl) (gb_run h1 hR1 hr h6) (fun S2 U2 e3 e4 e5 => ?_)
        rw [show (stA S 233 A1) 233 = A1 from funext fun k => stA_s] at e3 ⊢
        have hWE := gbX_WS (S := (stA S 233 A1)) (A := A1) h.2.2.2.1 hr
        have hle : (gbX (stA S 233 A1) v n f nC r A1).2 ≤ 3000 := edW_le _ _ _ (by decide)
        have hE1 := (gbX_P (S := (stA S 233 A1)) (A := A1) h.2.2.2.1 hr).1
        generalize gbX (stA S 233 A1) v n f nC r A1 = E at hWE hle hE1 ⊢
        obtain ⟨f4, f5⟩ := gb_fin (w2 := E.1) e4 e5 hv1
        have h2 := TI_M (gv := .ref (fc_B g + 233)) (TI_S3 h1 (fun a k z1 z2 z3 z4 => f4 a k z1 z4) f5)
        have hR2 := RT_M (gv := .ref (fc_B g + 233)) (TI_S3 h1 (fun a k z1 z2 z3 z4 => f4 a k z1 z4) f5) (RT_S3 h1 (fun a k z1 z2 z3 z4 => f4 a k z1 z4) hR1)
        have hv2 := tel_th hv1 f4
        by_cases hce : cnt (stp E.1 3) n = n
        · refine x_top (if_pos hce : teR E.1 n E.2 = nI E.2) ?_
          refine x_icm1 dX0_findsBest_83 ?_
          refine x_icmp_ne (tgt := 90) dX0_findsBest_84 (by decide) (fun hc84 => ?_) (fun hc84 => ?_)
          · refine x_aload_n dX0_findsBest_90 rfl ?_
            refine k_Fref 18 hO.1 rfl (by decide) rfl dX0_findsBest_91 q416 ?_
            refine x_icm1 dX0_findsBest_94 ?_
            refine k_V1iT hL dX0_findsBest_95 kG_X0_X3_overOf kP_X3_overOf rfl (by omega) (by decide) (Nat.le_of_ble_eq_true rfl) (d_overOf hL (by omega) hWE.1.2.2.1) ?_
            refine x_istore dX0_findsBest_98 (by decide) rfl ?_
            refine x_iload_n dX0_findsBest_100 rfl ?_
            refine x_icm1 dX0_findsBest_101 ?_
            refine x_icmp_eq (tgt := 114) dX0_findsBest_102 (by decide) (fun hc102 => ?_) (fun hc102 => ?_)
            · refine x_iload dX0_findsBest_114 rfl ?_
              refine x_istore_n dX0_findsBest_116 (by decide) rfl ?_
              refine x_aload_n dX0_findsBest_117 rfl ?_
              refine k_Fref 20 hO.1 rfl (by decide) rfl dX0_findsBest_118 q418 ?_
              refine x_ic0 dX0_findsBest_121 ?_
              refine x_aload_n dX0_findsBest_122 rfl ?_
              refine k_Fref 21 hO.1 rfl (by decide) rfl dX0_findsBest_123 q419 ?_
              refine x_ic0 dX0_findsBest_126 ?_
              refine x_bipush (v := nI 6) dX0_findsBest_127 (by decide) ?_
              refine x_copy (ty := .int) dX0_findsBest_129 q1062 (show 233 < fc_nx (fc_put M 99 5 (.ref (fc_B g + 233))) by have := hO.1.1; omega) (show 234 < fc_nx (fc_put M 99 5 (.ref (fc_B g + 233))) by have := hO.1.1; omega) (hO.1.2.2 233 _ rfl) (hO.1.2.2 234 _ rfl) (by decide) (by decide) (by decide) (by decide) (by omega) (Nat.le_of_ble_eq_true rfl) (fun k hk => Or.inl ⟨_, rfl, cl_i (by rw [hO.1.2.2 233 _ rfl]; rfl)⟩) ?_
              refine x_eqM (cl_cpi (hO.1.2.2 233 _ rfl) (hO.1.2.2 234 _ rfl)) ?_
              have hS3 : thS3 (clr S2 99 E.1) (cpS (clr S2 99 E.1) 233 234 6) := fun a k z1 z2 z3 z4 => if_neg (fun z => z3 z.1)
              have h3 := TI_S3 h2 hS3 (fun _ _ _ => rfl)
              have hR3 := RT_S3 h2 hS3 hR2
              have hv3 := tel_th3 hv2 hS3
              refine x_iincN (n := 1) dX0_findsBest_132 (by decide) rfl (by decide) rfl ?_
              refine x_goto (tgt := 35) dX0_findsBest_135 (by decide) ?_
              rw [fbL, if_pos hc37, hA1, if_pos hc45, if_pos (by rw [← hE1.cs1 3]; exact hce), ← (ovW_Rl hE1 (by rw [← hE1.cs1 3]; exact hce) (n + 1) 0 (nI 0)), if_pos (Or.inl hc102)]
              exact x_mono2 (fun o M2 z => fb_tr hS1 (fun _ _ _ => rfl) (fb_tr (fun a k z1 z2 z3 z4 => f4 a k z1 z4) f5 (fb_tm (gv := .ref (fc_B g + 233)) (fb_tr hS3 (fun _ _ _ => rfl) z)))) (ih (q + 1) _ _ U2 (A1, (fun j => if j < 6 then A1 j else s.2.1 j), ovW E.1 (-1) n (n + 1) 0 (nI 0)) h3 hR3 hv3 (funext fun k => (if_neg (fun z => absurd z.1 (by decide))).trans ((f4 233 k (by decide) (by decide)).trans stA_s)) (fun k hk => (if_pos ⟨rfl, hk⟩).trans (((f4 233 k (by decide) (by decide)).trans stA_s).trans (if_pos hk).symm)) (by omega) (by omega) _)
            · refine x_iload dX0_findsBest_105 rfl ?_
              refine x_iload_n dX0_findsBest_107 rfl ?_
              refine x_icmp_lt (tgt := 114) dX0_findsBest_108 (by decide) (fun hc108 => ?_) (fun hc108 => ?_)
              · refine x_iload dX0_findsBest_114 rfl ?_
                refine x_istore_n dX0_findsBest_116 (by decide) rfl ?_
                refine x_aload_n dX0_findsBest_117 rfl ?_
                refine k_Fref 20 hO.1 rfl (by decide) rfl dX0_findsBest_118 q418 ?_
                refine x_ic0 dX0_findsBest_121 ?_
                refine x_aload_n dX0_findsBest_122 rfl ?_
                refine k_Fref 21 hO.1 rfl (by decide) rfl dX0_findsBest_123 q419 ?_
                refine x_ic0 dX0_findsBest_126 ?_
                refine x_bipush (v := nI 6) dX0_findsBest_127 (by decide) ?_
                refine x_copy (ty := .int) dX0_findsBest_129 q1062 (show 233 < fc_nx (fc_put M 99 5 (.ref (fc_B g + 233))) by have := hO.1.1; omega) (show 234 < fc_nx (fc_put M 99 5 (.ref (fc_B g + 233))) by have := hO.1.1; omega) (hO.1.2.2 233 _ rfl) (hO.1.2.2 234 _ rfl) (by decide) (by decide) (by decide) (by decide) (by omega) (Nat.le_of_ble_eq_true rfl) (fun k hk => Or.inl ⟨_, rfl, cl_i (by rw [hO.1.2.2 233 _ rfl]; rfl)⟩) ?_
                refine x_eqM (cl_cpi (hO.1.2.2 233 _ rfl) (hO.1.2.2 234 _ rfl)) ?_
                have hS3 : thS3 (clr S2 99 E.1) (cpS (clr S2 99 E.1) 233 234 6) := fun a k z1 z2 z3 z4 => if_neg (fun z => z3 z.1)
                have h3 := TI_S3 h2 hS3 (fun _ _ _ => rfl)
                have hR3 := RT_S3 h2 hS3 hR2
                have hv3 := tel_th3 hv2 hS3
                refine x_iincN (n := 1) dX0_findsBest_132 (by decide) rfl (by decide) rfl ?_
                refine x_goto (tgt := 35) dX0_findsBest_135 (by decide) ?_
                rw [fbL, if_pos hc37, hA1, if_pos hc45, if_pos (by rw [← hE1.cs1 3]; exact hce), ← (ovW_Rl hE1 (by rw [← hE1.cs1 3]; exact hce) (n + 1) 0 (nI 0)), if_pos (Or.inr hc108)]
                exact x_mono2 (fun o M2 z => fb_tr hS1 (fun _ _ _ => rfl) (fb_tr (fun a k z1 z2 z3 z4 => f4 a k z1 z4) f5 (fb_tm (gv := .ref (fc_B g + 233)) (fb_tr hS3 (fun _ _ _ => rfl) z)))) (ih (q + 1) _ _ U2 (A1, (fun j => if j < 6 then A1 j else s.2.1 j), ovW E.1 (-1) n (n + 1) 0 (nI 0)) h3 hR3 hv3 (funext fun k => (if_neg (fun z => absurd z.1 (by decide))).trans ((f4 233 k (by decide) (by decide)).trans stA_s)) (fun k hk => (if_pos ⟨rfl, hk⟩).trans (((f4 233 k (by decide) (by decide)).trans stA_s).trans (if_pos hk).symm)) (by omega) (by omega) _)
              · refine x_goto (tgt := 132) dX0_findsBest_111 (by decide) ?_
                refine x_iincN (n := 1) dX0_findsBest_132 (by decide) rfl (by decide) rfl ?_
                refine x_goto (tgt := 35) dX0_findsBest_135 (by decide) ?_
                rw [fbL, if_pos hc37, hA1, if_pos hc45, if_pos (by rw [← hE1.cs1 3]; exact hce), ← (ovW_Rl hE1 (by rw [← hE1.cs1 3]; exact hce) (n + 1) 0 (nI 0)), if_neg (fun z => by rcases z with z | z; exact hc102 z; exact hc108 z)]
                exact x_mono2 (fun o M2 z => fb_tr hS1 (fun _ _ _ => rfl) (fb_tr (fun a k z1 z2 z3 z4 => f4 a k z1 z4) f5 (fb_tm (gv := .ref (fc_B g + 233)) z))) (ih (q + 1) _ _ U2 (A1, s.2) h2 hR2 hv2 (funext fun k => (f4 233 k (by decide) (by decide)).trans stA_s) (fun k hk => (f4 234 k (by decide) (by decide)).trans (hB1 k hk)) (by omega) (by omega) _)
          · exact absurd hc84 (nI_nm2 (by omega))
        · refine x_top (if_neg hce : teR E.1 n E.2 = -1) ?_
          refine x_icm1 dX0_findsBest_83 ?_
          refine x_icmp_ne (tgt := 90) dX0_findsBest_84 (by decide) (fun hc84 => ?_) (fun hc84 => ?_)
          · exact absurd rfl hc84
          · refine x_goto (tgt := 132) dX0_findsBest_87 (by decide) ?_
            refine x_iincN (n := 1) dX0_findsBest_132 (by decide) rfl (by decide) rfl ?_
            refine x_goto (tgt := 35) dX0_findsBest_135 (by decide) ?_
            rw [fbL, if_pos hc37, hA1, if_pos hc45, if_neg (by rw [← hE1.cs1 3]; exact hce)]
            exact x_mono2 (fun o M2 z => fb_tr hS1 (fun _ _ _ => rfl) (fb_tr (fun a k z1 z2 z3 z4 => f4 a k z1 z4) f5 (fb_tm (gv := .ref (fc_B g + 233)) z))) (ih (q + 1) _ _ U2 (A1, s.2) h2 hR2 hv2 (funext fun k => (f4 233 k (by decide) (by decide)).trans stA_s) (fun k hk => (f4 234 k (by decide) (by decide)).trans (hB1 k hk)) (by omega) (by omega) _)
      · refine x_goto (tgt := 132) dX0_findsBest_48 (by decide) ?_
        refine x_iincN (n := 1) dX0_findsBest_132 (by decide) rfl (by decide) rfl ?_
        refine x_goto (tgt := 35) dX0_findsBest_135 (by decide) ?_
        rw [fbL, if_pos hc37, hA1, if_neg hc45]
        refine x_eqM (congrArg (fun z => cl M z U) hv1) ?_
        exact x_mono2 (fun o M2 z => fb_tr hS1 (fun _ _ _ => rfl) z) (ih (q + 1) M _ U (A1, s.2) h1 hR1 hv1 (funext fun k => stA_s) hB1 (by omega) (by omega) _)
end T99ZS
