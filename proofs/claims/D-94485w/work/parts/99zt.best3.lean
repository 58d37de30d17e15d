set_option maxRecDepth 100000
section T99ZT
variable {g : fc_G} {l : Launch} {M : fc_M} {S : tT} {U : tU} {w v : Nat → Int32} {π f nC n : Nat} {τ : Nat → Nat}
set_option maxHeartbeats 1000000 in
theorem m_findsAll {n0 s0 : Nat} (h : TI g M S U π f nC n v) (hR : RT g M S τ v) (hv : clr S 32 v = S) {r : Nat} (hr : r < 3) (h4 : v 4 = nI r) (h6 : n ≤ 6) (hC0 : 0 < nC) (hC3 : nC ≤ 3) : ∀ (k i : Nat), i ≤ n → n < i + k → ∀ (o3 o4 : Option Value), fc_X g l yX0_findsBest cX0_findsBest 5 (some .int) 408 n0 s0 (cR M S U 32 v) 4 [some (.ref (fc_B g + 0)), some (.int (nI (nC ^ i))), some (.int (nI i)), o3, o4] [] (fb_i M S U (fbL v n f nC r (nC ^ n) (nC ^ n + 1) 0 (S 233, S 234, -1))) := by
  intro k
  induction k with
  | zero => intro i z1 z2 o3 o4; omega
  | succ k ih =>
    intro i z1 z2 o3 o4
    have hw := h.2.2.2.1.2.2.2.1
    have hL := h.1.1
    have hO := h.2.1
    have hpw := pow_le6 (i := i) hC3 (by omega)
    refine x_iload_n dX0_findsBest_4 rfl ?_
    refine x_aload_n dX0_findsBest_5 rfl ?_
    refine k_Fref 17 hO.1 rfl (by decide) rfl dX0_findsBest_6 q415 ?_
    refine k_tget 2 hL dX0_findsBest_9 (by decide) q352 ?_
    refine x_top hw ?_
    refine x_icmpN_ge (tgt := 31) dX0_findsBest_12 (by decide) (by omega) (by omega) (fun hc12 => ?_) (fun hc12 => ?_)
    · refine x_icm1 dX0_findsBest_31 ?_
      refine x_istore_n dX0_findsBest_32 (by decide) rfl ?_
      refine x_ic0 dX0_findsBest_33 ?_
      refine x_istore_n dX0_findsBest_34 (by decide) rfl ?_
      obtain rfl : i = n := by omega
      refine x_eqM (congrArg (fun z => cl M z U) hv) ?_
      exact m_findsBest (s := (S 233, S 234, -1)) hr h4 h6 hC0 (by omega) (nC ^ i + 1) 0 M S U h hR hv rfl (fun _ _ => rfl) (by omega) (by omega) _
    · refine x_iload_n dX0_findsBest_15 rfl ?_
      refine x_aload_n dX0_findsBest_16 rfl ?_
      refine k_plan hO dX0_findsBest_17 q410 ?_
      refine k_plF 1 (nI nC) hO (Or.inr (Or.inl ⟨rfl, rfl⟩)) dX0_findsBest_20 q213 ?_
      refine x_imulN dX0_findsBest_23 ?_
      refine x_istore_n dX0_findsBest_24 (by decide) rfl ?_
      refine x_iincN (n := 1) dX0_findsBest_25 (by decide) rfl (by decide) rfl ?_
      refine x_goto (tgt := 4) dX0_findsBest_28 (by decide) ?_
      rw [show nC ^ i * nC = nC ^ (i + 1) from (Nat.pow_succ ..).symm]
      exact ih (i + 1) (by omega) (by omega) _ _
set_option maxHeartbeats 1000000 in
theorem d_findsBest (h : TI g M S U π f nC n v) (hR : RT g M S τ v) (hv : clr S 32 v = S) {r : Nat} (hr : r < 3) (h4 : v 4 = nI r) (h6 : n ≤ 6) (hC0 : 0 < nC) (hC3 : nC ≤ 3) : fc_CX g l yX0_findsBest cX0_findsBest 5 (some .int) 408 [.ref (fc_B g + 0)] (cl M S U) (fb_i M S U (fbL v n f nC r (nC ^ n) (nC ^ n + 1) 0 (S 233, S 234, -1))) := by
  refine fc_enter (by decide) (Nat.le_of_ble_eq_true rfl) rfl ?_
  refine x_eqM (congrArg (fun z => cl M z U) hv.symm) ?_
  refine x_ic1 dX0_findsBest_0 ?_
  refine x_istore_n dX0_findsBest_1 (by decide) rfl ?_
  refine x_ic0 dX0_findsBest_2 ?_
  refine x_istore_n dX0_findsBest_3 (by decide) rfl ?_
  have e0 := m_findsAll (l := l) (n0 := fc_nx (cl M S U)) (s0 := fc_sl (cl M S U)) h hR hv hr h4 h6 hC0 hC3 (n + 1) 0 (by omega) (by omega) none none
  rw [Nat.pow_zero] at e0
  exact e0
def bsC (v : Nat → Int32) (n f nC r : Nat) (A B : Nat → Int32) (x : Int32) : Int32 := if (nI 1 ≤ v 2 ∧ v 2 ≤ nI 6) ∧ (nI 1 ≤ nI nC ∧ nI nC ≤ nI 3) ∧ g2L v n (n + 1) 0 = true ∧ g1L v nC (nC + 1) 0 = true then (if x = 0 ∨ (nI 10 ≤ x ∧ x ≤ nI (9 + n)) then (if x = 0 ∨ (fbL v n f nC r (nC ^ n) (nC ^ n + 1) 0 (A, B, -1)).2.2 = -1 then (fbL v n f nC r (nC ^ n) (nC ^ n + 1) 0 (A, B, -1)).2.2 else (fbL v n f nC r (nC ^ n) (nC ^ n + 1) 0 (A, B, -1)).2.1 (x.toNatClampNeg - 10)) else -1) else -1
def be_i (M : fc_M) (S : tT) (U : tU) (r : Int32) : Outcome → fc_M → Prop := fun o M2 => o = .returned (some (.int r)) ∧ ∃ gv S' U', M2 = cl (fc_put M 99 5 gv) S' U' ∧ thS3 S S' ∧ thU U U'
theorem be_same {r : Int32} : be_i M S U r (.returned (some (.int r))) (cl M S U) := ⟨rfl, fc_ct M 99 5, S, U, by rw [put_self], fun _ _ _ _ _ _ => rfl, fun _ _ _ => rfl⟩
theorem kG_X0_X0_canGive : GoodIn lw_all (wsV RX0 474 RX0 yX0_canGive (ws_ yX0_canGive cX0_canGive 2 (some .boolean))) := lw_V q1049 q1051 qs39 q118 q1052
theorem kP_X0_canGive : kPar yX0_canGive 0 := by decide +kernel
theorem kG_X0_X0_findsBest : GoodIn lw_all (wsV RX0 478 RX0 yX0_findsBest (ws_ yX0_findsBest cX0_findsBest 5 (some .int))) := lw_V q1053 q1055 qs40 q118 q1056
theorem kP_X0_findsBest : kPar yX0_findsBest 0 := by decide +kernel
set_option maxHeartbeats 1000000 in
theorem d_best (h : TI g M S U π f nC n v) (hR : RT g M S τ v) (hv : clr S 32 v = S) {r : Nat} (hr : r < 3) (h4 : v 4 = nI r) {x : Int32} : fc_CX g l yX0_best cX0_best 3 (some .int) 409 [.ref (fc_B g + 0), .int x] (cl M S U) (be_i M S U (bsC v n f nC r (S 233) (S 234) x)) := by
  refine fc_enter (by decide) (Nat.le_of_ble_eq_true rfl) rfl ?_
  have hn := h.2.2.2.1.1.1
  have hC4 := h.2.2.2.1.1.2.2
  have hf8 := h.2.2.2.1.1.2.1
  have hw := h.2.2.2.1.2.2.2.1
  have hL := h.1.1
  have hO := h.2.1
  refine x_eqM (congrArg (fun z => cl M z U) hv.symm) ?_
  refine x_aload_n dX0_best_0 rfl ?_
  refine k_V0iF hO.1 dX0_best_1 kG_X0_X0_canGive kP_X0_canGive rfl (by omega) (by decide) (Nat.le_of_ble_eq_true rfl) (d_canGive hL hO hn hw hC4 (fun c hc => h.2.2.2.2.2 c (by omega))) ?_
  refine x_ifB_eq (tgt := 30) dX0_best_4 (by decide) (fun hc4 => ?_) (fun hc4 => ?_)
  · refine x_icm1 dX0_best_30 ?_
    have e9 : bsC v n f nC r (S 233) (S 234) x = -1 := if_neg hc4
    rw [e9]
    refine x_eqM (congrArg (fun z => cl M z U) hv) ?_
    exact x_iret dX0_best_31 rfl rfl be_same
  · refine x_iload_n dX0_best_7 rfl ?_
    refine x_if_eq (tgt := 32) dX0_best_8 (by decide) (fun hc8 => ?_) (fun hc8 => ?_)
    · have hx9 : x = 0 ∨ (nI 10 ≤ x ∧ x ≤ nI (9 + n)) := Or.inl hc8
      have e0 : bsC v n f nC r (S 233) (S 234) x = _ := (if_pos hc4).trans (if_pos hx9)
      · refine x_aload_n dX0_best_32 rfl ?_
        have h6 : n ≤ 6 := by have := hc4.1.2; rw [hw] at this; exact (nI_leI (by omega) (by decide)).mp this
        have hC0 : 0 < nC := (nI_leI (by decide) (by omega)).mp hc4.2.1.1
        have hC3 : nC ≤ 3 := (nI_leI (by omega) (by decide)).mp hc4.2.1.2
        refine x_eqM (congrArg (fun z => cl M z U) hv) ?_
        obtain ⟨o2, M2, ⟨ho2, gv2, S2, U2, hM2, hS2, hU2, hB2⟩, hC2⟩ := d_findsBest (l := l) h hR hv hr h4 h6 hC0 hC3
        generalize fbL v n f nC r (nC ^ n) (nC ^ n + 1) 0 (S 233, S 234, -1) = E at ho2 hB2 e0
        subst hM2
        refine x_V0i (P := fun r3 M3 => r3 = E.2.2 ∧ M3 = cl (fc_put M 99 5 gv2) S2 U2) 0 dX0_best_33 kG_X0_X0_findsBest kP_X0_findsBest (T := TX0) (N := 30) rfl (show 0 < fc_nx M by have := hO.1.1; omega) (hO.1.2.2 0 _ rfl) (by omega) (by decide) (Nat.le_of_ble_eq_true rfl) ⟨o2, _, ⟨_, ho2, rfl, rfl⟩, hC2⟩ (fun r3 M3 e9 => ?_)
        obtain ⟨e1, e2⟩ := e9
        subst e1
        subst e2
        have hF1 : LF g (fc_put M 99 5 gv2) := LF_put (by decide) hO.1
        refine x_istore_n dX0_best_36 (by decide) rfl ?_
        refine x_iload_n dX0_best_37 rfl ?_
        refine x_if_eq (tgt := 46) dX0_best_38 (by decide) (fun hc38 => ?_) (fun hc38 => ?_)
        · refine x_iload_n dX0_best_46 rfl ?_
          refine x_goto (tgt := 59) dX0_best_47 (by decide) ?_
          rw [e0, if_pos (Or.inl hc38)]
          exact x_iret dX0_best_59 rfl rfl ⟨rfl, gv2, S2, U2, rfl, hS2, hU2⟩
        · refine x_iload_n dX0_best_41 rfl ?_
          refine x_icm1 dX0_best_42 ?_
          refine x_icmp_ne (tgt := 50) dX0_best_43 (by decide) (fun hc43 => ?_) (fun hc43 => ?_)
          · obtain ⟨k, hk1, hk2, rfl⟩ := nI_between (by omega) (hx9.resolve_left hc38) (by decide)
            have hO : LF g (fc_put M 99 5 gv2) ∧ True := ⟨hF1, trivial⟩
            · refine x_aload_n dX0_best_50 rfl ?_
              refine q_getr 0 21 dX0_best_51 (C := RX0) (T := TX0) (N := 30) rfl (by decide) q419 (show 0 < fc_nx (fc_put M 99 5 gv2) by have := hF1.1; omega) (hF1.2.2 0 _ rfl) rfl (hF1.2.1 21 _ rfl) ?_
              refine x_iload_n dX0_best_54 rfl ?_
              refine x_bipush (v := nI 10) dX0_best_55 (by decide) ?_
              refine x_isubN dX0_best_57 (by omega) ?_
              refine q_iald dX0_best_58 (show 234 < fc_nx (fc_put M 99 5 gv2) by have := hF1.1; omega) (hF1.2.2 234 _ rfl) (by decide) (show k - 10 < 6 by omega) ?_
              refine x_top (w := E.2.1 ((nI k).toNatClampNeg - 10)) (by rw [nI_clamp (by omega)]; exact hB2 _ (by omega)) ?_
              rw [e0, if_neg (fun z => by rcases z with z | z; exact hc38 z; exact hc43 z)]
              exact x_iret dX0_best_59 rfl rfl ⟨rfl, gv2, S2, U2, rfl, hS2, hU2⟩
          · refine x_iload_n dX0_best_46 rfl ?_
            refine x_goto (tgt := 59) dX0_best_47 (by decide) ?_
            rw [e0, if_pos (Or.inr hc43)]
            exact x_iret dX0_best_59 rfl rfl ⟨rfl, gv2, S2, U2, rfl, hS2, hU2⟩
    · refine x_iload_n dX0_best_11 rfl ?_
      refine x_bipush (v := nI 10) dX0_best_12 (by decide) ?_
      refine x_bipush (v := nI 9) dX0_best_14 (by decide) ?_
      refine x_aload_n dX0_best_16 rfl ?_
      refine k_Fref 17 hO.1 rfl (by decide) rfl dX0_best_17 q415 ?_
      refine k_tget 2 hL dX0_best_20 (by decide) q352 ?_
      refine x_iadd dX0_best_23 ?_
      refine k_S3i dX0_best_24 kG_X0_X0_isIn kP_X0_isIn (by omega) (by decide) (Nat.le_of_ble_eq_true rfl) d_isIn ?_
      refine x_ifB_ne (tgt := 32) dX0_best_27 (by decide) (fun hc27 => ?_) (fun hc27 => ?_)
      · have hx9 : x = 0 ∨ (nI 10 ≤ x ∧ x ≤ nI (9 + n)) := Or.inr (by rw [hw, nI_add] at hc27; exact hc27)
        have e0 : bsC v n f nC r (S 233) (S 234) x = _ := (if_pos hc4).trans (if_pos hx9)
        · refine x_aload_n dX0_best_32 rfl ?_
          have h6 : n ≤ 6 := by have := hc4.1.2; rw [hw] at this; exact (nI_leI (by omega) (by decide)).mp this
          have hC0 : 0 < nC := (nI_leI (by decide) (by omega)).mp hc4.2.1.1
          have hC3 : nC ≤ 3 := (nI_leI (by omega) (by decide)).mp hc4.2.1.2
          refine x_eqM (congrArg (fun z => cl M z U) hv) ?_
          obtain ⟨o2, M2, ⟨ho2, gv2, S2, U2, hM2, hS2, hU2, hB2⟩, hC2⟩ := d_findsBest (l := l) h hR hv hr h4 h6 hC0 hC3
          generalize fbL v n f nC r (nC ^ n) (nC ^ n + 1) 0 (S 233, S 234, -1) = E at ho2 hB2 e0
          subst hM2
          refine x_V0i (P := fun r3 M3 => r3 = E.2.2 ∧ M3 = cl (fc_put M 99 5 gv2) S2 U2) 0 dX0_best_33 kG_X0_X0_findsBest kP_X0_findsBest (T := TX0) (N := 30) rfl (show 0 < fc_nx M by have := hO.1.1; omega) (hO.1.2.2 0 _ rfl) (by omega) (by decide) (Nat.le_of_ble_eq_true rfl) ⟨o2, _, ⟨_, ho2, rfl, rfl⟩, hC2⟩ (fun r3 M3 e9 => ?_)
          obtain ⟨e1, e2⟩ := e9
          subst e1
          subst e2
          have hF1 : LF g (fc_put M 99 5 gv2) := LF_put (by decide) hO.1
          refine x_istore_n dX0_best_36 (by decide) rfl ?_
          refine x_iload_n dX0_best_37 rfl ?_
          refine x_if_eq (tgt := 46) dX0_best_38 (by decide) (fun hc38 => ?_) (fun hc38 => ?_)
          · refine x_iload_n dX0_best_46 rfl ?_
            refine x_goto (tgt := 59) dX0_best_47 (by decide) ?_
            rw [e0, if_pos (Or.inl hc38)]
            exact x_iret dX0_best_59 rfl rfl ⟨rfl, gv2, S2, U2, rfl, hS2, hU2⟩
          · refine x_iload_n dX0_best_41 rfl ?_
            refine x_icm1 dX0_best_42 ?_
            refine x_icmp_ne (tgt := 50) dX0_best_43 (by decide) (fun hc43 => ?_) (fun hc43 => ?_)
            · obtain ⟨k, hk1, hk2, rfl⟩ := nI_between (by omega) (hx9.resolve_left hc38) (by decide)
              have hO : LF g (fc_put M 99 5 gv2) ∧ True := ⟨hF1, trivial⟩
              · refine x_aload_n dX0_best_50 rfl ?_
                refine q_getr 0 21 dX0_best_51 (C := RX0) (T := TX0) (N := 30) rfl (by decide) q419 (show 0 < fc_nx (fc_put M 99 5 gv2) by have := hF1.1; omega) (hF1.2.2 0 _ rfl) rfl (hF1.2.1 21 _ rfl) ?_
                refine x_iload_n dX0_best_54 rfl ?_
                refine x_bipush (v := nI 10) dX0_best_55 (by decide) ?_
                refine x_isubN dX0_best_57 (by omega) ?_
                refine q_iald dX0_best_58 (show 234 < fc_nx (fc_put M 99 5 gv2) by have := hF1.1; omega) (hF1.2.2 234 _ rfl) (by decide) (show k - 10 < 6 by omega) ?_
                refine x_top (w := E.2.1 ((nI k).toNatClampNeg - 10)) (by rw [nI_clamp (by omega)]; exact hB2 _ (by omega)) ?_
                rw [e0, if_neg (fun z => by rcases z with z | z; exact hc38 z; exact hc43 z)]
                exact x_iret dX0_best_59 rfl rfl ⟨rfl, gv2, S2, U2, rfl, hS2, hU2⟩
            · refine x_iload_n dX0_best_46 rfl ?_
              refine x_goto (tgt := 59) dX0_best_47 (by decide) ?_
              rw [e0, if_pos (Or.inr hc43)]
              exact x_iret dX0_best_59 rfl rfl ⟨rfl, gv2, S2, U2, rfl, hS2, hU2⟩
      · refine x_icm1 dX0_best_30 ?_
        have e9 : bsC v n f nC r (S 233) (S 234) x = -1 := (if_pos hc4).trans (if_neg (fun z => by rcases z with z | z; exact hc8 z; rw [hw, nI_add] at hc27; exact hc27 z))
        rw [e9]
        refine x_eqM (congrArg (fun z => cl M z U) hv) ?_
        exact x_iret dX0_best_31 rfl rfl be_same
end T99ZT
