set_option maxRecDepth 100000
section T63
variable {g : fc_G} {l : Launch} {M : fc_M} {T : tT} {w : Nat → Int32}
def ppR (x2 s : Int32) (C : Nat → Int32) : Int32 := if x2 = 0 then s else C (x2.toNatClampNeg - 10)
def ppA (w : Nat → Int32) (F n : Nat) (x2 : Int32) (A C : Nat → Int32) : Int32 × (Nat → Int32) := (ppR x2 (ppS w F n A (F + 1) 0 (-1) C).1 (ppO w F n A n 1 (ppS w F n A (F + 1) 0 (-1) C).2), ppO w F n A n 1 (ppS w F n A (F + 1) 0 (-1) C).2)
def ppQ (T : tT) (w : Nat → Int32) (F : Nat) (x1 x2 : Int32) : Int32 × tT := if nI 1 ≤ x1 ∧ x1 ≤ nI 4 then (if F < x1.toNatClampNeg then (-1, T) else (if x2 = 0 ∨ (nI 10 ≤ x2 ∧ x2 ≤ nI (9 + x1.toNatClampNeg)) then ((ppA w F x1.toNatClampNeg x2 (laA w F x1.toNatClampNeg (T 13)) (T 14)).1, t14 (t13 T (laA w F x1.toNatClampNeg (T 13))) (ppA w F x1.toNatClampNeg x2 (laA w F x1.toNatClampNeg (T 13)) (T 14)).2) else (-1, T))) else (-1, T)
set_option maxHeartbeats 1000000 in
theorem b_pl238 {n0 s0 : Nat} (hM : tw0 + 17 ≤ fc_nx M) {F n : Nat} (hF : F ≤ 80) (hn : n ≤ 4) (hn1 : 1 ≤ n) (h0 : w 0 = nI F) {x2 x3 : Int32} (hx2 : x2 = 0 ∨ (nI 10 ≤ x2 ∧ x2 ≤ nI (9 + n))) {C : Nat → Int32} {v4 v5 v6 : Option Value} : fc_X g l yX6_places cX6_places 7 (some .int) 5 n0 s0 (tv g M (t14 T C) w) 238 [some (.ref (fc_B g + tw0)), some (.int (nI n)), some (.int (x2)), some (.int (x3)), v4, v5, v6] [] (tv_ie g M (ppR x2 x3 C) (t14 T C) w) := by
  refine x_iload_n dX6_places_238 rfl ?_
  refine x_if_ne (tgt := 246) dX6_places_239 (by decide) (fun hc239 => ?_) (fun hc239 => ?_)
  · obtain ⟨q, hq1, hq2, rfl⟩ := nI_between (by omega) (hx2.resolve_left hc239) (by decide)
    · refine x_aload_n dX6_places_246 rfl ?_
      refine v_geta 35 hM dX6_places_247 (by decide) rfl q1165 ?_
      refine x_iload_n dX6_places_250 rfl ?_
      refine x_bipush (v := nI 10) dX6_places_251 (by decide) ?_
      refine x_isubN dX6_places_253 (by omega) ?_
      refine v_iald 14 hM dX6_places_254 (by decide) (by decide) rfl rfl (by show _ < 4; omega) ?_
      refine x_iret dX6_places_255 rfl rfl (tv_i2 ?_ rfl rfl)
      rw [ppR, if_neg hc239, nI_clamp (by omega)]
      rfl
  · refine x_iload_n dX6_places_242 rfl ?_
    refine x_goto (tgt := 255) dX6_places_243 (by decide) ?_
    refine x_iret dX6_places_255 rfl rfl (tv_i2 ?_ rfl rfl)
    rw [ppR, if_pos hc239]
set_option maxHeartbeats 1000000 in
theorem b_pl126 {n0 s0 : Nat} (hM : tw0 + 17 ≤ fc_nx M) {F n : Nat} (hF : F ≤ 80) (hn : n ≤ 4) (hn1 : 1 ≤ n) (h0 : w 0 = nI F) (hW : WI w F) (hA : AI w F n (T 13)) {x2 s : Int32} (hx2 : x2 = 0 ∨ (nI 10 ≤ x2 ∧ x2 ≤ nI (9 + n))) {C : Nat → Int32} (hC : ∃ a, a < F ∧ C 0 = nI a ∧ ¬ T 13 (80 * (n - 1) + a) = -1) {v4 v5 v6 : Option Value} : fc_X g l yX6_places cX6_places 7 (some .int) 5 n0 s0 (tv g M (t14 T C) w) 126 [some (.ref (fc_B g + tw0)), some (.int (nI n)), some (.int (x2)), some (.int (s)), v4, v5, v6] [] (tv_ie g M (ppR x2 s (ppO w F n (T 13) n 1 C)) (t14 T (ppO w F n (T 13) n 1 C)) w) := by
  refine x_ic1 dX6_places_126 ?_
  refine x_istore dX6_places_127 (by decide) rfl ?_
  exact l_pl129 hM hF hn hn1 h0 (AI_HS hA) n 1 C _ _ (by omega) (by omega) (by omega) hC (fun v4 v5 v6 => b_pl238 hM hF hn hn1 h0 hx2)
theorem kG_X6_X6_laysAbove : GoodIn lw_all (wsV RX6 389 RX6 yX6_laysAbove (ws_ yX6_laysAbove cX6_laysAbove 8 (none))) := lw_V q1596 q1598 qs110 q124 q1599
theorem kP_X6_laysAbove : kPar yX6_laysAbove 1 := by decide +kernel
set_option maxHeartbeats 1000000 in
theorem b_pl38 {n0 s0 : Nat} (hM : tw0 + 17 ≤ fc_nx M) {F n : Nat} (hF : F ≤ 80) (hn : n ≤ 4) (hn1 : 1 ≤ n) (h0 : w 0 = nI F) (hnF : n ≤ F) (hW : WI w F) {x2 : Int32} (hx2 : x2 = 0 ∨ (nI 10 ≤ x2 ∧ x2 ≤ nI (9 + n))) : fc_X g l yX6_places cX6_places 7 (some .int) 5 n0 s0 (tv g M T w) 38 [some (.ref (fc_B g + tw0)), some (.int (nI n)), some (.int x2), none, none, none, none] [] (tv_ie g M (ppA w F n x2 (laA w F n (T 13)) (T 14)).1 (t14 (t13 T (laA w F n (T 13))) (ppA w F n x2 (laA w F n (T 13)) (T 14)).2) w) := by
  refine x_aload_n dX6_places_38 rfl ?_
  refine x_iload_n dX6_places_39 rfl ?_
  refine v_V1ve hM dX6_places_40 kG_X6_X6_laysAbove kP_X6_laysAbove rfl (by omega) (by decide) (Nat.le_of_ble_eq_true rfl) (c_laysAbove hM hF hn h0 hn1 rfl) ?_
  refine x_icm1 dX6_places_43 ?_
  refine x_istore_n dX6_places_44 (by decide) rfl ?_
  refine x_ic0 dX6_places_45 ?_
  refine x_istore dX6_places_46 (by decide) rfl ?_
  have hA : AI w F n (t13 T (laA w F n (T 13)) 13) := laA_AI hF hW hn hn1
  refine x_eqM (congrArg (fun z => tv g M z w) (t14_self (T := t13 T (laA w F n (T 13)))).symm) ?_
  refine l_pl48 (T := t13 T (laA w F n (T 13))) hM hF hn hn1 h0 (F + 1) 0 (-1) (T 14) _ (by omega) (by omega) (fun v4 v5 => ?_)
  exact b_pl126 (T := t13 T (laA w F n (T 13))) hM hF hn hn1 h0 hW hA hx2 (ppS_ok hF hW hn hn1 hA (F + 1) 0 (-1) (T 14) (by omega) (Or.inr ⟨rfl, by omega⟩))
set_option maxHeartbeats 1000000 in
theorem c_places (hM : tw0 + 17 ≤ fc_nx M) {F : Nat} (hF : F ≤ 80) (h0 : w 0 = nI F) (hW : WI w F) {x1 x2 : Int32} : fc_CX g l yX6_places cX6_places 7 (some .int) 5 [.ref (fc_B g + tw0), .int x1, .int x2] (tv g M T w) (tv_ie g M (ppQ T w F x1 x2).1 (ppQ T w F x1 x2).2 w) := by
  refine fc_enter (by decide) (Nat.le_of_ble_eq_true rfl) rfl ?_
  refine x_iload_n dX6_places_0 rfl ?_
  refine x_ic1 dX6_places_1 ?_
  refine x_ic4 dX6_places_2 ?_
  refine v_S3ie dX6_places_3 kG_X6_X6_isIn kP_X6_isIn (by omega) (by decide) (Nat.le_of_ble_eq_true rfl) c_isIn ?_
  refine x_ifB_eq (tgt := 36) dX6_places_6 (by decide) (fun hc6 => ?_) (fun hc6 => ?_)
  · refine x_icm1 dX6_places_36 ?_
    have e : ppQ T w F x1 x2 = (-1, T) := by rw [ppQ, if_neg hc6]
    rw [e]
    exact x_iret dX6_places_37 rfl rfl tv_i1
  · obtain ⟨n, hn1, hn, rfl⟩ := nI_between (by decide) hc6 (by decide)
    have hck : (nI n).toNatClampNeg = n := nI_clamp (by omega)
    · refine x_iload_n dX6_places_9 rfl ?_
      refine x_aload_n dX6_places_10 rfl ?_
      refine v_geta 0 hM dX6_places_11 (by decide) rfl q1130 ?_
      refine x_ic0 dX6_places_14 ?_
      refine v_wld hM dX6_places_15 rfl (by omega) ?_
      refine x_top h0 ?_
      refine x_icmpN_gt (tgt := 36) dX6_places_16 (by decide) (by omega) (by omega) (fun hc16 => ?_) (fun hc16 => ?_)
      · refine x_icm1 dX6_places_36 ?_
        have e : ppQ T w F (nI n) x2 = (-1, T) := by rw [ppQ, if_pos hc6, hck, if_pos hc16]
        rw [e]
        exact x_iret dX6_places_37 rfl rfl tv_i1
      · refine x_iload_n dX6_places_19 rfl ?_
        refine x_if_eq (tgt := 38) dX6_places_20 (by decide) (fun hc20 => ?_) (fun hc20 => ?_)
        · have hx2 : x2 = 0 ∨ (nI 10 ≤ x2 ∧ x2 ≤ nI (9 + n)) := (Or.inl hc20)
          have e : ppQ T w F (nI n) x2 = ((ppA w F n x2 (laA w F n (T 13)) (T 14)).1, t14 (t13 T (laA w F n (T 13))) (ppA w F n x2 (laA w F n (T 13)) (T 14)).2) := by rw [ppQ, if_pos hc6, hck, if_neg (by omega), if_pos hx2]
          rw [e]
          exact b_pl38 hM hF (by omega) (by omega) h0 (by omega) hW hx2
        · refine x_iload_n dX6_places_23 rfl ?_
          refine x_bipush (v := nI 10) dX6_places_24 (by decide) ?_
          refine x_bipush (v := nI 9) dX6_places_26 (by decide) ?_
          refine x_iload_n dX6_places_28 rfl ?_
          refine x_iaddN dX6_places_29 ?_
          refine v_S3ie dX6_places_30 kG_X6_X6_isIn kP_X6_isIn (by omega) (by decide) (Nat.le_of_ble_eq_true rfl) c_isIn ?_
          refine x_ifB_ne (tgt := 38) dX6_places_33 (by decide) (fun hc33 => ?_) (fun hc33 => ?_)
          · have hx2 : x2 = 0 ∨ (nI 10 ≤ x2 ∧ x2 ≤ nI (9 + n)) := (Or.inr hc33)
            have e : ppQ T w F (nI n) x2 = ((ppA w F n x2 (laA w F n (T 13)) (T 14)).1, t14 (t13 T (laA w F n (T 13))) (ppA w F n x2 (laA w F n (T 13)) (T 14)).2) := by rw [ppQ, if_pos hc6, hck, if_neg (by omega), if_pos hx2]
            rw [e]
            exact b_pl38 hM hF (by omega) (by omega) h0 (by omega) hW hx2
          · refine x_icm1 dX6_places_36 ?_
            have e : ppQ T w F (nI n) x2 = (-1, T) := by rw [ppQ, if_pos hc6, hck, if_neg (by omega), if_neg (fun z => z.elim hc20 hc33)]
            rw [e]
            exact x_iret dX6_places_37 rfl rfl tv_i1
end T63
