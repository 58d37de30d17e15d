set_option maxRecDepth 100000
section T65
variable {g : fc_G} {l : Launch} {M : fc_M} {T : tT} {w : Nat → Int32}
def znR (x2 : Int32) (s : zS) : Int32 := if x2 = 0 then s.1 else s.2.2 (x2.toNatClampNeg - 10)
def znS (T : tT) (w : Nat → Int32) (F n : Nat) : zS := tcR w F n n 0 1 (nI 0) (-1, T 15, T 16)
def znQ (T : tT) (w : Nat → Int32) (F nC : Nat) (x1 x2 : Int32) : Int32 × tT := if nI 1 ≤ x1 ∧ x1 ≤ nI 3 then (if F < x1.toNatClampNeg + 2 then (-1, T) else (if nC = 0 then (-1, T) else (if x2 = 0 ∨ (nI 10 ≤ x2 ∧ x2 ≤ nI (9 + x1.toNatClampNeg)) then (znR x2 (znS T w F x1.toNatClampNeg), tz T (znS T w F x1.toNatClampNeg)) else (-1, T)))) else (-1, T)
set_option maxHeartbeats 1000000 in
theorem b_zn62 {n0 s0 : Nat} (hM : tw0 + 17 ≤ fc_nx M) {F n : Nat} (hF : F ≤ 80) (hn : n ≤ 3) (hn1 : 1 ≤ n) (h0 : w 0 = nI F) {x2 : Int32} (hx2 : x2 = 0 ∨ (nI 10 ≤ x2 ∧ x2 ≤ nI (9 + n))) {s : zS} : fc_X g l yX6_zones cX6_zones 3 (some .int) 7 n0 s0 (tv g M (tz T s) w) 62 [some (.ref (fc_B g + tw0)), some (.int (nI n)), some (.int (x2))] [] (tv_ie g M (znR x2 s) (tz T s) w) := by
  refine x_iload_n dX6_zones_62 rfl ?_
  refine x_if_ne (tgt := 73) dX6_zones_63 (by decide) (fun hc63 => ?_) (fun hc63 => ?_)
  · obtain ⟨q, hq1, hq2, rfl⟩ := nI_between (by omega) (hx2.resolve_left hc63) (by decide)
    · refine x_aload_n dX6_zones_73 rfl ?_
      refine v_geta 37 hM dX6_zones_74 (by decide) rfl q1167 ?_
      refine x_iload_n dX6_zones_77 rfl ?_
      refine x_bipush (v := nI 10) dX6_zones_78 (by decide) ?_
      refine x_isubN dX6_zones_80 (by omega) ?_
      refine v_iald 16 hM dX6_zones_81 (by decide) (by decide) rfl rfl (by show _ < 4; omega) ?_
      refine x_iret dX6_zones_82 rfl rfl (tv_i2 ?_ rfl rfl)
      rw [znR, if_neg hc63, nI_clamp (by omega)]
      rfl
  · refine x_aload_n dX6_zones_66 rfl ?_
    refine v_geti 38 hM dX6_zones_67 (by decide) rfl q1168 ?_
    refine x_goto (tgt := 82) dX6_zones_70 (by decide) ?_
    refine x_iret dX6_zones_82 rfl rfl (tv_i2 ?_ rfl rfl)
    rw [znR, if_pos hc63]
    rfl
set_option maxHeartbeats 1000000 in
theorem b_zn49 {n0 s0 : Nat} (hM : tw0 + 17 ≤ fc_nx M) {F n : Nat} (hF : F ≤ 80) (hn : n ≤ 3) (hn1 : 1 ≤ n) (h0 : w 0 = nI F) (hnF : n + 2 ≤ F) {x2 : Int32} (hx2 : x2 = 0 ∨ (nI 10 ≤ x2 ∧ x2 ≤ nI (9 + n))) : fc_X g l yX6_zones cX6_zones 3 (some .int) 7 n0 s0 (tv g M T w) 49 [some (.ref (fc_B g + tw0)), some (.int (nI n)), some (.int (x2))] [] (tv_ie g M (znR x2 (znS T w F n)) (tz T (znS T w F n)) w) := by
  refine x_aload_n dX6_zones_49 rfl ?_
  refine x_icm1 dX6_zones_50 ?_
  refine v_puti 38 hM dX6_zones_51 (by decide) rfl q1168 rfl rfl rfl ?_
  refine x_aload_n dX6_zones_54 rfl ?_
  refine x_ic0 dX6_zones_55 ?_
  refine x_iload_n dX6_zones_56 rfl ?_
  refine x_ic1 dX6_zones_57 ?_
  refine x_ic0 dX6_zones_58 ?_
  refine x_eqM (show tv g M (tu T 0 38 (-1)) w = tv g M (tz T (-1, T 15, T 16)) w from congrArg (fun z => tv g M z w) ((congrArg (fun z => tu z 0 38 (-1)) (tz_self (T := T)).symm).trans tz_l)) ?_
  refine v_V4ve hM dX6_zones_59 kG_X6_X6_triesCuts kP_X6_triesCuts rfl (by omega) (by decide) (Nat.le_of_ble_eq_true rfl) (c_triesCuts hM hF hn h0 n 0 1 (nI 0) (-1, T 15, T 16) (by omega) (by omega)) ?_
  exact b_zn62 hM hF hn hn1 h0 hx2
set_option maxHeartbeats 1000000 in
theorem c_zones (hM : tw0 + 17 ≤ fc_nx M) {F nC : Nat} (hF : F ≤ 80) (hC : nC ≤ 4) (h0 : w 0 = nI F) (h1 : w 1 = nI nC) {x1 x2 : Int32} : fc_CX g l yX6_zones cX6_zones 3 (some .int) 7 [.ref (fc_B g + tw0), .int x1, .int x2] (tv g M T w) (tv_ie g M (znQ T w F nC x1 x2).1 (znQ T w F nC x1 x2).2 w) := by
  refine fc_enter (by decide) (Nat.le_of_ble_eq_true rfl) rfl ?_
  refine x_iload_n dX6_zones_0 rfl ?_
  refine x_ic1 dX6_zones_1 ?_
  refine x_ic3 dX6_zones_2 ?_
  refine v_S3ie dX6_zones_3 kG_X6_X6_isIn kP_X6_isIn (by omega) (by decide) (Nat.le_of_ble_eq_true rfl) c_isIn ?_
  refine x_ifB_eq (tgt := 47) dX6_zones_6 (by decide) (fun hc6 => ?_) (fun hc6 => ?_)
  · refine x_icm1 dX6_zones_47 ?_
    have e : znQ T w F nC x1 x2 = (-1, T) := by rw [znQ, if_neg hc6]
    rw [e]
    exact x_iret dX6_zones_48 rfl rfl tv_i1
  · obtain ⟨n, hn1, hn, rfl⟩ := nI_between (by decide) hc6 (by decide)
    have hck : (nI n).toNatClampNeg = n := nI_clamp (by omega)
    · refine x_aload_n dX6_zones_9 rfl ?_
      refine v_geta 0 hM dX6_zones_10 (by decide) rfl q1130 ?_
      refine x_ic0 dX6_zones_13 ?_
      refine v_wld hM dX6_zones_14 rfl (by omega) ?_
      refine x_top h0 ?_
      refine x_iload_n dX6_zones_15 rfl ?_
      refine x_ic2 dX6_zones_16 ?_
      refine x_iaddN dX6_zones_17 ?_
      refine x_icmpN_lt (tgt := 47) dX6_zones_18 (by decide) (by omega) (by omega) (fun hc18 => ?_) (fun hc18 => ?_)
      · refine x_icm1 dX6_zones_47 ?_
        have e : znQ T w F nC (nI n) x2 = (-1, T) := by rw [znQ, if_pos hc6, hck, if_pos hc18]
        rw [e]
        exact x_iret dX6_zones_48 rfl rfl tv_i1
      · refine x_aload_n dX6_zones_21 rfl ?_
        refine v_geta 0 hM dX6_zones_22 (by decide) rfl q1130 ?_
        refine x_ic1 dX6_zones_25 ?_
        refine v_wld hM dX6_zones_26 rfl (by omega) ?_
        refine x_top h1 ?_
        refine x_ifN_eq (tgt := 47) dX6_zones_27 (by decide) (by omega) (fun hc27 => ?_) (fun hc27 => ?_)
        · refine x_icm1 dX6_zones_47 ?_
          have e : znQ T w F nC (nI n) x2 = (-1, T) := by rw [znQ, if_pos hc6, hck, if_neg (by omega), if_pos hc27]
          rw [e]
          exact x_iret dX6_zones_48 rfl rfl tv_i1
        · refine x_iload_n dX6_zones_30 rfl ?_
          refine x_if_eq (tgt := 49) dX6_zones_31 (by decide) (fun hc31 => ?_) (fun hc31 => ?_)
          · have hx2 : x2 = 0 ∨ (nI 10 ≤ x2 ∧ x2 ≤ nI (9 + n)) := (Or.inl hc31)
            have e : znQ T w F nC (nI n) x2 = (znR x2 (znS T w F n), tz T (znS T w F n)) := by rw [znQ, if_pos hc6, hck, if_neg (by omega), if_neg (by omega), if_pos hx2]
            rw [e]
            exact b_zn49 hM hF (by omega) (by omega) h0 (by omega) hx2
          · refine x_iload_n dX6_zones_34 rfl ?_
            refine x_bipush (v := nI 10) dX6_zones_35 (by decide) ?_
            refine x_bipush (v := nI 9) dX6_zones_37 (by decide) ?_
            refine x_iload_n dX6_zones_39 rfl ?_
            refine x_iaddN dX6_zones_40 ?_
            refine v_S3ie dX6_zones_41 kG_X6_X6_isIn kP_X6_isIn (by omega) (by decide) (Nat.le_of_ble_eq_true rfl) c_isIn ?_
            refine x_ifB_ne (tgt := 49) dX6_zones_44 (by decide) (fun hc44 => ?_) (fun hc44 => ?_)
            · have hx2 : x2 = 0 ∨ (nI 10 ≤ x2 ∧ x2 ≤ nI (9 + n)) := (Or.inr hc44)
              have e : znQ T w F nC (nI n) x2 = (znR x2 (znS T w F n), tz T (znS T w F n)) := by rw [znQ, if_pos hc6, hck, if_neg (by omega), if_neg (by omega), if_pos hx2]
              rw [e]
              exact b_zn49 hM hF (by omega) (by omega) h0 (by omega) hx2
            · refine x_icm1 dX6_zones_47 ?_
              have e : znQ T w F nC (nI n) x2 = (-1, T) := by rw [znQ, if_pos hc6, hck, if_neg (by omega), if_neg (by omega), if_neg (fun z => z.elim hc31 hc44)]
              rw [e]
              exact x_iret dX6_zones_48 rfl rfl tv_i1
end T65
