set_option maxRecDepth 100000
section T99V
variable {g : fc_G} {l : Launch} {M : fc_M} {S : tT} {U : tU} {β : Nat} {w : Nat → Int32} {π f nC : Nat}
set_option maxHeartbeats 1000000 in
theorem d_seconds (hL : LT g M 32) {n rr nl ps τ : Nat} {tr : Option (Nat → Int32)} (hb : Bd n f rr nC) (hB : ∀ (S9 : tT) (U : tU) (w : Nat → Int32) (i : Nat), KI g M S9 U π 32 f nC n rr nl ps w → TX g M S9 τ w rr nl → SF S S9 32 → i < n → fc_CX g l yX3_bestCar cX3_bestCar 6 (some .int) 405 [.ref (fc_B g + 32), .int (nI i)] (cR M S9 U 32 w) (bs_i M S9 U 32 (bcV tr i n rr nl nC w) w)) (hK : KI g M S U π 32 f nC n rr nl ps w) (hT : TX g M S τ w rr nl) {x : Int32} : fc_CX g l yX0_seconds cX0_seconds 4 (some .int) 408 [.ref (fc_B g + 0), .int x] (cR M S U 32 w) (cq_i M S U 32 f (scQ (secW tr (S 32 6) ps n f rr nl nC) n x w).1 (scQ (secW tr (S 32 6) ps n f rr nl nC) n x w).2) := by
  refine fc_enter (by decide) (Nat.le_of_ble_eq_true rfl) rfl ?_
  have hO := hK.1
  refine x_iload_n dX0_seconds_0 rfl ?_
  refine x_ic1 dX0_seconds_1 ?_
  refine x_sipush (v := nI 600) dX0_seconds_2 (by decide) ?_
  refine k_S3i dX0_seconds_5 kG_X0_X0_isIn kP_X0_isIn (by omega) (by decide) (Nat.le_of_ble_eq_true rfl) d_isIn ?_
  refine x_ifB_eq (tgt := 26) dX0_seconds_8 (by decide) (fun hc8 => ?_) (fun hc8 => ?_)
  · refine x_icm1 dX0_seconds_26 ?_
    have e9 : scQ (secW tr (S 32 6) ps n f rr nl nC) n x w = (-1, w) := if_neg hc8
    rw [e9]
    exact x_iret dX0_seconds_27 rfl rfl ⟨rfl, S, U, rfl, hK.2.2.1, UF.refl, SF.refl⟩
  · refine x_aload_n dX0_seconds_11 rfl ?_
    refine k_Fref 17 hO.1 rfl (by decide) rfl dX0_seconds_12 q415 ?_
    refine k_tget 3 hL dX0_seconds_15 (by decide) q354 ?_
    refine x_iload_n dX0_seconds_18 rfl ?_
    refine x_iadd dX0_seconds_19 ?_
    refine x_sipush (v := nI 19999) dX0_seconds_20 (by decide) ?_
    refine x_icmp_le (tgt := 28) dX0_seconds_23 (by decide) (fun hc23 => ?_) (fun hc23 => ?_)
    · refine x_aload_n dX0_seconds_28 rfl ?_
      refine k_Fref 17 hO.1 rfl (by decide) rfl dX0_seconds_29 q415 ?_
      refine x_ic3 dX0_seconds_32 ?_
      refine k_V1iT hL dX0_seconds_33 kG_X0_X3_inState kP_X3_inState rfl (by omega) (by decide) (Nat.le_of_ble_eq_true rfl) (d_inState hL hb.1 hK.2.1.1.2.2.1 rfl) ?_
      refine x_istore_n dX0_seconds_36 (by decide) rfl ?_
      refine x_ic0 dX0_seconds_37 ?_
      refine x_istore_n dX0_seconds_38 (by decide) rfl ?_
      obtain ⟨m, hm1, hm2, rfl⟩ := nI_between (a := 1) (b := 600) (by omega) hc8 (by omega)
      have e9 : scQ (secW tr (S 32 6) ps n f rr nl nC) n (nI m) w = (nI (cnt (stp (itW (secW tr (S 32 6) ps n f rr nl nC) m w) 3) n) - nI (cnt (stp w 3) n), itW (secW tr (S 32 6) ps n f rr nl nC) m w) := by rw [scQ, if_pos hc8, if_neg (Int32.not_lt.mpr hc23), nI_clamp (by omega)]
      rw [e9]
      exact m_seconds hL hb hB hm2 (m + 1) 0 w S U hK hT SF.refl UF.refl rfl (by omega) (by omega)
    · refine x_icm1 dX0_seconds_26 ?_
      have e9 : scQ (secW tr (S 32 6) ps n f rr nl nC) n x w = (-1, w) := (if_pos hc8).trans (if_pos (Int32.not_le.mp hc23))
      rw [e9]
      exact x_iret dX0_seconds_27 rfl rfl ⟨rfl, S, U, rfl, hK.2.2.1, UF.refl, SF.refl⟩
end T99V
