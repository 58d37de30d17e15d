set_option maxRecDepth 100000
section T99U
variable {g : fc_G} {l : Launch} {M : fc_M} {S : tT} {U : tU} {β : Nat} {w : Nat → Int32} {π f nC : Nat} {S0 : tT} {U0 : tU}
theorem kG_X0_X3_inState : GoodIn lw_all (wsV RX0 399 RX3 yX3_inState (ws_ yX3_inState cX3_inState 4 (some .int))) := lw_V q868 q869 q870 q121 q871
theorem kG_X0_X3_goesBy : GoodIn lw_all (wsV RX0 402 RX3 yX3_goesBy (ws_ yX3_goesBy cX3_goesBy 2 (none))) := lw_V q872 q873 q874 q121 q875
set_option maxHeartbeats 1000000 in
theorem m_seconds {n0 s0 : Nat} (hL : LT g M 32) {n rr nl ps τ : Nat} {tr : Option (Nat → Int32)} (hb : Bd n f rr nC) (hB : ∀ (S9 : tT) (U : tU) (w : Nat → Int32) (i : Nat), KI g M S9 U π 32 f nC n rr nl ps w → TX g M S9 τ w rr nl → SF S0 S9 32 → i < n → fc_CX g l yX3_bestCar cX3_bestCar 6 (some .int) 405 [.ref (fc_B g + 32), .int (nI i)] (cR M S9 U 32 w) (bs_i M S9 U 32 (bcV tr i n rr nl nC w) w)) {m : Nat} (hm : m ≤ 600) {x2 : Int32} : ∀ (k j : Nat) (w : Nat → Int32) (S : tT) (U : tU), KI g M S U π 32 f nC n rr nl ps w → TX g M S τ w rr nl → SF S0 S 32 → UF U0 U 32 → S 32 6 = S0 32 6 → j ≤ m → m < j + k → fc_X g l yX0_seconds cX0_seconds 4 (some .int) 408 n0 s0 (cR M S U 32 w) 39 [some (.ref (fc_B g + 0)), some (.int (nI m)), some (.int x2), some (.int (nI j))] [] (cq_i M S0 U0 32 f (nI (cnt (stp (itW (secW tr (S0 32 6) ps n f rr nl nC) (m - j) w) 3) n) - x2) (itW (secW tr (S0 32 6) ps n f rr nl nC) (m - j) w)) := by
  intro k
  induction k with
  | zero => intro j w S U hK hT hSF hUF h6 h1 h2; omega
  | succ k ih =>
    intro j w S U hK hT hSF hUF h6 h1 h2
    have hO := hK.1
    refine x_iload_n dX0_seconds_39 rfl ?_
    refine x_iload_n dX0_seconds_40 rfl ?_
    refine x_icmpN_ge (tgt := 57) dX0_seconds_41 (by decide) (by omega) (by omega) (fun hc41 => ?_) (fun hc41 => ?_)
    · refine x_aload_n dX0_seconds_57 rfl ?_
      refine k_Fref 17 hO.1 rfl (by decide) rfl dX0_seconds_58 q415 ?_
      refine x_ic3 dX0_seconds_61 ?_
      refine k_V1iT hL dX0_seconds_62 kG_X0_X3_inState kP_X3_inState rfl (by omega) (by decide) (Nat.le_of_ble_eq_true rfl) (d_inState hL hb.1 hK.2.1.1.2.2.1 rfl) ?_
      refine x_iload_n dX0_seconds_65 rfl ?_
      refine x_isub dX0_seconds_66 ?_
      rw [show m - j = 0 by omega]
      exact x_iret dX0_seconds_67 rfl rfl ⟨rfl, S, U, rfl, hK.2.2.1, hUF, hSF⟩
    · refine x_aload_n dX0_seconds_44 rfl ?_
      refine k_Fref 17 hO.1 rfl (by decide) rfl dX0_seconds_45 q415 ?_
      refine k_V0qv hL dX0_seconds_48 kG_X0_X3_goesBy kP_X3_goesBy rfl (by omega) (by decide) (Nat.le_of_ble_eq_true rfl) (d_goesBy hL hb (fun S9 U9 w9 i9 a9 b9 c9 d9 => hB S9 U9 w9 i9 a9 b9 (hSF.trans c9) d9) hK hT) (fun S2 U2 e3 e4 e5 => ?_)
      have hK2 := KI_sec hb hK e3 e5
      have hT2 : TX g M S2 τ (secW tr (S 32 6) ps n f rr nl nC w) rr nl := TX_w (fun i hi => secW_fr hb (by have := hK.2.2.2.1.2.1; have := hb.2.1; omega) ⟨by omega, fun c hc k hk => by have := hb.2.2.2; omega, by omega, fun p hp => by have := hb.1; omega⟩ hK.2.1) (TX_sf hL hK.1.1 e5 hT)
      have e6 : S2 32 6 = S 32 6 := e5 32 6 (by decide) (by decide)
      rw [h6] at hK2 hT2 ⊢
      refine x_iincN (n := 1) dX0_seconds_51 (by decide) rfl (by decide) rfl ?_
      refine x_goto (tgt := 39) dX0_seconds_54 (by decide) ?_
      rw [show m - j = (m - (j + 1)) + 1 by omega]
      exact ih (j + 1) _ S2 U2 hK2 hT2 (hSF.trans e5) (hUF.trans e4) (e6.trans h6) (by omega) (by omega)
end T99U
