set_option maxRecDepth 100000
section T99L
variable {g : fc_G} {l : Launch} {M : fc_M} {S : tT} {U : tU} {β : Nat} {w : Nat → Int32} {π f nC : Nat} {S0 : tT} {U0 : tU}
theorem KI_sec {n rr nl ps : Nat} {tr : Option (Nat → Int32)} {S2 : tT} {U2 : tU} (hb : Bd n f rr nC) (h : KI g M S U π β f nC n rr nl ps w) (hF : FB U2 β f (secW tr (S β 6) ps n f rr nl nC w)) (hS : SF S S2 β) : KI g M S2 U2 π β f nC n rr nl ps (secW tr (S β 6) ps n f rr nl nC w) := by
  obtain ⟨h1, h2, h3, ⟨h4, h5, h6⟩, h7⟩ := h
  obtain ⟨b1, b2, b3, b4⟩ := hb
  have hps : ps < 80 := by omega
  have hfr : ∀ i, Stc n nC i → secW tr (S β 6) ps n f rr nl nC w i = w i := fun i e => secW_fr ⟨b1, b2, b3, b4⟩ hps e h2
  have e6 : S2 β 6 = S β 6 := hS β 6 (by have := h1.2.2.1.2.2; omega) (by omega)
  have e7 : S2 β 7 = S β 7 := hS β 7 (by have := h1.2.2.1.2.2; omega) (by omega)
  refine ⟨(h1.fr (fun i hi => hfr i ⟨?_, fun c hc k hk => ?_, ?_, fun p hp => ?_⟩)).sf hS, secW_WS ⟨b1, b2, b3, b4⟩ hps h2, hF, ⟨by rw [e6, e7]; exact h4, h5, fun i hi hj => ?_⟩, fun c2 hc2 => ?_⟩
  · rcases hi with hi | hi | ⟨c9, j9, g1, g2, hi⟩ <;> omega
  · rcases hi with hi | hi | ⟨c9, j9, g1, g2, hi⟩ <;> omega
  · rcases hi with hi | hi | ⟨c9, j9, g1, g2, hi⟩ <;> omega
  · rcases hi with hi | hi | ⟨c9, j9, g1, g2, hi⟩ <;> omega
  · rw [hfr _ ⟨by omega, fun c hc k hk => by omega, by omega, fun p hp => by omega⟩]
    exact h6 i hi (by rw [← e6]; exact hj)
  · rw [hfr _ ⟨by omega, fun c hc k hk => by omega, by omega, fun p hp => by omega⟩]
    exact h7 c2 hc2
def teR (w : Nat → Int32) (n j : Nat) : Int32 := if cnt (stp w 3) n = n then nI j else -1
theorem kG_X3_X3_inState : GoodIn lw_all (wsV RX3 234 RX3 yX3_inState (ws_ yX3_inState cX3_inState 4 (some .int))) := lw_V q1021 q869 q870 q121 q871
theorem kP_X3_inState : kPar yX3_inState 1 := by decide +kernel
theorem kG_X3_X3_goesBy : GoodIn lw_all (wsV RX3 237 RX3 yX3_goesBy (ws_ yX3_goesBy cX3_goesBy 2 (none))) := lw_V q1022 q873 q874 q121 q875
theorem kP_X3_goesBy : kPar yX3_goesBy 0 := by decide +kernel
set_option maxHeartbeats 1000000 in
theorem m_toEnd {n0 s0 : Nat} (hL : LT g M β) {n rr nl ps τ : Nat} {tr : Option (Nat → Int32)} (hb : Bd n f rr nC) (hB : ∀ (S9 : tT) (U : tU) (w : Nat → Int32) (i : Nat), KI g M S9 U π β f nC n rr nl ps w → TX g M S9 τ w rr nl → SF S0 S9 β → i < n → fc_CX g l yX3_bestCar cX3_bestCar 6 (some .int) 405 [.ref (fc_B g + β), .int (nI i)] (cR M S9 U β w) (bs_i M S9 U β (bcV tr i n rr nl nC w) w)) {wi : Nat} (hwi : wi < 10000) : ∀ (k j : Nat) (w : Nat → Int32) (S : tT) (U : tU), KI g M S U π β f nC n rr nl ps w → TX g M S τ w rr nl → SF S0 S β → UF U0 U β → S β 6 = S0 β 6 → j ≤ wi → wi < j + k → fc_X g l yX3_toTheEnd cX3_toTheEnd 3 (some .int) 407 n0 s0 (cR M S U β w) 2 [some (.ref (fc_B g + β)), some (.int (nI wi)), some (.int (nI j))] [] (cq_i M S0 U0 β f (teR (edW (secW tr (S0 β 6) ps n f rr nl nC) n wi k j w).1 n (edW (secW tr (S0 β 6) ps n f rr nl nC) n wi k j w).2) (edW (secW tr (S0 β 6) ps n f rr nl nC) n wi k j w).1) := by
  intro k
  induction k with
  | zero => intro j w S U hK hT hSF hUF h6 h1 h2; omega
  | succ k ih =>
    intro j w S U hK hT hSF hUF h6 h1 h2
    have hn := hb.1
    have hcl := cnt_le (stp w 3) n
    refine x_aload_n dX3_toTheEnd_2 rfl ?_
    refine x_ic3 dX3_toTheEnd_3 ?_
    refine k_V1iT hL dX3_toTheEnd_4 kG_X3_X3_inState kP_X3_inState rfl (by omega) (by decide) (Nat.le_of_ble_eq_true rfl) (d_inState hL hn hK.2.1.1.2.2.1 rfl) ?_
    refine x_aload_n dX3_toTheEnd_7 rfl ?_
    refine k_tget 2 hL dX3_toTheEnd_8 (by decide) q351 ?_
    refine x_top hK.2.1.1.2.2.1 ?_
    refine x_icmpN_ge (tgt := 31) dX3_toTheEnd_11 (by decide) (by omega) (by omega) (fun hc11 => ?_) (fun hc11 => ?_)
    · refine x_iload_n dX3_toTheEnd_31 rfl ?_
      rw [edW, if_neg (Nat.not_lt.mpr hc11)]
      exact x_iret dX3_toTheEnd_32 rfl rfl ⟨by rw [teR, if_pos (show cnt (stp w 3) n = n by omega)], S, U, rfl, hK.2.2.1, hUF, hSF⟩
    · refine x_iload_n dX3_toTheEnd_14 rfl ?_
      refine x_iload_n dX3_toTheEnd_15 rfl ?_
      refine x_icmpN_ne (tgt := 21) dX3_toTheEnd_16 (by decide) (by omega) (by omega) (fun hc16 => ?_) (fun hc16 => ?_)
      · refine x_aload_n dX3_toTheEnd_21 rfl ?_
        refine k_V0qv hL dX3_toTheEnd_22 kG_X3_X3_goesBy kP_X3_goesBy rfl (by omega) (by decide) (Nat.le_of_ble_eq_true rfl) (d_goesBy hL hb (fun S9 U9 w9 i9 a9 b9 c9 d9 => hB S9 U9 w9 i9 a9 b9 (hSF.trans c9) d9) hK hT) (fun S2 U2 e3 e4 e5 => ?_)
        have hK2 := KI_sec hb hK e3 e5
        have hT2 : TX g M S2 τ (secW tr (S β 6) ps n f rr nl nC w) rr nl := TX_w (fun i hi => secW_fr hb (by have := hK.2.2.2.1.2.1; have := hb.2.1; omega) ⟨by omega, fun c hc k hk => by have := hb.2.2.2; omega, by omega, fun p hp => by have := hb.1; omega⟩ hK.2.1) (TX_sf hL hK.1.1 e5 hT)
        have e6 : S2 β 6 = S β 6 := e5 β 6 (by have := hK.1.2.2.1.2.2; omega) (by omega)
        rw [h6] at hK2 hT2 ⊢
        refine x_iincN (n := 1) dX3_toTheEnd_25 (by decide) rfl (by decide) rfl ?_
        refine x_goto (tgt := 2) dX3_toTheEnd_28 (by decide) ?_
        rw [edW, if_pos hc11, if_pos (by omega)]
        exact ih (j + 1) _ S2 U2 hK2 hT2 (hSF.trans e5) (hUF.trans e4) (e6.trans h6) (by omega) (by omega)
      · refine x_icm1 dX3_toTheEnd_19 ?_
        obtain rfl : j = wi := hc16
        rw [edW, if_pos hc11, if_neg (Nat.lt_irrefl j)]
        exact x_iret dX3_toTheEnd_20 rfl rfl ⟨by rw [teR, if_neg (show ¬ cnt (stp w 3) n = n by omega)], S, U, rfl, hK.2.2.1, hUF, hSF⟩
set_option maxHeartbeats 1000000 in
theorem d_toEnd (hL : LT g M β) {n rr nl ps τ : Nat} {tr : Option (Nat → Int32)} (hb : Bd n f rr nC) (hB : ∀ (S9 : tT) (U : tU) (w : Nat → Int32) (i : Nat), KI g M S9 U π β f nC n rr nl ps w → TX g M S9 τ w rr nl → SF S S9 β → i < n → fc_CX g l yX3_bestCar cX3_bestCar 6 (some .int) 405 [.ref (fc_B g + β), .int (nI i)] (cR M S9 U β w) (bs_i M S9 U β (bcV tr i n rr nl nC w) w)) {wi : Nat} (hwi : wi < 10000) (hK : KI g M S U π β f nC n rr nl ps w) (hT : TX g M S τ w rr nl) : fc_CX g l yX3_toTheEnd cX3_toTheEnd 3 (some .int) 407 [.ref (fc_B g + β), .int (nI wi)] (cR M S U β w) (cq_i M S U β f (teR (edW (secW tr (S β 6) ps n f rr nl nC) n wi (wi + 1) 0 w).1 n (edW (secW tr (S β 6) ps n f rr nl nC) n wi (wi + 1) 0 w).2) (edW (secW tr (S β 6) ps n f rr nl nC) n wi (wi + 1) 0 w).1) := by
  refine fc_enter (by decide) (Nat.le_of_ble_eq_true rfl) rfl ?_
  refine x_ic0 dX3_toTheEnd_0 ?_
  refine x_istore_n dX3_toTheEnd_1 (by decide) rfl ?_
  exact m_toEnd hL hb hB hwi (wi + 1) 0 w S U hK hT SF.refl UF.refl rfl (by omega) (by omega)
end T99L
