set_option maxRecDepth 100000
section T99I
variable {g : fc_G} {l : Launch} {M : fc_M} {S : tT} {U : tU} {β : Nat} {w : Nat → Int32} {π f nC : Nat}
set_option maxHeartbeats 1000000 in
theorem d_bestCar (hL : LT g M β) (hO : PC g M S π β f nC w) {n : Nat} (hn : n ≤ 60) (hw : w 2 = nI n) {p : Nat} (hp : p < n) (hPI : PI w n f) (hCV : ∀ c, c < nC → CV w c f) (hout : ∀ c, c < nC → w (10 + 20 * c + 4) = 0 ∨ w (10 + 20 * c + 4) = nI 1) {rr τ nl : Nat} (hrr : rr < 3) (hrule : w 4 = nI rr) (hR : fc_ct M 6 rr = .ref (fc_B g + τ)) (hT : TX g M S τ w rr nl) (hV : RV w rr nl) (hgv : fc_ct M β 5 = .null) : fc_CX g l yX3_bestCar cX3_bestCar 6 (some .int) 405 [.ref (fc_B g + β), .int (nI p)] (cR M S U β w) (bs_i M S U β (bcW w p n rr nl nC (nC + 1) 0 (-1) (nI 0)) w) := by
  refine fc_enter (by decide) (Nat.le_of_ble_eq_true rfl) rfl ?_
  refine x_aload_n dX3_bestCar_0 rfl ?_
  refine k_tgetg 5 hL hgv dX3_bestCar_1 rfl q357 ?_
  refine x_ifnullN (tgt := 14) dX3_bestCar_4 (by decide) ?_
  refine x_icm1 dX3_bestCar_14 ?_
  refine x_istore_n dX3_bestCar_15 (by decide) rfl ?_
  refine x_ic0 dX3_bestCar_16 ?_
  refine x_istore_n dX3_bestCar_17 (by decide) rfl ?_
  refine x_ic0 dX3_bestCar_18 ?_
  refine x_istore dX3_bestCar_19 (by decide) rfl ?_
  exact m_bestCar hL hO hn hw hp hPI hCV hout hrr hrule hR hT hV (nC + 1) 0 (-1) (nI 0) S _ (by omega) (by omega) SF.refl
set_option maxHeartbeats 1000000 in
theorem d_bestCarG (hL : LT g M β) (hF : LF g M) (hβ : β + 67 ≤ 233) {p : Nat} (hp : p < 6) (hgv : fc_ct M β 5 = .ref (fc_B g + 233)) : fc_CX g l yX3_bestCar cX3_bestCar 6 (some .int) 405 [.ref (fc_B g + β), .int (nI p)] (cR M S U β w) (bs_i M S U β (S 233 p) w) := by
  refine fc_enter (by decide) (Nat.le_of_ble_eq_true rfl) rfl ?_
  refine x_aload_n dX3_bestCar_0 rfl ?_
  refine k_tgetg 5 hL hgv dX3_bestCar_1 rfl q357 ?_
  refine x_ifnull dX3_bestCar_4 ?_
  refine x_aload_n dX3_bestCar_7 rfl ?_
  refine k_tgetg 5 hL hgv dX3_bestCar_8 rfl q357 ?_
  refine x_iload_n dX3_bestCar_11 rfl ?_
  refine q_iald dX3_bestCar_12 (show 233 < fc_nx M by have := hF.1; omega) (hF.2.2 233 _ rfl) (by decide) hp ?_
  refine x_top (clr_o (Or.inr (by omega))) ?_
  exact x_iret dX3_bestCar_13 rfl rfl ⟨rfl, S, rfl, SF.refl⟩
end T99I
