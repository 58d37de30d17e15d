set_option maxRecDepth 100000
section T71
variable {g : fc_G} {l : Launch} {M : fc_M} {T : tT} {w : Nat → Int32}
theorem kG_J0_J0_coder : GoodIn lw_all (wsV RJ0 335 RJ0 yJ0_coder (ws_ yJ0_coder cJ0_coder 1 (some .byte))) := lw_V q542 q543 q544 q127 q545
theorem kP_J0_coder : kPar yJ0_coder 0 := by decide +kernel
theorem c_length {j : Nat} {q : String × Nat × String × List Int32} (hj : fcStr[j]? = some q) : fc_CX g l yJ0_length cJ0_length 1 (some .int) 2 [.ref (fc_sK g j)] M (fc_re (nI q.2.2.2.length) M) := by
  refine fc_enter (by decide) (Nat.le_of_ble_eq_true rfl) rfl ?_
  refine x_aload_n dJ0_length_0 rfl ?_
  refine x_getO dJ0_length_1 (fun U h => (h.2.2.2.1 j q hj).2.2.2.1) q1641 ?_
  refine x_tlen dJ0_length_4 (fun U h => (h.2.2.2.1 j q hj).2.2.2.2) ?_
  refine x_aload_n dJ0_length_5 rfl ?_
  refine x_O0e dJ0_length_6 kG_J0_J0_coder kP_J0_coder (fun U h => (h.2.2.2.1 j q hj).2.1) (by omega) (by decide) (Nat.le_of_ble_eq_true rfl) (c_coder hj) ?_
  refine x_ishr dJ0_length_9 ?_
  refine x_iret dJ0_length_10 rfl rfl ⟨?_, rfl⟩
  have e : nI q.2.2.2.length >>> ((0 : Int32) &&& 31) = nI q.2.2.2.length := by
    rw [show (0 : Int32) &&& 31 = 0 by decide]
    exact Int32.shiftRight_zero
  rw [e]
end T71
