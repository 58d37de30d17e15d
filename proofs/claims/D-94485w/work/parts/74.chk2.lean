set_option maxRecDepth 100000
section T74
variable {g : fc_G} {l : Launch} {M : fc_M} {T : tT} {w : Nat → Int32}
theorem kG_J0_J2_checkIndex : GoodIn lw_all (va_wsS RJ0 1059 yJ2_checkIndex (ws_ yJ2_checkIndex cJ2_checkIndex 3 (some .int))) := lw_S q564 q565 q129 q566
theorem kP_J2_checkIndex : kPar yJ2_checkIndex 3 := by decide +kernel
theorem c_chk0 {a b : Nat} (hab : a < b) (hb : b < 2 ^ 31) : fc_CX g l yJ0_checkIndex cJ0_checkIndex 2 none 2 [.int (nI a), .int (nI b)] M (fun o M2 => o = .returned none ∧ M2 = M) := by
  refine fc_enter (by decide) (Nat.le_of_ble_eq_true rfl) rfl ?_
  refine x_iload_n dJ0_checkIndex_0 rfl ?_
  refine x_iload_n dJ0_checkIndex_1 rfl ?_
  refine x_getZq dJ0_checkIndex_2 (fun U h => h.2.2.2.2.2.2.1) q562 (fun v hv => ?_)
  obtain ⟨o2, M2, ⟨ho, hM2⟩, hC2⟩ := c_chk2 (g := g) (l := l) (M := M) (v2 := v) hv hab hb
  subst hM2
  refine fc_callS (As := [.int (nI a), .int (nI b), v]) dJ0_checkIndex_5 kG_J0_J2_checkIndex kP_J2_checkIndex.2 (by omega) (by decide) (Nat.le_of_ble_eq_true rfl) rfl hC2 ho ?_
  refine x_pop dJ0_checkIndex_8 rfl ?_
  exact x_vret dJ0_checkIndex_9 rfl ⟨rfl, rfl⟩
end T74
