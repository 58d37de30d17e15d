set_option maxRecDepth 100000
section T76
variable {g : fc_G} {l : Launch} {M : fc_M} {T : tT} {w : Nat → Int32}
theorem kG_J0_J0_isLatin1 : GoodIn lw_all (wsV RJ0 492 RJ0 yJ0_isLatin1 (ws_ yJ0_isLatin1 cJ0_isLatin1 1 (some .boolean))) := lw_V q552 q553 q554 q127 q555
theorem kP_J0_isLatin1 : kPar yJ0_isLatin1 0 := by decide +kernel
theorem kG_J0_J1_charAt : GoodIn lw_all (va_wsS RJ0 495 yJ1_charAt (ws_ yJ1_charAt cJ1_charAt 2 (some .char))) := lw_S q556 q557 q128 q558
theorem kP_J1_charAt : kPar yJ1_charAt 2 := by decide +kernel
theorem c_charAt {i j : Nat} {q : String × Nat × String × List Int32} {x : Int32} (hi : fcStr[i]? = some q) (hj : j < q.2.2.2.length) (hN : q.2.2.2.length < 2 ^ 31) (hf : q.2.2.2.getD j 0 = x) (hx : ((x &&& nI 255).toUInt32 % 65536).toInt32 = x) (hn : narrow .char (.int x) = .int x) : fc_CX g l yJ0_charAt cJ0_charAt 2 (some .char) 4 [.ref (fc_sK g i), .int (nI j)] M (fc_re x M) := by
  refine fc_enter (by decide) (Nat.le_of_ble_eq_true rfl) rfl ?_
  refine x_aload_n dJ0_charAt_0 rfl ?_
  refine x_O0e dJ0_charAt_1 kG_J0_J0_isLatin1 kP_J0_isLatin1 (fun U h => (h.2.2.2.1 i q hi).2.1) (by omega) (by decide) (Nat.le_of_ble_eq_true rfl) (c_isLatin1 hi) ?_
  refine x_if_eq (tgt := 16) dJ0_charAt_4 (by decide) (fun h => absurd h (by decide)) (fun _ => ?_)
  refine x_aload_n dJ0_charAt_7 rfl ?_
  refine x_getO dJ0_charAt_8 (fun U h => (h.2.2.2.1 i q hi).2.2.2.1) q1641 ?_
  refine x_iload_n dJ0_charAt_11 rfl ?_
  obtain ⟨o2, M2, ⟨ho, hM2⟩, hC2⟩ := c_lchar (g := g) (l := l) (M := M) (q := fc_sV g i) (fun U h => (h.2.2.2.1 i q hi).2.2.2.2) hj hN (congrArg Value.int hf) hx hn
  subst hM2
  refine fc_callS (As := [.ref (fc_sV g i), .int (nI j)]) dJ0_charAt_12 kG_J0_J1_charAt kP_J1_charAt.2 (by omega) (by decide) (Nat.le_of_ble_eq_true rfl) rfl hC2 ho ?_
  exact x_iret dJ0_charAt_15 rfl hn fc_re.of
end T76
