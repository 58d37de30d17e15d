section FCSTR2
variable {g : fc_G} {l : Launch} {M : fc_M}
/-- answers r, and changes nothing -/
def fc_re (r : Int32) (M : fc_M) : Outcome → fc_M → Prop := fun o M2 => o = .returned (some (.int r)) ∧ M2 = M
theorem fc_re.of {r : Int32} {M : fc_M} : fc_re r M (.returned (some (.int r))) M := ⟨rfl, rfl⟩
theorem c_coder {j : Nat} {q : String × Nat × String × List Int32} (hj : fcStr[j]? = some q) : fc_CX g l yJ0_coder cJ0_coder 1 (some .byte) 1 [.ref (fc_sK g j)] M (fc_re 0 M) := by
  refine fc_enter (by decide) (Nat.le_of_ble_eq_true rfl) rfl ?_
  refine x_getZ dJ0_coder_0 (fun U h => h.2.2.2.2.2.1) q546 ?_
  refine x_if_eq (tgt := 13) dJ0_coder_3 (by decide) (fun h => absurd h (by decide)) (fun _ => ?_)
  refine x_aload_n dJ0_coder_6 rfl ?_
  refine x_getO dJ0_coder_7 (fun U h => (h.2.2.2.1 j q hj).2.2.1) q1642 ?_
  refine x_goto (tgt := 14) dJ0_coder_10 (by decide) ?_
  exact x_iret dJ0_coder_14 rfl rfl fc_re.of
theorem c_isLatin1 {j : Nat} {q : String × Nat × String × List Int32} (hj : fcStr[j]? = some q) : fc_CX g l yJ0_isLatin1 cJ0_isLatin1 1 (some .boolean) 1 [.ref (fc_sK g j)] M (fc_re 1 M) := by
  refine fc_enter (by decide) (Nat.le_of_ble_eq_true rfl) rfl ?_
  refine x_getZ dJ0_isLatin1_0 (fun U h => h.2.2.2.2.2.1) q546 ?_
  refine x_if_eq (tgt := 17) dJ0_isLatin1_3 (by decide) (fun h => absurd h (by decide)) (fun _ => ?_)
  refine x_aload_n dJ0_isLatin1_6 rfl ?_
  refine x_getO dJ0_isLatin1_7 (fun U h => (h.2.2.2.1 j q hj).2.2.1) q1642 ?_
  refine x_if_ne (tgt := 17) dJ0_isLatin1_10 (by decide) (fun h => absurd rfl h) (fun _ => ?_)
  refine x_ic1 dJ0_isLatin1_13 ?_
  refine x_goto (tgt := 18) dJ0_isLatin1_14 (by decide) ?_
  exact x_iret dJ0_isLatin1_18 rfl rfl fc_re.of
end FCSTR2
