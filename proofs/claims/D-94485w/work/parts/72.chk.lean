section FCCHK
variable {g : fc_G} {l : Launch} {M : fc_M}
theorem c_chk2 {a b : Nat} {v2 : Value} (hv : v2.category = 1) (hab : a < b) (hb : b < 2 ^ 31) : fc_CX g l yJ2_checkIndex cJ2_checkIndex 3 (some .int) 1 [.int (nI a), .int (nI b), v2] M (fc_re (nI a) M) := by
  refine fc_enter (by decide) (Nat.le_of_ble_eq_true rfl) (by simp [Value.category]; exact hv) ?_
  refine x_iload_n dJ2_checkIndex_0 rfl ?_
  refine x_if_lt (tgt := 9) dJ2_checkIndex_1 (by decide) (fun h => ?_) (fun _ => ?_)
  · exfalso
    have h3 := Int32.lt_iff_toInt_lt.mp h
    rw [nI_toInt (by omega)] at h3
    have h4 : (0 : Int32).toInt = 0 := rfl
    omega
  · refine x_iload_n dJ2_checkIndex_4 rfl ?_
    refine x_iload_n dJ2_checkIndex_5 rfl ?_
    refine x_icmpN_lt (tgt := 16) dJ2_checkIndex_6 (by decide) (by omega) (by omega) (fun _ => ?_) (fun h => by omega)
    refine x_iload_n dJ2_checkIndex_16 rfl ?_
    exact x_iret dJ2_checkIndex_17 rfl rfl fc_re.of
end FCCHK
