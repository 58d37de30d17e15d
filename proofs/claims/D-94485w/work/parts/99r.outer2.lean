set_option maxRecDepth 100000
section T99R
variable {g : fc_G} {l : Launch} {M : fc_M} {S : tT} {U : tU} {β : Nat} {w : Nat → Int32}
theorem q_puti {y : MethodName} {cc : ByteArray} {nL : Nat} {ret : Option FieldType} {d n0 s0 : Nat} {pc : Nat} {L : List (Option Value)} {st : List Value} {Q : Outcome → fc_M → Prop} {i a : Nat} {C : String} {T : u_T} {N : Nat} {x : Int32} (ci k : Nat) (hd : decode cc pc = .ok (.putfield i, 3)) (hc : fcCl[ci]? = some (C, T, N)) (hk : k < N) (hq : Cond.fieldLink y.cls i (T k).1 (T k).2.1 (T k).2.2.1 ∈ lw_all) (hfin : (T k).2.2.2 = false) (hn : narrow (fcTy ci k) (.int x) = .int x) (hf : fits (fcTy ci k) (.int x) = true) (ha : a < fc_nx M) (hs : fc_sh M a = .inl ci) (h1 : kdO (.inl ci) k = 1) (kk : fc_X g l y cc nL ret d n0 s0 (cl M (tu S a k x) U) (pc + 3) L st Q) : fc_X g l y cc nL ret d n0 s0 (cl M S U) pc L (.int x :: .ref (fc_B g + a) :: st) Q := by
  refine x_putf ci k hd hc hk hq hfin hn hf ha hs ?_
  rw [cl_puti (by rw [hs]; exact h1)]
  exact kk
def enC (S : tT) (x : Int32) : Int32 × tT := if nI 0 ≤ x ∧ x ≤ S 0 1 then (nI 1, tu S 0 1 x) else (nI 0, S)
def ftC (S : tT) (x : Int32) : Int32 := if x = 0 then S 0 11 else if x = nI 1 then S 0 12 else -1
set_option maxHeartbeats 1000000 in
theorem d_end (hF : LF g M) {x : Int32} : fc_CX g l yX0_end cX0_end 2 (some .boolean) 2 [.ref (fc_B g + 0), .int x] (cl M S U) (fc_re (enC S x).1 (cl M (enC S x).2 U)) := by
  refine fc_enter (by decide) (Nat.le_of_ble_eq_true rfl) rfl ?_
  refine x_iload_n dX0_end_0 rfl ?_
  refine x_ic0 dX0_end_1 ?_
  refine x_aload_n dX0_end_2 rfl ?_
  refine q_geti 0 1 dX0_end_3 (C := RX0) (T := TX0) (N := 30) rfl (by decide) q396 (show 0 < fc_nx M by have := hF.1; omega) (hF.2.2 0 _ rfl) rfl rfl ?_
  refine k_S3i dX0_end_6 kG_X0_X0_isIn kP_X0_isIn (by omega) (by decide) (Nat.le_of_ble_eq_true rfl) d_isIn ?_
  refine x_ifB_ne (tgt := 14) dX0_end_9 (by decide) (fun hc9 => ?_) (fun hc9 => ?_)
  · refine x_aload_n dX0_end_14 rfl ?_
    refine x_iload_n dX0_end_15 rfl ?_
    refine q_puti 0 1 dX0_end_16 (C := RX0) (T := TX0) (N := 30) rfl (by decide) q396 rfl rfl rfl (show 0 < fc_nx M by have := hF.1; omega) (hF.2.2 0 _ rfl) rfl ?_
    refine x_ic1 dX0_end_19 ?_
    have e9 : enC S x = (nI 1, tu S 0 1 x) := if_pos hc9
    rw [e9]
    exact x_iret dX0_end_20 rfl (by rfl) fc_re.of
  · refine x_ic0 dX0_end_12 ?_
    have e9 : enC S x = (nI 0, S) := if_neg hc9
    rw [e9]
    exact x_iret dX0_end_13 rfl (by rfl) fc_re.of
set_option maxHeartbeats 1000000 in
theorem d_fault (hF : LF g M) {x : Int32} : fc_CX g l yX0_fault cX0_fault 2 (some .int) 1 [.ref (fc_B g + 0), .int x] (cl M S U) (fc_re (ftC S x) (cl M S U)) := by
  refine fc_enter (by decide) (Nat.le_of_ble_eq_true rfl) rfl ?_
  refine x_iload_n dX0_fault_0 rfl ?_
  refine x_if_ne (tgt := 11) dX0_fault_1 (by decide) (fun hc1 => ?_) (fun hc1 => ?_)
  · refine x_iload_n dX0_fault_11 rfl ?_
    refine x_ic1 dX0_fault_12 ?_
    refine x_icmp_ne (tgt := 23) dX0_fault_13 (by decide) (fun hc13 => ?_) (fun hc13 => ?_)
    · refine x_icm1 dX0_fault_23 ?_
      exact x_iret dX0_fault_24 rfl rfl (fc_re.of2 (show _ = ftC S x from ((if_neg hc1).trans (if_neg hc13)).symm) rfl)
    · refine x_aload_n dX0_fault_16 rfl ?_
      refine q_geti 0 12 dX0_fault_17 (C := RX0) (T := TX0) (N := 30) rfl (by decide) q407 (show 0 < fc_nx M by have := hF.1; omega) (hF.2.2 0 _ rfl) rfl rfl ?_
      refine x_goto (tgt := 24) dX0_fault_20 (by decide) ?_
      exact x_iret dX0_fault_24 rfl rfl (fc_re.of2 (show _ = ftC S x from ((if_neg hc1).trans (if_pos hc13)).symm) rfl)
  · refine x_aload_n dX0_fault_4 rfl ?_
    refine q_geti 0 11 dX0_fault_5 (C := RX0) (T := TX0) (N := 30) rfl (by decide) q406 (show 0 < fc_nx M by have := hF.1; omega) (hF.2.2 0 _ rfl) rfl rfl ?_
    refine x_goto (tgt := 24) dX0_fault_8 (by decide) ?_
    exact x_iret dX0_fault_24 rfl rfl (fc_re.of2 (show _ = ftC S x from (if_pos hc1).symm) rfl)
end T99R
