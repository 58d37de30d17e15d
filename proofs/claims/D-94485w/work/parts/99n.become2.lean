set_option maxRecDepth 100000
section T99N
variable {g : fc_G} {l : Launch} {M : fc_M} {S : tT} {U : tU} {β : Nat} {w : Nat → Int32} {β2 : Nat} {w2 : Nat → Int32}
def cbW (w w2 : Nat → Int32) (c : Nat) : Nat → Int32 := (up (up (up (up (up (up w (10 + 20 * c + 0) (w2 (10 + 20 * c + 0))) (10 + 20 * c + 1) (w2 (10 + 20 * c + 1))) (10 + 20 * c + 2) (w2 (10 + 20 * c + 2))) (10 + 20 * c + 3) (w2 (10 + 20 * c + 3))) (10 + 20 * c + 5) (w2 (10 + 20 * c + 5))) (10 + 20 * c + 4) (w2 (10 + 20 * c + 4)))
def cbU (U : tU) (β β2 c : Nat) : tU := tuL (tuL U (β + 63 + c) 6 (U (β2 + 63 + c) 6)) (β + 63 + c) 7 (U (β2 + 63 + c) 7)
theorem z01 {x : Int32} (h : x = 0 ∨ x = nI 1) : narrow .boolean (.int x) = .int x ∧ fits .boolean (.int x) = true := by
  rcases h with e | e <;> subst e <;> exact ⟨rfl, rfl⟩
set_option maxHeartbeats 1000000 in
theorem d_cbecome (hL : LT g M β) (hL2 : LT g M β2) (hdj : β2 + 67 ≤ β ∨ β + 67 ≤ β2) {c : Nat} (hc : c < 4) (ho : w2 (10 + 20 * c + 4) = 0 ∨ w2 (10 + 20 * c + 4) = nI 1) : fc_CX g l yX5_become cX5_become 2 (none) 1 [.ref (fc_B g + (β + 63 + c)), .ref (fc_B g + (β2 + 63 + c))] (cR M (clr S β2 w2) U β w) (fc_rn (cR M (clr S β2 w2) (cbU U β β2 c) β (cbW w w2 c))) := by
  refine fc_enter (by decide) (Nat.le_of_ble_eq_true rfl) rfl ?_
  refine x_aload_n dX5_become_0 rfl ?_
  refine x_aload_n dX5_become_1 rfl ?_
  refine o_cget 0 0 rfl dX5_become_2 (by decide) q308 hc hL2 hdj ?_
  refine k_cput 0 0 rfl hL dX5_become_5 (by decide) q308 rfl (by omega) ?_
  refine x_aload_n dX5_become_8 rfl ?_
  refine x_aload_n dX5_become_9 rfl ?_
  refine o_cget 1 1 rfl dX5_become_10 (by decide) q311 hc hL2 hdj ?_
  refine k_cput 1 1 rfl hL dX5_become_13 (by decide) q311 rfl (by omega) ?_
  refine x_aload_n dX5_become_16 rfl ?_
  refine x_aload_n dX5_become_17 rfl ?_
  refine o_cget 2 2 rfl dX5_become_18 (by decide) q314 hc hL2 hdj ?_
  refine k_cput 2 2 rfl hL dX5_become_21 (by decide) q314 rfl (by omega) ?_
  refine x_aload_n dX5_become_24 rfl ?_
  refine x_aload_n dX5_become_25 rfl ?_
  refine o_cget 3 3 rfl dX5_become_26 (by decide) q317 hc hL2 hdj ?_
  refine k_cput 3 3 rfl hL dX5_become_29 (by decide) q317 rfl (by omega) ?_
  refine x_aload_n dX5_become_32 rfl ?_
  refine x_aload_n dX5_become_33 rfl ?_
  refine o_cget 4 5 rfl dX5_become_34 (by decide) q320 hc hL2 hdj ?_
  refine k_cput 4 5 rfl hL dX5_become_37 (by decide) q320 rfl (by omega) ?_
  refine x_aload_n dX5_become_40 rfl ?_
  refine x_aload_n dX5_become_41 rfl ?_
  refine o_cget 5 4 rfl dX5_become_42 (by decide) q323 hc hL2 hdj ?_
  refine k_cputz 5 rfl hL dX5_become_45 q323 rfl (z01 ho).1 (z01 ho).2 hc ?_
  refine x_aload_n dX5_become_48 rfl ?_
  refine x_aload_n dX5_become_49 rfl ?_
  refine o_cgetl 6 dX5_become_50 (by decide) q326 hc hL2 hdj ?_
  refine k_cputl 6 (by decide) hL dX5_become_53 q326 rfl (by omega) ?_
  refine x_aload_n dX5_become_56 rfl ?_
  refine x_aload_n dX5_become_57 rfl ?_
  refine o_cgetl 7 dX5_become_58 (by decide) q328 hc hL2 hdj ?_
  refine x_topv (congrArg Value.long (tuL_n (by omega))) ?_
  refine k_cputl 7 (by decide) hL dX5_become_61 q328 rfl (by omega) ?_
  exact x_vret dX5_become_64 rfl fc_rn.of
end T99N
