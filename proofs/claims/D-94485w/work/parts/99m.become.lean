set_option maxRecDepth 100000
section T99M
variable {g : fc_G} {l : Launch} {M : fc_M} {S : tT} {U : tU} {β : Nat} {w : Nat → Int32} {β2 : Nat} {w2 : Nat → Int32}
theorem clr_S {S' : tT} {a k : Nat} (h : S a k = S' a k) : clr S β w a k = clr S' β w a k := by
  show (if _ then _ else _) = (if _ then _ else _)
  by_cases h1 : a = β ∧ (k = 2 ∨ k = 3 ∨ k = 4)
  · rw [if_pos h1, if_pos h1]
  · rw [if_neg h1, if_neg h1]
    by_cases h2 : β + 3 ≤ a ∧ a < β + 63 ∧ k < 7
    · rw [if_pos h2, if_pos h2]
    · rw [if_neg h2, if_neg h2]
      by_cases h3 : β + 63 ≤ a ∧ a < β + 67 ∧ k < 6
      · rw [if_pos h3, if_pos h3]
      · rw [if_neg h3, if_neg h3]
        exact h
theorem clr_comm (h : β2 + 67 ≤ β ∨ β + 67 ≤ β2) : clr (clr S β2 w2) β w = clr (clr S β w) β2 w2 := by
  funext a k
  by_cases ha : β ≤ a ∧ a < β + 67
  · rw [clr_o (β := β2) (by omega)]
    exact clr_S (clr_o (by omega))
  · rw [clr_o (β := β) (by omega)]
    exact (clr_S (clr_o (by omega))).symm
theorem cR_comm (h : β2 + 67 ≤ β ∨ β + 67 ≤ β2) : cR M (clr S β2 w2) U β w = cR M (clr S β w) U β2 w2 := congrArg (fun z => cl M z U) (clr_comm h)
theorem o_tget {y : MethodName} {cc : ByteArray} {nL : Nat} {ret : Option FieldType} {d n0 s0 : Nat} {pc : Nat} {L : List (Option Value)} {st : List Value} {Q : Outcome → fc_M → Prop} {i : Nat} (k : Nat) (hd : decode cc pc = .ok (.getfield i, 3)) (hk : k = 2 ∨ k = 3 ∨ k = 4) (hq : Cond.fieldLink y.cls i (TX3 k).1 (TX3 k).2.1 (TX3 k).2.2.1 ∈ lw_all) (hL2 : LT g M β2) (hdj : β2 + 67 ≤ β ∨ β + 67 ≤ β2) (kk : fc_X g l y cc nL ret d n0 s0 (cR M (clr S β2 w2) U β w) (pc + 3) L (.int (w2 k) :: st) Q) : fc_X g l y cc nL ret d n0 s0 (cR M (clr S β2 w2) U β w) pc L (.ref (fc_B g + β2) :: st) Q := by
  rw [cR_comm hdj] at kk ⊢
  exact k_tget k hL2 hd hk hq kk
theorem o_people {y : MethodName} {cc : ByteArray} {nL : Nat} {ret : Option FieldType} {d n0 s0 : Nat} {pc : Nat} {L : List (Option Value)} {st : List Value} {Q : Outcome → fc_M → Prop} {i : Nat} (k : Nat) (hk : k = 0) (hd : decode cc pc = .ok (.getfield i, 3)) (hq : Cond.fieldLink y.cls i (TX3 k).1 (TX3 k).2.1 (TX3 k).2.2.1 ∈ lw_all) (hL2 : LT g M β2) (hdj : β2 + 67 ≤ β ∨ β + 67 ≤ β2) (kk : fc_X g l y cc nL ret d n0 s0 (cR M (clr S β2 w2) U β w) (pc + 3) L (.ref (fc_B g + (β2 + 1)) :: st) Q) : fc_X g l y cc nL ret d n0 s0 (cR M (clr S β2 w2) U β w) pc L (.ref (fc_B g + β2) :: st) Q := by
  rw [cR_comm hdj] at kk ⊢
  exact k_people k hk hL2 hd hq kk
theorem o_cars {y : MethodName} {cc : ByteArray} {nL : Nat} {ret : Option FieldType} {d n0 s0 : Nat} {pc : Nat} {L : List (Option Value)} {st : List Value} {Q : Outcome → fc_M → Prop} {i : Nat} (k : Nat) (hk : k = 1) (hd : decode cc pc = .ok (.getfield i, 3)) (hq : Cond.fieldLink y.cls i (TX3 k).1 (TX3 k).2.1 (TX3 k).2.2.1 ∈ lw_all) (hL2 : LT g M β2) (hdj : β2 + 67 ≤ β ∨ β + 67 ≤ β2) (kk : fc_X g l y cc nL ret d n0 s0 (cR M (clr S β2 w2) U β w) (pc + 3) L (.ref (fc_B g + (β2 + 2)) :: st) Q) : fc_X g l y cc nL ret d n0 s0 (cR M (clr S β2 w2) U β w) pc L (.ref (fc_B g + β2) :: st) Q := by
  rw [cR_comm hdj] at kk ⊢
  exact k_cars k hk hL2 hd hq kk
theorem o_pald {y : MethodName} {cc : ByteArray} {nL : Nat} {ret : Option FieldType} {d n0 s0 : Nat} {pc : Nat} {L : List (Option Value)} {st : List Value} {Q : Outcome → fc_M → Prop} {p : Nat} (hd : decode cc pc = .ok (.aaload, 1)) (hp : p < 60) (hL2 : LT g M β2) (hdj : β2 + 67 ≤ β ∨ β + 67 ≤ β2) (kk : fc_X g l y cc nL ret d n0 s0 (cR M (clr S β2 w2) U β w) (pc + 1) L (.ref (fc_B g + (β2 + 3 + p)) :: st) Q) : fc_X g l y cc nL ret d n0 s0 (cR M (clr S β2 w2) U β w) pc L (.int (nI p) :: .ref (fc_B g + (β2 + 1)) :: st) Q := by
  rw [cR_comm hdj] at kk ⊢
  exact k_pald hL2 hd hp kk
theorem o_cald {y : MethodName} {cc : ByteArray} {nL : Nat} {ret : Option FieldType} {d n0 s0 : Nat} {pc : Nat} {L : List (Option Value)} {st : List Value} {Q : Outcome → fc_M → Prop} {c : Nat} (hd : decode cc pc = .ok (.aaload, 1)) (hc : c < 4) (hL2 : LT g M β2) (hdj : β2 + 67 ≤ β ∨ β + 67 ≤ β2) (kk : fc_X g l y cc nL ret d n0 s0 (cR M (clr S β2 w2) U β w) (pc + 1) L (.ref (fc_B g + (β2 + 63 + c)) :: st) Q) : fc_X g l y cc nL ret d n0 s0 (cR M (clr S β2 w2) U β w) pc L (.int (nI c) :: .ref (fc_B g + (β2 + 2)) :: st) Q := by
  rw [cR_comm hdj] at kk ⊢
  exact k_cald hL2 hd hc kk
theorem o_pget {y : MethodName} {cc : ByteArray} {nL : Nat} {ret : Option FieldType} {d n0 s0 : Nat} {pc : Nat} {L : List (Option Value)} {st : List Value} {Q : Outcome → fc_M → Prop} {i p : Nat} (k : Nat) (hd : decode cc pc = .ok (.getfield i, 3)) (hk : k < 7) (hq : Cond.fieldLink y.cls i (TX4 k).1 (TX4 k).2.1 (TX4 k).2.2.1 ∈ lw_all) (hp : p < 60) (hL2 : LT g M β2) (hdj : β2 + 67 ≤ β ∨ β + 67 ≤ β2) (kk : fc_X g l y cc nL ret d n0 s0 (cR M (clr S β2 w2) U β w) (pc + 3) L (.int (w2 (820 + 8 * p + k)) :: st) Q) : fc_X g l y cc nL ret d n0 s0 (cR M (clr S β2 w2) U β w) pc L (.ref (fc_B g + (β2 + 3 + p)) :: st) Q := by
  rw [cR_comm hdj] at kk ⊢
  exact k_pget k hL2 hd hk hq hp kk
theorem o_cget {y : MethodName} {cc : ByteArray} {nL : Nat} {ret : Option FieldType} {d n0 s0 : Nat} {pc : Nat} {L : List (Option Value)} {st : List Value} {Q : Outcome → fc_M → Prop} {i c : Nat} (k j : Nat) (hj : cmp k = j) (hd : decode cc pc = .ok (.getfield i, 3)) (hk : k < 6) (hq : Cond.fieldLink y.cls i (TX5 k).1 (TX5 k).2.1 (TX5 k).2.2.1 ∈ lw_all) (hc : c < 4) (hL2 : LT g M β2) (hdj : β2 + 67 ≤ β ∨ β + 67 ≤ β2) (kk : fc_X g l y cc nL ret d n0 s0 (cR M (clr S β2 w2) U β w) (pc + 3) L (.int (w2 (10 + 20 * c + j)) :: st) Q) : fc_X g l y cc nL ret d n0 s0 (cR M (clr S β2 w2) U β w) pc L (.ref (fc_B g + (β2 + 63 + c)) :: st) Q := by
  rw [cR_comm hdj] at kk ⊢
  exact k_cget k j hj hL2 hd hk hq hc kk
theorem o_cgetl {y : MethodName} {cc : ByteArray} {nL : Nat} {ret : Option FieldType} {d n0 s0 : Nat} {pc : Nat} {L : List (Option Value)} {st : List Value} {Q : Outcome → fc_M → Prop} {i c : Nat} (k : Nat) (hd : decode cc pc = .ok (.getfield i, 3)) (hk : k = 6 ∨ k = 7) (hq : Cond.fieldLink y.cls i (TX5 k).1 (TX5 k).2.1 (TX5 k).2.2.1 ∈ lw_all) (hc : c < 4) (hL2 : LT g M β2) (hdj : β2 + 67 ≤ β ∨ β + 67 ≤ β2) (kk : fc_X g l y cc nL ret d n0 s0 (cR M (clr S β2 w2) U β w) (pc + 3) L (.long (U (β2 + 63 + c) k) :: st) Q) : fc_X g l y cc nL ret d n0 s0 (cR M (clr S β2 w2) U β w) pc L (.ref (fc_B g + (β2 + 63 + c)) :: st) Q := by
  rw [cR_comm hdj] at kk ⊢
  exact k_cgetl k hL2 hd hk hq hc kk
def pbW (w w2 : Nat → Int32) (p : Nat) : Nat → Int32 := (up (up (up (up (up (up (up w (820 + 8 * p + 0) (w2 (820 + 8 * p + 0))) (820 + 8 * p + 1) (w2 (820 + 8 * p + 1))) (820 + 8 * p + 2) (w2 (820 + 8 * p + 2))) (820 + 8 * p + 3) (w2 (820 + 8 * p + 3))) (820 + 8 * p + 4) (w2 (820 + 8 * p + 4))) (820 + 8 * p + 5) (w2 (820 + 8 * p + 5))) (820 + 8 * p + 6) (w2 (820 + 8 * p + 6)))
set_option maxHeartbeats 1000000 in
theorem d_pbecome (hL : LT g M β) (hL2 : LT g M β2) (hdj : β2 + 67 ≤ β ∨ β + 67 ≤ β2) {p : Nat} (hp : p < 60) : fc_CX g l yX4_become cX4_become 2 (none) 1 [.ref (fc_B g + (β + 3 + p)), .ref (fc_B g + (β2 + 3 + p))] (cR M (clr S β2 w2) U β w) (fc_rn (cR M (clr S β2 w2) U β (pbW w w2 p))) := by
  refine fc_enter (by decide) (Nat.le_of_ble_eq_true rfl) rfl ?_
  refine x_aload_n dX4_become_0 rfl ?_
  refine x_aload_n dX4_become_1 rfl ?_
  refine o_pget 0 dX4_become_2 (by decide) q267 hp hL2 hdj ?_
  refine k_pput 0 hL dX4_become_5 (by decide) q267 rfl (by omega) ?_
  refine x_aload_n dX4_become_8 rfl ?_
  refine x_aload_n dX4_become_9 rfl ?_
  refine o_pget 1 dX4_become_10 (by decide) q270 hp hL2 hdj ?_
  refine k_pput 1 hL dX4_become_13 (by decide) q270 rfl (by omega) ?_
  refine x_aload_n dX4_become_16 rfl ?_
  refine x_aload_n dX4_become_17 rfl ?_
  refine o_pget 2 dX4_become_18 (by decide) q273 hp hL2 hdj ?_
  refine k_pput 2 hL dX4_become_21 (by decide) q273 rfl (by omega) ?_
  refine x_aload_n dX4_become_24 rfl ?_
  refine x_aload_n dX4_become_25 rfl ?_
  refine o_pget 3 dX4_become_26 (by decide) q276 hp hL2 hdj ?_
  refine k_pput 3 hL dX4_become_29 (by decide) q276 rfl (by omega) ?_
  refine x_aload_n dX4_become_32 rfl ?_
  refine x_aload_n dX4_become_33 rfl ?_
  refine o_pget 4 dX4_become_34 (by decide) q279 hp hL2 hdj ?_
  refine k_pput 4 hL dX4_become_37 (by decide) q279 rfl (by omega) ?_
  refine x_aload_n dX4_become_40 rfl ?_
  refine x_aload_n dX4_become_41 rfl ?_
  refine o_pget 5 dX4_become_42 (by decide) q282 hp hL2 hdj ?_
  refine k_pput 5 hL dX4_become_45 (by decide) q282 rfl (by omega) ?_
  refine x_aload_n dX4_become_48 rfl ?_
  refine x_aload_n dX4_become_49 rfl ?_
  refine o_pget 6 dX4_become_50 (by decide) q285 hp hL2 hdj ?_
  refine k_pput 6 hL dX4_become_53 (by decide) q285 rfl (by omega) ?_
  exact x_vret dX4_become_56 rfl fc_rn.of
end T99M
