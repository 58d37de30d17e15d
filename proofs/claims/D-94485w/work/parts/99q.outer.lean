set_option maxRecDepth 100000
section T99Q
variable {g : fc_G} {l : Launch} {M : fc_M} {S : tT} {U : tU} {β : Nat} {w : Nat → Int32} {π f nC : Nat}
theorem k_V0iF {y : MethodName} {cc : ByteArray} {nL : Nat} {ret : Option FieldType} {d n0 s0 : Nat} {M2 : fc_M} {pc : Nat} {L : List (Option Value)} {st : List Value} {Q : Outcome → fc_M → Prop} {y2 : MethodName} {c2 : ByteArray} {n2 d2 i : Nat} {r2 : Option FieldType} {r : Int32} (hF : LF g M) (hd : decode cc pc = .ok (.invokevirtual i, 3)) (hG : GoodIn lw_all (wsV y.cls i y2.cls y2 (ws_ y2 c2 n2 r2))) (hpar : kPar y2 0) (hcl : y2.cls = RX0) (hdd : d2 + 1 ≤ d) (hn2 : n2 ≤ 45) (hrest : (st.map fun v => v.category).sum ≤ 8) (hC : fc_CX g l y2 c2 n2 r2 d2 [.ref (fc_B g + 0)] (cl M S U) (fc_re r M2)) (kk : fc_X g l y cc nL ret d n0 s0 M2 (pc + 3) L (.int r :: st) Q) : fc_X g l y cc nL ret d n0 s0 (cl M S U) pc L (.ref (fc_B g + 0) :: st) Q :=
  x_V0i 0 hd hG hpar (T := TX0) (N := 30) (by rw [hcl]; rfl) (show 0 < fc_nx M by have := hF.1; omega) (hF.2.2 0 _ rfl) hdd hn2 hrest (fc_re_i hC) (fun r3 M3 h => by obtain ⟨e1, e2⟩ := h; subst e1; subst e2; exact kk)
theorem k_V0vF {y : MethodName} {cc : ByteArray} {nL : Nat} {ret : Option FieldType} {d n0 s0 : Nat} {M2 : fc_M} {pc : Nat} {L : List (Option Value)} {st : List Value} {Q : Outcome → fc_M → Prop} {y2 : MethodName} {c2 : ByteArray} {n2 d2 i : Nat} {r2 : Option FieldType} (hF : LF g M) (hd : decode cc pc = .ok (.invokevirtual i, 3)) (hG : GoodIn lw_all (wsV y.cls i y2.cls y2 (ws_ y2 c2 n2 r2))) (hpar : kPar y2 0) (hcl : y2.cls = RX0) (hdd : d2 + 1 ≤ d) (hn2 : n2 ≤ 45) (hrest : (st.map fun v => v.category).sum ≤ 8) (hC : fc_CX g l y2 c2 n2 r2 d2 [.ref (fc_B g + 0)] (cl M S U) (fc_rn M2)) (kk : fc_X g l y cc nL ret d n0 s0 M2 (pc + 3) L st Q) : fc_X g l y cc nL ret d n0 s0 (cl M S U) pc L (.ref (fc_B g + 0) :: st) Q :=
  x_V0v 0 hd hG hpar (T := TX0) (N := 30) (by rw [hcl]; rfl) (show 0 < fc_nx M by have := hF.1; omega) (hF.2.2 0 _ rfl) hdd hn2 hrest (fc_rn_v hC) (fun M3 h => by subst h; exact kk)
theorem k_V1iF {y : MethodName} {cc : ByteArray} {nL : Nat} {ret : Option FieldType} {d n0 s0 : Nat} {M2 : fc_M} {pc : Nat} {L : List (Option Value)} {st : List Value} {Q : Outcome → fc_M → Prop} {y2 : MethodName} {c2 : ByteArray} {n2 d2 i : Nat} {r2 : Option FieldType} {a1 : Value} {r : Int32} (hF : LF g M) (hd : decode cc pc = .ok (.invokevirtual i, 3)) (hG : GoodIn lw_all (wsV y.cls i y2.cls y2 (ws_ y2 c2 n2 r2))) (hpar : kPar y2 1) (hcl : y2.cls = RX0) (hdd : d2 + 1 ≤ d) (hn2 : n2 ≤ 45) (hrest : (st.map fun v => v.category).sum ≤ 8) (hC : fc_CX g l y2 c2 n2 r2 d2 [.ref (fc_B g + 0), a1] (cl M S U) (fc_re r M2)) (kk : fc_X g l y cc nL ret d n0 s0 M2 (pc + 3) L (.int r :: st) Q) : fc_X g l y cc nL ret d n0 s0 (cl M S U) pc L (a1 :: .ref (fc_B g + 0) :: st) Q :=
  x_V1i 0 hd hG hpar (T := TX0) (N := 30) (by rw [hcl]; rfl) (show 0 < fc_nx M by have := hF.1; omega) (hF.2.2 0 _ rfl) hdd hn2 hrest (fc_re_i hC) (fun r3 M3 h => by obtain ⟨e1, e2⟩ := h; subst e1; subst e2; exact kk)
theorem k_V1vF {y : MethodName} {cc : ByteArray} {nL : Nat} {ret : Option FieldType} {d n0 s0 : Nat} {M2 : fc_M} {pc : Nat} {L : List (Option Value)} {st : List Value} {Q : Outcome → fc_M → Prop} {y2 : MethodName} {c2 : ByteArray} {n2 d2 i : Nat} {r2 : Option FieldType} {a1 : Value} (hF : LF g M) (hd : decode cc pc = .ok (.invokevirtual i, 3)) (hG : GoodIn lw_all (wsV y.cls i y2.cls y2 (ws_ y2 c2 n2 r2))) (hpar : kPar y2 1) (hcl : y2.cls = RX0) (hdd : d2 + 1 ≤ d) (hn2 : n2 ≤ 45) (hrest : (st.map fun v => v.category).sum ≤ 8) (hC : fc_CX g l y2 c2 n2 r2 d2 [.ref (fc_B g + 0), a1] (cl M S U) (fc_rn M2)) (kk : fc_X g l y cc nL ret d n0 s0 M2 (pc + 3) L st Q) : fc_X g l y cc nL ret d n0 s0 (cl M S U) pc L (a1 :: .ref (fc_B g + 0) :: st) Q :=
  x_V1v 0 hd hG hpar (T := TX0) (N := 30) (by rw [hcl]; rfl) (show 0 < fc_nx M by have := hF.1; omega) (hF.2.2 0 _ rfl) hdd hn2 hrest (fc_rn_v hC) (fun M3 h => by subst h; exact kk)
theorem k_V2iF {y : MethodName} {cc : ByteArray} {nL : Nat} {ret : Option FieldType} {d n0 s0 : Nat} {M2 : fc_M} {pc : Nat} {L : List (Option Value)} {st : List Value} {Q : Outcome → fc_M → Prop} {y2 : MethodName} {c2 : ByteArray} {n2 d2 i : Nat} {r2 : Option FieldType} {a1 a2 : Value} {r : Int32} (hF : LF g M) (hd : decode cc pc = .ok (.invokevirtual i, 3)) (hG : GoodIn lw_all (wsV y.cls i y2.cls y2 (ws_ y2 c2 n2 r2))) (hpar : kPar y2 2) (hcl : y2.cls = RX0) (hdd : d2 + 1 ≤ d) (hn2 : n2 ≤ 45) (hrest : (st.map fun v => v.category).sum ≤ 8) (hC : fc_CX g l y2 c2 n2 r2 d2 [.ref (fc_B g + 0), a1, a2] (cl M S U) (fc_re r M2)) (kk : fc_X g l y cc nL ret d n0 s0 M2 (pc + 3) L (.int r :: st) Q) : fc_X g l y cc nL ret d n0 s0 (cl M S U) pc L (a2 :: a1 :: .ref (fc_B g + 0) :: st) Q :=
  x_V2i 0 hd hG hpar (T := TX0) (N := 30) (by rw [hcl]; rfl) (show 0 < fc_nx M by have := hF.1; omega) (hF.2.2 0 _ rfl) hdd hn2 hrest (fc_re_i hC) (fun r3 M3 h => by obtain ⟨e1, e2⟩ := h; subst e1; subst e2; exact kk)
theorem k_V2vF {y : MethodName} {cc : ByteArray} {nL : Nat} {ret : Option FieldType} {d n0 s0 : Nat} {M2 : fc_M} {pc : Nat} {L : List (Option Value)} {st : List Value} {Q : Outcome → fc_M → Prop} {y2 : MethodName} {c2 : ByteArray} {n2 d2 i : Nat} {r2 : Option FieldType} {a1 a2 : Value} (hF : LF g M) (hd : decode cc pc = .ok (.invokevirtual i, 3)) (hG : GoodIn lw_all (wsV y.cls i y2.cls y2 (ws_ y2 c2 n2 r2))) (hpar : kPar y2 2) (hcl : y2.cls = RX0) (hdd : d2 + 1 ≤ d) (hn2 : n2 ≤ 45) (hrest : (st.map fun v => v.category).sum ≤ 8) (hC : fc_CX g l y2 c2 n2 r2 d2 [.ref (fc_B g + 0), a1, a2] (cl M S U) (fc_rn M2)) (kk : fc_X g l y cc nL ret d n0 s0 M2 (pc + 3) L st Q) : fc_X g l y cc nL ret d n0 s0 (cl M S U) pc L (a2 :: a1 :: .ref (fc_B g + 0) :: st) Q :=
  x_V2v 0 hd hG hpar (T := TX0) (N := 30) (by rw [hcl]; rfl) (show 0 < fc_nx M by have := hF.1; omega) (hF.2.2 0 _ rfl) hdd hn2 hrest (fc_rn_v hC) (fun M3 h => by subst h; exact kk)
theorem k_V3iF {y : MethodName} {cc : ByteArray} {nL : Nat} {ret : Option FieldType} {d n0 s0 : Nat} {M2 : fc_M} {pc : Nat} {L : List (Option Value)} {st : List Value} {Q : Outcome → fc_M → Prop} {y2 : MethodName} {c2 : ByteArray} {n2 d2 i : Nat} {r2 : Option FieldType} {a1 a2 a3 : Value} {r : Int32} (hF : LF g M) (hd : decode cc pc = .ok (.invokevirtual i, 3)) (hG : GoodIn lw_all (wsV y.cls i y2.cls y2 (ws_ y2 c2 n2 r2))) (hpar : kPar y2 3) (hcl : y2.cls = RX0) (hdd : d2 + 1 ≤ d) (hn2 : n2 ≤ 45) (hrest : (st.map fun v => v.category).sum ≤ 8) (hC : fc_CX g l y2 c2 n2 r2 d2 [.ref (fc_B g + 0), a1, a2, a3] (cl M S U) (fc_re r M2)) (kk : fc_X g l y cc nL ret d n0 s0 M2 (pc + 3) L (.int r :: st) Q) : fc_X g l y cc nL ret d n0 s0 (cl M S U) pc L (a3 :: a2 :: a1 :: .ref (fc_B g + 0) :: st) Q :=
  x_V3i 0 hd hG hpar (T := TX0) (N := 30) (by rw [hcl]; rfl) (show 0 < fc_nx M by have := hF.1; omega) (hF.2.2 0 _ rfl) hdd hn2 hrest (fc_re_i hC) (fun r3 M3 h => by obtain ⟨e1, e2⟩ := h; subst e1; subst e2; exact kk)
theorem k_V3vF {y : MethodName} {cc : ByteArray} {nL : Nat} {ret : Option FieldType} {d n0 s0 : Nat} {M2 : fc_M} {pc : Nat} {L : List (Option Value)} {st : List Value} {Q : Outcome → fc_M → Prop} {y2 : MethodName} {c2 : ByteArray} {n2 d2 i : Nat} {r2 : Option FieldType} {a1 a2 a3 : Value} (hF : LF g M) (hd : decode cc pc = .ok (.invokevirtual i, 3)) (hG : GoodIn lw_all (wsV y.cls i y2.cls y2 (ws_ y2 c2 n2 r2))) (hpar : kPar y2 3) (hcl : y2.cls = RX0) (hdd : d2 + 1 ≤ d) (hn2 : n2 ≤ 45) (hrest : (st.map fun v => v.category).sum ≤ 8) (hC : fc_CX g l y2 c2 n2 r2 d2 [.ref (fc_B g + 0), a1, a2, a3] (cl M S U) (fc_rn M2)) (kk : fc_X g l y cc nL ret d n0 s0 M2 (pc + 3) L st Q) : fc_X g l y cc nL ret d n0 s0 (cl M S U) pc L (a3 :: a2 :: a1 :: .ref (fc_B g + 0) :: st) Q :=
  x_V3v 0 hd hG hpar (T := TX0) (N := 30) (by rw [hcl]; rfl) (show 0 < fc_nx M by have := hF.1; omega) (hF.2.2 0 _ rfl) hdd hn2 hrest (fc_rn_v hC) (fun M3 h => by subst h; exact kk)
theorem k_V4iF {y : MethodName} {cc : ByteArray} {nL : Nat} {ret : Option FieldType} {d n0 s0 : Nat} {M2 : fc_M} {pc : Nat} {L : List (Option Value)} {st : List Value} {Q : Outcome → fc_M → Prop} {y2 : MethodName} {c2 : ByteArray} {n2 d2 i : Nat} {r2 : Option FieldType} {a1 a2 a3 a4 : Value} {r : Int32} (hF : LF g M) (hd : decode cc pc = .ok (.invokevirtual i, 3)) (hG : GoodIn lw_all (wsV y.cls i y2.cls y2 (ws_ y2 c2 n2 r2))) (hpar : kPar y2 4) (hcl : y2.cls = RX0) (hdd : d2 + 1 ≤ d) (hn2 : n2 ≤ 45) (hrest : (st.map fun v => v.category).sum ≤ 8) (hC : fc_CX g l y2 c2 n2 r2 d2 [.ref (fc_B g + 0), a1, a2, a3, a4] (cl M S U) (fc_re r M2)) (kk : fc_X g l y cc nL ret d n0 s0 M2 (pc + 3) L (.int r :: st) Q) : fc_X g l y cc nL ret d n0 s0 (cl M S U) pc L (a4 :: a3 :: a2 :: a1 :: .ref (fc_B g + 0) :: st) Q :=
  x_V4i 0 hd hG hpar (T := TX0) (N := 30) (by rw [hcl]; rfl) (show 0 < fc_nx M by have := hF.1; omega) (hF.2.2 0 _ rfl) hdd hn2 hrest (fc_re_i hC) (fun r3 M3 h => by obtain ⟨e1, e2⟩ := h; subst e1; subst e2; exact kk)
theorem k_V4vF {y : MethodName} {cc : ByteArray} {nL : Nat} {ret : Option FieldType} {d n0 s0 : Nat} {M2 : fc_M} {pc : Nat} {L : List (Option Value)} {st : List Value} {Q : Outcome → fc_M → Prop} {y2 : MethodName} {c2 : ByteArray} {n2 d2 i : Nat} {r2 : Option FieldType} {a1 a2 a3 a4 : Value} (hF : LF g M) (hd : decode cc pc = .ok (.invokevirtual i, 3)) (hG : GoodIn lw_all (wsV y.cls i y2.cls y2 (ws_ y2 c2 n2 r2))) (hpar : kPar y2 4) (hcl : y2.cls = RX0) (hdd : d2 + 1 ≤ d) (hn2 : n2 ≤ 45) (hrest : (st.map fun v => v.category).sum ≤ 8) (hC : fc_CX g l y2 c2 n2 r2 d2 [.ref (fc_B g + 0), a1, a2, a3, a4] (cl M S U) (fc_rn M2)) (kk : fc_X g l y cc nL ret d n0 s0 M2 (pc + 3) L st Q) : fc_X g l y cc nL ret d n0 s0 (cl M S U) pc L (a4 :: a3 :: a2 :: a1 :: .ref (fc_B g + 0) :: st) Q :=
  x_V4v 0 hd hG hpar (T := TX0) (N := 30) (by rw [hcl]; rfl) (show 0 < fc_nx M by have := hF.1; omega) (hF.2.2 0 _ rfl) hdd hn2 hrest (fc_rn_v hC) (fun M3 h => by subst h; exact kk)
theorem k_V5iF {y : MethodName} {cc : ByteArray} {nL : Nat} {ret : Option FieldType} {d n0 s0 : Nat} {M2 : fc_M} {pc : Nat} {L : List (Option Value)} {st : List Value} {Q : Outcome → fc_M → Prop} {y2 : MethodName} {c2 : ByteArray} {n2 d2 i : Nat} {r2 : Option FieldType} {a1 a2 a3 a4 a5 : Value} {r : Int32} (hF : LF g M) (hd : decode cc pc = .ok (.invokevirtual i, 3)) (hG : GoodIn lw_all (wsV y.cls i y2.cls y2 (ws_ y2 c2 n2 r2))) (hpar : kPar y2 5) (hcl : y2.cls = RX0) (hdd : d2 + 1 ≤ d) (hn2 : n2 ≤ 45) (hrest : (st.map fun v => v.category).sum ≤ 8) (hC : fc_CX g l y2 c2 n2 r2 d2 [.ref (fc_B g + 0), a1, a2, a3, a4, a5] (cl M S U) (fc_re r M2)) (kk : fc_X g l y cc nL ret d n0 s0 M2 (pc + 3) L (.int r :: st) Q) : fc_X g l y cc nL ret d n0 s0 (cl M S U) pc L (a5 :: a4 :: a3 :: a2 :: a1 :: .ref (fc_B g + 0) :: st) Q :=
  x_V5i 0 hd hG hpar (T := TX0) (N := 30) (by rw [hcl]; rfl) (show 0 < fc_nx M by have := hF.1; omega) (hF.2.2 0 _ rfl) hdd hn2 hrest (fc_re_i hC) (fun r3 M3 h => by obtain ⟨e1, e2⟩ := h; subst e1; subst e2; exact kk)
theorem k_V5vF {y : MethodName} {cc : ByteArray} {nL : Nat} {ret : Option FieldType} {d n0 s0 : Nat} {M2 : fc_M} {pc : Nat} {L : List (Option Value)} {st : List Value} {Q : Outcome → fc_M → Prop} {y2 : MethodName} {c2 : ByteArray} {n2 d2 i : Nat} {r2 : Option FieldType} {a1 a2 a3 a4 a5 : Value} (hF : LF g M) (hd : decode cc pc = .ok (.invokevirtual i, 3)) (hG : GoodIn lw_all (wsV y.cls i y2.cls y2 (ws_ y2 c2 n2 r2))) (hpar : kPar y2 5) (hcl : y2.cls = RX0) (hdd : d2 + 1 ≤ d) (hn2 : n2 ≤ 45) (hrest : (st.map fun v => v.category).sum ≤ 8) (hC : fc_CX g l y2 c2 n2 r2 d2 [.ref (fc_B g + 0), a1, a2, a3, a4, a5] (cl M S U) (fc_rn M2)) (kk : fc_X g l y cc nL ret d n0 s0 M2 (pc + 3) L st Q) : fc_X g l y cc nL ret d n0 s0 (cl M S U) pc L (a5 :: a4 :: a3 :: a2 :: a1 :: .ref (fc_B g + 0) :: st) Q :=
  x_V5v 0 hd hG hpar (T := TX0) (N := 30) (by rw [hcl]; rfl) (show 0 < fc_nx M by have := hF.1; omega) (hF.2.2 0 _ rfl) hdd hn2 hrest (fc_rn_v hC) (fun M3 h => by subst h; exact kk)
set_option maxHeartbeats 1000000 in
theorem d_isIn {a b c : Int32} : fc_CX g l yX0_isIn cX0_isIn 3 (some .boolean) 1 [.int a, .int b, .int c] (M) (fc_re (bI (b ≤ a ∧ a ≤ c)) M) := by
  refine fc_enter (by decide) (Nat.le_of_ble_eq_true rfl) rfl ?_
  refine x_iload_n dX0_isIn_0 rfl ?_
  refine x_iload_n dX0_isIn_1 rfl ?_
  refine x_icmp_lt (tgt := 14) dX0_isIn_2 (by decide) (fun hc2 => ?_) (fun hc2 => ?_)
  · refine x_ic0 dX0_isIn_14 ?_
    exact x_iret dX0_isIn_15 rfl (by rfl) (fc_re.of2 (bI_f (fun z => absurd hc2 (Int32.not_lt.mpr z.1))).symm rfl)
  · refine x_iload_n dX0_isIn_5 rfl ?_
    refine x_iload_n dX0_isIn_6 rfl ?_
    refine x_icmp_gt (tgt := 14) dX0_isIn_7 (by decide) (fun hc7 => ?_) (fun hc7 => ?_)
    · refine x_ic0 dX0_isIn_14 ?_
      exact x_iret dX0_isIn_15 rfl (by rfl) (fc_re.of2 (bI_f (fun z => absurd hc7 (Int32.not_lt.mpr z.2))).symm rfl)
    · refine x_ic1 dX0_isIn_10 ?_
      refine x_goto (tgt := 15) dX0_isIn_11 (by decide) ?_
      exact x_iret dX0_isIn_15 rfl (by rfl) (fc_re.of2 (bI_t ⟨Int32.not_lt.mp hc2, Int32.not_lt.mp hc7⟩).symm rfl)
theorem kG_X0_X0_isIn : GoodIn lw_all (va_wsS RX0 137 yX0_isIn (ws_ yX0_isIn cX0_isIn 3 (some .boolean))) := lw_S q501 q502 q118 q503
theorem kP_X0_isIn : kPar yX0_isIn 3 := by decide +kernel
set_option maxHeartbeats 1000000 in
theorem d_isRule {x : Int32} : fc_CX g l yX0_isRule cX0_isRule 1 (some .boolean) 2 [.int x] (M) (fc_re (bI (nI 0 ≤ x ∧ x ≤ nI 2)) M) := by
  refine fc_enter (by decide) (Nat.le_of_ble_eq_true rfl) rfl ?_
  refine x_iload_n dX0_isRule_0 rfl ?_
  refine x_ic0 dX0_isRule_1 ?_
  refine x_ic2 dX0_isRule_2 ?_
  refine k_S3i dX0_isRule_3 kG_X0_X0_isIn kP_X0_isIn (by omega) (by decide) (Nat.le_of_ble_eq_true rfl) d_isIn ?_
  exact x_iret dX0_isRule_6 rfl bI_nar fc_re.of
set_option maxHeartbeats 1000000 in
theorem d_isFloor (hO : PC g M S π β f nC w) {x : Int32} : fc_CX g l yX0_isFloor cX0_isFloor 2 (some .boolean) 2 [.ref (fc_B g + 0), .int x] (cR M S U β w) (fc_re (bI (nI 0 ≤ x ∧ x ≤ nI f - nI 1)) (cR M S U β w)) := by
  refine fc_enter (by decide) (Nat.le_of_ble_eq_true rfl) rfl ?_
  refine x_iload_n dX0_isFloor_0 rfl ?_
  refine x_ic0 dX0_isFloor_1 ?_
  refine x_aload_n dX0_isFloor_2 rfl ?_
  refine k_plan hO dX0_isFloor_3 q410 ?_
  refine k_plF 0 (nI f) hO (Or.inl ⟨rfl, rfl⟩) dX0_isFloor_6 q211 ?_
  refine x_ic1 dX0_isFloor_9 ?_
  refine x_isub dX0_isFloor_10 ?_
  refine k_S3i dX0_isFloor_11 kG_X0_X0_isIn kP_X0_isIn (by omega) (by decide) (Nat.le_of_ble_eq_true rfl) d_isIn ?_
  exact x_iret dX0_isFloor_14 rfl bI_nar fc_re.of
set_option maxHeartbeats 1000000 in
theorem d_isCar (hO : PC g M S π β f nC w) {x : Int32} : fc_CX g l yX0_isCar cX0_isCar 2 (some .boolean) 2 [.ref (fc_B g + 0), .int x] (cR M S U β w) (fc_re (bI (nI 0 ≤ x ∧ x ≤ nI nC - nI 1)) (cR M S U β w)) := by
  refine fc_enter (by decide) (Nat.le_of_ble_eq_true rfl) rfl ?_
  refine x_iload_n dX0_isCar_0 rfl ?_
  refine x_ic0 dX0_isCar_1 ?_
  refine x_aload_n dX0_isCar_2 rfl ?_
  refine k_plan hO dX0_isCar_3 q410 ?_
  refine k_plF 1 (nI nC) hO (Or.inr (Or.inl ⟨rfl, rfl⟩)) dX0_isCar_6 q213 ?_
  refine x_ic1 dX0_isCar_9 ?_
  refine x_isub dX0_isCar_10 ?_
  refine k_S3i dX0_isCar_11 kG_X0_X0_isIn kP_X0_isIn (by omega) (by decide) (Nat.le_of_ble_eq_true rfl) d_isIn ?_
  exact x_iret dX0_isCar_14 rfl bI_nar fc_re.of
set_option maxHeartbeats 1000000 in
theorem d_isOne (hL : LT g M 32) (hO : PC g M S π 32 f nC w) {x : Int32} : fc_CX g l yX0_isOne cX0_isOne 2 (some .boolean) 2 [.ref (fc_B g + 0), .int x] (cR M S U 32 w) (fc_re (bI (nI 0 ≤ x ∧ x ≤ w 2 - nI 1)) (cR M S U 32 w)) := by
  refine fc_enter (by decide) (Nat.le_of_ble_eq_true rfl) rfl ?_
  refine x_iload_n dX0_isOne_0 rfl ?_
  refine x_ic0 dX0_isOne_1 ?_
  refine x_aload_n dX0_isOne_2 rfl ?_
  refine k_Fref 17 hO.1 rfl (by decide) rfl dX0_isOne_3 q415 ?_
  refine k_tget 2 hL dX0_isOne_6 (by decide) q352 ?_
  refine x_ic1 dX0_isOne_9 ?_
  refine x_isub dX0_isOne_10 ?_
  refine k_S3i dX0_isOne_11 kG_X0_X0_isIn kP_X0_isIn (by omega) (by decide) (Nat.le_of_ble_eq_true rfl) d_isIn ?_
  exact x_iret dX0_isOne_14 rfl bI_nar fc_re.of
end T99Q
