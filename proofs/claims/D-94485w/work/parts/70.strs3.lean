section FCSTR3
variable {g : fc_G} {l : Launch} {y : MethodName} {cc : ByteArray} {nL : Nat} {ret : Option FieldType} {d n0 s0 : Nat} {M : fc_M} {pc : Nat} {L : List (Option Value)} {st : List Value} {Q : Outcome → fc_M → Prop}
/-- a call on an object that stands from the start -/
theorem fc_callO {y2 : MethodName} {c2 : ByteArray} {n2 d2 q i : Nat} {r2 : Option FieldType} {As rest st0 : List Value} {M2 : fc_M} {o2 : Outcome} {v : Option Value} (hd : decode cc pc = .ok (.invokevirtual i, 3)) (hG : GoodIn lw_all (wsV y.cls i y2.cls y2 (ws_ y2 c2 n2 r2))) (hpar : y2.cls = y2.cls ∧ y2.cls ≠ "java/lang/invoke/MethodHandle" ∧ y2.cls ≠ "java/lang/invoke/VarHandle" ∧ (parseMethodDescriptor y2.desc).map (fun d => d.parameters.length) = some As.length) (hE : ∀ U, fc_Env g U → va_O y2.cls q (fc_A g) U (fc_H0 g)) (hdd : d2 + 1 ≤ d) (hn2 : n2 ≤ 45) (hrest : (rest.map fun v => v.category).sum ≤ 8) (hst : st0 = As.reverse ++ .ref q :: rest)
    (hC : fc_C g l y2 c2 n2 r2 d2 (.ref q :: As) M o2 M2) (ho : o2 = .returned v)
    (kk : fc_X g l y cc nL ret d n0 s0 M2 (pc + 3) L (v.toList ++ rest) Q) : fc_X g l y cc nL ret d n0 s0 M pc L st0 Q := by
  subst hst
  refine fc_callG (a := (Value.ref q :: As).toArray) ho hC.1 (fun R p e s m args below meth c H ls locs Mf hSt h1 h2 hR hS hL m1 m2 => ?_) kk
  obtain ⟨hx, hb', hml, hown, hrt, hlk, hts, hnm, henv, hrm, -⟩ := id hSt
  obtain ⟨cell, q1, q2, q3, q4⟩ := hE s henv
  have q5 : H[q]? = some cell := by rw [hR.2.1 q (Nat.lt_of_not_le q4)]; exact q1
  exact va_runV (Ts := lw_all) ⟨hx, hb', hml, hown, hts⟩ (fc_Cw_met hC ho) (cwV As.length hts hG rfl rfl rfl hpar ⟨Nat.le_trans hdd hrm.1, by show 8 + (n2 + 11) + 64 * d2 ≤ R.locals; omega⟩) ⟨fc_blind, ⟨cell, q5, q2, q3⟩, fun U hU hW => ⟨rfl, by rw [hU]; exact hR, henv.warm hW⟩⟩ rfl rfl hL.1 rfl (lv_room hrest) hd ⟨by have := hrm.2.2.1; have := hC.1.1; omega, by have := hrm.2.2.2; have := hC.1.2; omega⟩
theorem x_O0e {y2 : MethodName} {c2 : ByteArray} {n2 d2 q i : Nat} {r2 : Option FieldType} {rest : List Value} {r : Int32} (hd : decode cc pc = .ok (.invokevirtual i, 3)) (hG : GoodIn lw_all (wsV y.cls i y2.cls y2 (ws_ y2 c2 n2 r2))) (hpar : kPar y2 0) (hE : ∀ U, fc_Env g U → va_O y2.cls q (fc_A g) U (fc_H0 g)) (hdd : d2 + 1 ≤ d) (hn2 : n2 ≤ 45) (hrest : (rest.map fun v => v.category).sum ≤ 8) (hC : fc_CX g l y2 c2 n2 r2 d2 [.ref q] M (fc_re r M))
    (kk : fc_X g l y cc nL ret d n0 s0 M (pc + 3) L (.int r :: rest) Q) : fc_X g l y cc nL ret d n0 s0 M pc L (.ref q :: rest) Q := by
  obtain ⟨o2, M2, ⟨ho, hM2⟩, hC2⟩ := hC
  subst hM2
  exact fc_callO (As := []) hd hG hpar hE hdd hn2 hrest rfl hC2 ho kk
theorem x_O1e {y2 : MethodName} {c2 : ByteArray} {n2 d2 q i : Nat} {r2 : Option FieldType} {rest : List Value} {a1 : Value} {r : Int32} (hd : decode cc pc = .ok (.invokevirtual i, 3)) (hG : GoodIn lw_all (wsV y.cls i y2.cls y2 (ws_ y2 c2 n2 r2))) (hpar : kPar y2 1) (hE : ∀ U, fc_Env g U → va_O y2.cls q (fc_A g) U (fc_H0 g)) (hdd : d2 + 1 ≤ d) (hn2 : n2 ≤ 45) (hrest : (rest.map fun v => v.category).sum ≤ 8) (hC : fc_CX g l y2 c2 n2 r2 d2 [.ref q, a1] M (fc_re r M))
    (kk : fc_X g l y cc nL ret d n0 s0 M (pc + 3) L (.int r :: rest) Q) : fc_X g l y cc nL ret d n0 s0 M pc L (a1 :: .ref q :: rest) Q := by
  obtain ⟨o2, M2, ⟨ho, hM2⟩, hC2⟩ := hC
  subst hM2
  exact fc_callO (As := [a1]) hd hG hpar hE hdd hn2 hrest rfl hC2 ho kk
end FCSTR3
