set_option maxRecDepth 100000
section T99B
variable {g : fc_G} {l : Launch}
theorem lw_A {own owner : String} {idx : Nat} {C : String} {x y : MethodName} {b : ByteArray} {L : Nat} {r : Option FieldType} (h1 : Cond.methodLink own idx x ∈ lw_all) (h2 : Cond.sameMethod x.cls owner x.name x.desc ∈ lw_all) (h3 : Cond.selects C x y ∈ lw_all) (h4 : Cond.instanceMethod y ∈ lw_all) (h5 : Cond.initialized y.cls ∈ lw_all) (h6 : Cond.code y b L r ∈ lw_all) : GoodIn lw_all (va_wsU own idx C owner x y (ws_ y b L r)) := by
  refine lw_app ?_ (lw_meth h6)
  intro w hw
  simp only [List.mem_cons, List.not_mem_nil, or_false] at hw
  rcases hw with e | e | e | e | e
  · rw [e]; exact h1
  · rw [e]; exact h2
  · rw [e]; exact h3
  · rw [e]; exact h4
  · rw [e]; exact h5
theorem fc_callA {y : MethodName} {cc : ByteArray} {nL : Nat} {ret : Option FieldType} {d n0 s0 : Nat} {M : fc_M} {pc : Nat} {L : List (Option Value)} {Q : Outcome → fc_M → Prop} {x y2 : MethodName} {owner : String} {c2 : ByteArray} {n2 d2 b i : Nat} {r2 : Option FieldType} {As rest st0 : List Value} {T : u_T} {N : Nat} {M2 : fc_M} {o2 : Outcome} {v : Option Value} (ci : Nat) (hd : decode cc pc = .ok (.invokevirtual i, 3)) (hG : GoodIn lw_all (va_wsU y.cls i y2.cls owner x y2 (ws_ y2 c2 n2 r2))) (hz : Cond.declares ⟨owner, x.name, x.desc⟩ ∈ lw_tbl) (hpar : owner ≠ "java/lang/invoke/MethodHandle" ∧ owner ≠ "java/lang/invoke/VarHandle" ∧ (parseMethodDescriptor x.desc).map (fun d => d.parameters.length) = some As.length) (hcl : fcCl[ci]? = some (y2.cls, T, N)) (hb : b < fc_nx M) (hs : fc_sh M b = .inl ci) (hdd : d2 + 1 ≤ d) (hn2 : n2 ≤ 45) (hrest : (rest.map fun v => v.category).sum ≤ 8) (hst : st0 = As.reverse ++ .ref (fc_B g + b) :: rest)
    (hC : fc_C g l y2 c2 n2 r2 d2 (.ref (fc_B g + b) :: As) M o2 M2) (ho : o2 = .returned v)
    (kk : fc_X g l y cc nL ret d n0 s0 M2 (pc + 3) L (v.toList ++ rest) Q) : fc_X g l y cc nL ret d n0 s0 M pc L st0 Q := by
  subst hst
  refine fc_callG (a := (Value.ref (fc_B g + b) :: As).toArray) ho hC.1 (fun R p e s m args below meth c H ls locs Mf hSt h1 h2 hR hS hL m1 m2 => ?_) kk
  have h4 := hR.2.2 b hb
  rw [hs] at h4
  obtain ⟨r, h1', cell, q1, q2, q3, q4⟩ := h4
  have hr : r = (y2.cls, T, N) := Option.some.inj (h1'.symm.trans hcl)
  subst hr
  obtain ⟨hx, hb', hml, hown, hrt, hlk, hts, hnm, henv, hrm, -⟩ := id hSt
  have hfc := (henv.1.1 ci _ hcl).2.1
  exact va_runU (Ts := lw_all) ⟨hx, hb', hml, hown, hts⟩ (fc_Cw_met hC ho) (va_cwA As.length hts hG rfl rfl rfl (henv.2.2.1.2.2.2.1 _ hz) hpar ⟨Nat.le_trans hdd hrm.1, by show 8 + (n2 + 11) + 64 * d2 ≤ R.locals; omega⟩) ⟨fc_blind, ⟨cell, q1, by rw [q3]; rfl, by rw [q2]; exact hfc⟩, fun U hU hW => ⟨rfl, by rw [hU]; exact hR, henv.warm hW⟩⟩ rfl rfl hL.1 rfl (lv_room hrest) hd ⟨by have := hrm.2.2.1; have := hC.1.1; omega, by have := hrm.2.2.2; have := hC.1.2; omega⟩
def yTof : MethodName := ⟨"FourCars$Term", "of", "([I)I"⟩
theorem kPT : "FourCars$Term" ≠ "java/lang/invoke/MethodHandle" ∧ "FourCars$Term" ≠ "java/lang/invoke/VarHandle" ∧ (parseMethodDescriptor yTof.desc).map (fun d => d.parameters.length) = some 1 := by decide +kernel
/-- a term that answers v -/
def ofC (g : fc_G) (l : Launch) (M : fc_M) (S : tT) (U : tU) (d r : Nat) (v : Int32) : Prop := r < fc_nx M ∧ (
  (fc_sh M r = .inl 8 ∧ fc_CX g l yX9_of cX9_of 2 (some .int) d [.ref (fc_B g + r), .ref (fc_B g + 31)] (cl M S U) (fc_re v (cl M S U)))
  ∨ (fc_sh M r = .inl 9 ∧ fc_CX g l yX10_of cX10_of 2 (some .int) d [.ref (fc_B g + r), .ref (fc_B g + 31)] (cl M S U) (fc_re v (cl M S U)))
  ∨ (fc_sh M r = .inl 10 ∧ fc_CX g l yX11_of cX11_of 4 (some .int) d [.ref (fc_B g + r), .ref (fc_B g + 31)] (cl M S U) (fc_re v (cl M S U)))
  ∨ (fc_sh M r = .inl 11 ∧ fc_CX g l yX12_of cX12_of 2 (some .int) d [.ref (fc_B g + r), .ref (fc_B g + 31)] (cl M S U) (fc_re v (cl M S U))))
theorem kA_X11_X9 : GoodIn lw_all (va_wsU RX11 20 RX9 "FourCars$Term" yTof yX9_of (ws_ yX9_of cX9_of 2 (some .int))) := lw_A q918 q909 q921 q914 q137 q915
theorem kA_X11_X10 : GoodIn lw_all (va_wsU RX11 20 RX10 "FourCars$Term" yTof yX10_of (ws_ yX10_of cX10_of 2 (some .int))) := lw_A q918 q909 q923 q919 q138 q920
theorem kA_X11_X11 : GoodIn lw_all (va_wsU RX11 20 RX11 "FourCars$Term" yTof yX11_of (ws_ yX11_of cX11_of 4 (some .int))) := lw_A q918 q909 q922 q916 q139 q917
theorem kA_X11_X12 : GoodIn lw_all (va_wsU RX11 20 RX12 "FourCars$Term" yTof yX12_of (ws_ yX12_of cX12_of 2 (some .int))) := lw_A q918 q909 q910 q911 q140 q912
theorem kA_X12_X9 : GoodIn lw_all (va_wsU RX12 13 RX9 "FourCars$Term" yTof yX9_of (ws_ yX9_of cX9_of 2 (some .int))) := lw_A q913 q909 q921 q914 q137 q915
theorem kA_X12_X10 : GoodIn lw_all (va_wsU RX12 13 RX10 "FourCars$Term" yTof yX10_of (ws_ yX10_of cX10_of 2 (some .int))) := lw_A q913 q909 q923 q919 q138 q920
theorem kA_X12_X11 : GoodIn lw_all (va_wsU RX12 13 RX11 "FourCars$Term" yTof yX11_of (ws_ yX11_of cX11_of 4 (some .int))) := lw_A q913 q909 q922 q916 q139 q917
theorem kA_X12_X12 : GoodIn lw_all (va_wsU RX12 13 RX12 "FourCars$Term" yTof yX12_of (ws_ yX12_of cX12_of 2 (some .int))) := lw_A q913 q909 q910 q911 q140 q912
theorem kA_X1_X9 : GoodIn lw_all (va_wsU RX1 28 RX9 "FourCars$Term" yTof yX9_of (ws_ yX9_of cX9_of 2 (some .int))) := lw_A q907 q909 q921 q914 q137 q915
theorem kA_X1_X10 : GoodIn lw_all (va_wsU RX1 28 RX10 "FourCars$Term" yTof yX10_of (ws_ yX10_of cX10_of 2 (some .int))) := lw_A q907 q909 q923 q919 q138 q920
theorem kA_X1_X11 : GoodIn lw_all (va_wsU RX1 28 RX11 "FourCars$Term" yTof yX11_of (ws_ yX11_of cX11_of 4 (some .int))) := lw_A q907 q909 q922 q916 q139 q917
theorem kA_X1_X12 : GoodIn lw_all (va_wsU RX1 28 RX12 "FourCars$Term" yTof yX12_of (ws_ yX12_of cX12_of 2 (some .int))) := lw_A q907 q909 q910 q911 q140 q912
theorem kA_X3_X9 : GoodIn lw_all (va_wsU RX3 137 RX9 "FourCars$Term" yTof yX9_of (ws_ yX9_of cX9_of 2 (some .int))) := lw_A q924 q909 q921 q914 q137 q915
theorem kA_X3_X10 : GoodIn lw_all (va_wsU RX3 137 RX10 "FourCars$Term" yTof yX10_of (ws_ yX10_of cX10_of 2 (some .int))) := lw_A q924 q909 q923 q919 q138 q920
theorem kA_X3_X11 : GoodIn lw_all (va_wsU RX3 137 RX11 "FourCars$Term" yTof yX11_of (ws_ yX11_of cX11_of 4 (some .int))) := lw_A q924 q909 q922 q916 q139 q917
theorem kA_X3_X12 : GoodIn lw_all (va_wsU RX3 137 RX12 "FourCars$Term" yTof yX12_of (ws_ yX12_of cX12_of 2 (some .int))) := lw_A q924 q909 q910 q911 q140 q912
theorem x_of {y : MethodName} {cc : ByteArray} {nL : Nat} {ret : Option FieldType} {d n0 s0 : Nat} {M : fc_M} {pc : Nat} {L : List (Option Value)} {st : List Value} {Q : Outcome → fc_M → Prop} {S : tT} {U : tU} {i d2 r : Nat} {v : Int32} (hd : decode cc pc = .ok (.invokevirtual i, 3)) (hX9 : GoodIn lw_all (va_wsU y.cls i RX9 "FourCars$Term" yTof yX9_of (ws_ yX9_of cX9_of 2 (some .int)))) (hX10 : GoodIn lw_all (va_wsU y.cls i RX10 "FourCars$Term" yTof yX10_of (ws_ yX10_of cX10_of 2 (some .int)))) (hX11 : GoodIn lw_all (va_wsU y.cls i RX11 "FourCars$Term" yTof yX11_of (ws_ yX11_of cX11_of 4 (some .int)))) (hX12 : GoodIn lw_all (va_wsU y.cls i RX12 "FourCars$Term" yTof yX12_of (ws_ yX12_of cX12_of 2 (some .int)))) (hof : ofC g l M S U d2 r v) (hdd : d2 + 1 ≤ d) (hrest : (st.map fun v => v.category).sum ≤ 8) (kk : fc_X g l y cc nL ret d n0 s0 (cl M S U) (pc + 3) L (.int v :: st) Q) : fc_X g l y cc nL ret d n0 s0 (cl M S U) pc L (.ref (fc_B g + 31) :: .ref (fc_B g + r) :: st) Q := by
  obtain ⟨hr, h⟩ := hof
  rcases h with ⟨hs, hC⟩ | ⟨hs, hC⟩ | ⟨hs, hC⟩ | ⟨hs, hC⟩
  · obtain ⟨o2, M2, ⟨ho, hM2⟩, hC2⟩ := hC
    subst hM2
    exact fc_callA (T := TX9) (N := 1) (As := [.ref (fc_B g + 31)]) 8 hd hX9 q908 kPT rfl hr hs hdd (by decide) hrest rfl hC2 ho kk
  · obtain ⟨o2, M2, ⟨ho, hM2⟩, hC2⟩ := hC
    subst hM2
    exact fc_callA (T := TX10) (N := 1) (As := [.ref (fc_B g + 31)]) 9 hd hX10 q908 kPT rfl hr hs hdd (by decide) hrest rfl hC2 ho kk
  · obtain ⟨o2, M2, ⟨ho, hM2⟩, hC2⟩ := hC
    subst hM2
    exact fc_callA (T := TX11) (N := 3) (As := [.ref (fc_B g + 31)]) 10 hd hX11 q908 kPT rfl hr hs hdd (by decide) hrest rfl hC2 ho kk
  · obtain ⟨o2, M2, ⟨ho, hM2⟩, hC2⟩ := hC
    subst hM2
    exact fc_callA (T := TX12) (N := 1) (As := [.ref (fc_B g + 31)]) 11 hd hX12 q908 kPT rfl hr hs hdd (by decide) hrest rfl hC2 ho kk
theorem q_geti {y : MethodName} {cc : ByteArray} {nL : Nat} {ret : Option FieldType} {d n0 s0 : Nat} {M : fc_M} {pc : Nat} {L : List (Option Value)} {st : List Value} {Q : Outcome → fc_M → Prop} {S : tT} {U : tU} {i a : Nat} {C : String} {T : u_T} {N : Nat} {x : Int32} (ci k : Nat) (hd : decode cc pc = .ok (.getfield i, 3)) (hc : fcCl[ci]? = some (C, T, N)) (hk : k < N) (hq : Cond.fieldLink y.cls i (T k).1 (T k).2.1 (T k).2.2.1 ∈ lw_all) (ha : a < fc_nx M) (hs : fc_sh M a = .inl ci) (h1 : kdO (.inl ci) k = 1) (hx : S a k = x) (kk : fc_X g l y cc nL ret d n0 s0 (cl M S U) (pc + 3) L (.int x :: st) Q) : fc_X g l y cc nL ret d n0 s0 (cl M S U) pc L (.ref (fc_B g + a) :: st) Q :=
  x_getf ci k hd hc hk hq ha hs ((cl_i (by rw [hs]; exact h1)).trans (congrArg Value.int hx)) kk
theorem q_getr {y : MethodName} {cc : ByteArray} {nL : Nat} {ret : Option FieldType} {d n0 s0 : Nat} {M : fc_M} {pc : Nat} {L : List (Option Value)} {st : List Value} {Q : Outcome → fc_M → Prop} {S : tT} {U : tU} {i a : Nat} {C : String} {T : u_T} {N : Nat} {x : Value} (ci k : Nat) (hd : decode cc pc = .ok (.getfield i, 3)) (hc : fcCl[ci]? = some (C, T, N)) (hk : k < N) (hq : Cond.fieldLink y.cls i (T k).1 (T k).2.1 (T k).2.2.1 ∈ lw_all) (ha : a < fc_nx M) (hs : fc_sh M a = .inl ci) (h1 : kdO (.inl ci) k = 0) (hx : fc_ct M a k = x) (kk : fc_X g l y cc nL ret d n0 s0 (cl M S U) (pc + 3) L (x :: st) Q) : fc_X g l y cc nL ret d n0 s0 (cl M S U) pc L (.ref (fc_B g + a) :: st) Q :=
  x_getf ci k hd hc hk hq ha hs ((cl_r (by rw [hs]; exact h1)).trans hx) kk
theorem q_iald {y : MethodName} {cc : ByteArray} {nL : Nat} {ret : Option FieldType} {d n0 s0 : Nat} {M : fc_M} {pc : Nat} {L : List (Option Value)} {st : List Value} {Q : Outcome → fc_M → Prop} {S : tT} {U : tU} {a n i : Nat} (hd : decode cc pc = .ok (.iaload, 1)) (ha : a < fc_nx M) (hs : fc_sh M a = .inr (.int, n)) (hn : n < 2 ^ 31) (hi : i < n) (kk : fc_X g l y cc nL ret d n0 s0 (cl M S U) (pc + 1) L (.int (S a i) :: st) Q) : fc_X g l y cc nL ret d n0 s0 (cl M S U) pc L (.int (nI i) :: .ref (fc_B g + a) :: st) Q :=
  x_iald hd ha hs hn hi (cl_i (by rw [hs]; rfl)) kk
/-- steps on a pile -/
def stE (fx : Nat → Int32) (q : Int32 × Int32) (st : List Int32) : List Int32 :=
  if q.1.toNatClampNeg = 0 then q.2 :: st else if q.1.toNatClampNeg < 11 then fx q.1.toNatClampNeg :: st else match st with
  | [] => []
  | b :: r => if q.1.toNatClampNeg = 16 then (b / q.2) :: r else if q.1.toNatClampNeg = 20 then (nI 1 - b) :: r else match r with
    | [] => []
    | a :: r2 => bothN q.1.toNatClampNeg a b :: r2
def lev (fx : Nat → Int32) : tLs → List Int32 → List Int32
  | [], st => st
  | q :: ps, st => lev fx ps (stE fx q st)
theorem lev_app {fx : Nat → Int32} : ∀ (a b : tLs) (st : List Int32), lev fx (a ++ b) st = lev fx b (lev fx a st) := by
  intro a
  induction a with
  | nil => intro b st; rfl
  | cons q a ih => intro b st; exact ih b (stE fx q st)
def sgH (s : Nat) : Nat := if s = 43 then 13 else if s = 45 then 14 else if s = 42 then 15 else if s = 60 then 17 else if s = 61 then 18 else if s = 62 then 19 else if s = 38 then 21 else 22
def isSn (s : Nat) : Prop := s = 43 ∨ s = 45 ∨ s = 42 ∨ s = 60 ∨ s = 61 ∨ s = 62 ∨ s = 38 ∨ s = 124
def tmI (g : fc_G) (M : fc_M) (S : tT) : Nat → Nat → tLs → Prop
  | 0, _, _ => False
  | k + 1, r, ps => r < fc_nx M ∧ ((fc_sh M r = .inl 8 ∧ ps = [(nI 0, S r 0)])
    ∨ (fc_sh M r = .inl 9 ∧ ∃ j v, j < 10 ∧ S r 0 = nI j ∧ ps = [(nI (j + 1), v)])
    ∨ (fc_sh M r = .inl 11 ∧ ∃ a pa, fc_ct M r 0 = .ref (fc_B g + a) ∧ tmI g M S k a pa ∧ ps = pa ++ [(nI 20, nI 0)])
    ∨ (fc_sh M r = .inl 10 ∧ ∃ a pa b pb s, fc_ct M r 1 = .ref (fc_B g + a) ∧ fc_ct M r 2 = .ref (fc_B g + b) ∧ S r 0 = nI s ∧ tmI g M S k a pa ∧ tmI g M S k b pb ∧ ((s = 47 ∧ ∃ v, ¬ v = 0 ∧ pb = [(nI 0, v)] ∧ ps = pa ++ [(nI 16, v)]) ∨ (isSn s ∧ ps = pa ++ pb ++ [(nI (sgH s), nI 0)]))))
def hasF (S : tT) : Nat → Int32 := fun s => S 31 (s - 1)
theorem d_ofNumber {M : fc_M} {S : tT} {U : tU} {r : Nat} {d : Nat} (hr : r < fc_nx M) (hs : fc_sh M r = .inl 8) : fc_CX g l yX9_of cX9_of 2 (some .int)  d [.ref (fc_B g + r), .ref (fc_B g + 31)] (cl M S U) (fc_re (S r 0) (cl M S U)) := by
  refine fc_enter (by decide) (Nat.le_of_ble_eq_true rfl) rfl ?_
  refine x_aload_n dX9_of_0 rfl ?_
  refine q_geti 8 0 dX9_of_1 (C := RX9) (T := TX9) (N := 1) rfl (by decide) q746 hr hs rfl rfl ?_
  exact x_iret dX9_of_4 rfl rfl fc_re.of
theorem d_ofWord {M : fc_M} {S : tT} {U : tU} {r : Nat} {d : Nat} (hF : LF g M) (hr : r < fc_nx M) (hs : fc_sh M r = .inl 9) {j : Nat} (hj : j < 10) (hv : S r 0 = nI j) : fc_CX g l yX10_of cX10_of 2 (some .int)  d [.ref (fc_B g + r), .ref (fc_B g + 31)] (cl M S U) (fc_re (S 31 j) (cl M S U)) := by
  refine fc_enter (by decide) (Nat.le_of_ble_eq_true rfl) rfl ?_
  refine x_aload_n dX10_of_0 rfl ?_
  refine x_aload_n dX10_of_1 rfl ?_
  refine q_geti 9 0 dX10_of_2 (C := RX10) (T := TX10) (N := 1) rfl (by decide) q756 hr hs rfl hv ?_
  refine q_iald dX10_of_5 (show 31 < fc_nx M by have := hF.1; omega) (hF.2.2 31 _ rfl) (by decide) hj ?_
  exact x_iret dX10_of_6 rfl rfl fc_re.of
theorem d_ofNot {M : fc_M} {S : tT} {U : tU} {r : Nat} {a d : Nat} {v : Int32} (hr : r < fc_nx M) (hs : fc_sh M r = .inl 11) (ha : fc_ct M r 0 = .ref (fc_B g + a)) (h : ofC g l M S U d a v) : fc_CX g l yX12_of cX12_of 2 (some .int)  (d + 1) [.ref (fc_B g + r), .ref (fc_B g + 31)] (cl M S U) (fc_re (nI 1 - v) (cl M S U)) := by
  refine fc_enter (by decide) (Nat.le_of_ble_eq_true rfl) rfl ?_
  refine x_ic1 dX12_of_0 ?_
  refine x_aload_n dX12_of_1 rfl ?_
  refine q_getr 11 0 dX12_of_2 (C := RX12) (T := TX12) (N := 1) rfl (by decide) q806 hr hs rfl ha ?_
  refine x_aload_n dX12_of_5 rfl ?_
  refine x_of dX12_of_6 kA_X12_X9 kA_X12_X10 kA_X12_X11 kA_X12_X12 h (by omega) (Nat.le_of_ble_eq_true rfl) ?_
  refine x_isub dX12_of_9 ?_
  exact x_iret dX12_of_10 rfl rfl fc_re.of
theorem d_ofPart {M : fc_M} {S : tT} {U : tU} {r : Nat} {a b d : Nat} {v1 v2 : Int32} (hr : r < fc_nx M) (hs : fc_sh M r = .inl 10) (ha : fc_ct M r 1 = .ref (fc_B g + a)) (hb : fc_ct M r 2 = .ref (fc_B g + b)) (h1 : ofC g l M S U d a v1) (h2 : ofC g l M S U d b v2) (hsg : S r 0 = nI 47) (hne : ¬ v2 = 0) : fc_CX g l yX11_of cX11_of 4 (some .int)  (d + 1) [.ref (fc_B g + r), .ref (fc_B g + 31)] (cl M S U) (fc_re (v1 / v2) (cl M S U)) := by
  refine fc_enter (by decide) (Nat.le_of_ble_eq_true rfl) rfl ?_
  refine x_aload_n dX11_of_0 rfl ?_
  refine q_getr 10 1 dX11_of_1 (C := RX11) (T := TX11) (N := 3) rfl (by decide) q771 hr hs rfl ha ?_
  refine x_aload_n dX11_of_4 rfl ?_
  refine x_of dX11_of_5 kA_X11_X9 kA_X11_X10 kA_X11_X11 kA_X11_X12 h1 (by omega) (Nat.le_of_ble_eq_true rfl) ?_
  refine x_istore_n dX11_of_8 (by decide) rfl ?_
  refine x_aload_n dX11_of_9 rfl ?_
  refine q_getr 10 2 dX11_of_10 (C := RX11) (T := TX11) (N := 3) rfl (by decide) q772 hr hs rfl hb ?_
  refine x_aload_n dX11_of_13 rfl ?_
  refine x_of dX11_of_14 kA_X11_X9 kA_X11_X10 kA_X11_X11 kA_X11_X12 h2 (by omega) (Nat.le_of_ble_eq_true rfl) ?_
  refine x_istore_n dX11_of_17 (by decide) rfl ?_
  refine x_aload_n dX11_of_18 rfl ?_
  refine q_geti 10 0 dX11_of_19 (C := RX11) (T := TX11) (N := 3) rfl (by decide) q770 hr hs rfl hsg ?_
  refine x_swIn (off := 126) (tgt := 148) dX11_of_22 (by decide) (by decide) rfl (by decide) ?_
  refine x_iload_n dX11_of_148 rfl ?_
  refine x_iload_n dX11_of_149 rfl ?_
  refine x_idiv dX11_of_150 hne ?_
  exact x_iret dX11_of_151 rfl rfl fc_re.of
set_option maxHeartbeats 1000000 in
theorem d_ofTwo {M : fc_M} {S : tT} {U : tU} {r : Nat} {a b d : Nat} {v1 v2 : Int32} (hr : r < fc_nx M) (hs : fc_sh M r = .inl 10) (ha : fc_ct M r 1 = .ref (fc_B g + a)) (hb : fc_ct M r 2 = .ref (fc_B g + b)) (h1 : ofC g l M S U d a v1) (h2 : ofC g l M S U d b v2) {s : Nat} (hsg : S r 0 = nI s) (hsn : isSn s) : fc_CX g l yX11_of cX11_of 4 (some .int)  (d + 1) [.ref (fc_B g + r), .ref (fc_B g + 31)] (cl M S U) (fc_re (bothN (sgH s) v1 v2) (cl M S U)) := by
  refine fc_enter (by decide) (Nat.le_of_ble_eq_true rfl) rfl ?_
  refine x_aload_n dX11_of_0 rfl ?_
  refine q_getr 10 1 dX11_of_1 (C := RX11) (T := TX11) (N := 3) rfl (by decide) q771 hr hs rfl ha ?_
  refine x_aload_n dX11_of_4 rfl ?_
  refine x_of dX11_of_5 kA_X11_X9 kA_X11_X10 kA_X11_X11 kA_X11_X12 h1 (by omega) (Nat.le_of_ble_eq_true rfl) ?_
  refine x_istore_n dX11_of_8 (by decide) rfl ?_
  refine x_aload_n dX11_of_9 rfl ?_
  refine q_getr 10 2 dX11_of_10 (C := RX11) (T := TX11) (N := 3) rfl (by decide) q772 hr hs rfl hb ?_
  refine x_aload_n dX11_of_13 rfl ?_
  refine x_of dX11_of_14 kA_X11_X9 kA_X11_X10 kA_X11_X11 kA_X11_X12 h2 (by omega) (Nat.le_of_ble_eq_true rfl) ?_
  refine x_istore_n dX11_of_17 (by decide) rfl ?_
  refine x_aload_n dX11_of_18 rfl ?_
  refine q_geti 10 0 dX11_of_19 (C := RX11) (T := TX11) (N := 3) rfl (by decide) q770 hr hs rfl hsg ?_
  rcases hsn with e | e | e | e | e | e | e | e
  · subst e
    refine x_swIn (off := 114) (tgt := 136) dX11_of_22 (by decide) (by decide) rfl (by decide) ?_
    refine x_iload_n dX11_of_136 rfl ?_
    refine x_iload_n dX11_of_137 rfl ?_
    refine x_iadd dX11_of_138 ?_
    exact x_iret dX11_of_139 rfl rfl fc_re.of
  · subst e
    refine x_swIn (off := 118) (tgt := 140) dX11_of_22 (by decide) (by decide) rfl (by decide) ?_
    refine x_iload_n dX11_of_140 rfl ?_
    refine x_iload_n dX11_of_141 rfl ?_
    refine x_isub dX11_of_142 ?_
    exact x_iret dX11_of_143 rfl rfl fc_re.of
  · subst e
    refine x_swIn (off := 122) (tgt := 144) dX11_of_22 (by decide) (by decide) rfl (by decide) ?_
    refine x_iload_n dX11_of_144 rfl ?_
    refine x_iload_n dX11_of_145 rfl ?_
    refine x_imul dX11_of_146 ?_
    exact x_iret dX11_of_147 rfl rfl fc_re.of
  · subst e
    refine x_swIn (off := 130) (tgt := 152) dX11_of_22 (by decide) (by decide) rfl (by decide) ?_
    refine x_iload_n dX11_of_152 rfl ?_
    refine x_iload_n dX11_of_153 rfl ?_
    refine x_icmp_ge (tgt := 161) dX11_of_154 (by decide) (fun hc => ?_) (fun hc => ?_)
    · refine x_ic0 dX11_of_161 ?_
      exact x_iret dX11_of_162 rfl rfl (fc_re.of2 (show nI 0 = (if v1 < v2 then nI 1 else nI 0) from (if_neg (Int32.not_lt.mpr hc)).symm) rfl)
    · refine x_ic1 dX11_of_157 ?_
      refine x_goto (tgt := 162) dX11_of_158 (by decide) ?_
      exact x_iret dX11_of_162 rfl rfl (fc_re.of2 (show nI 1 = (if v1 < v2 then nI 1 else nI 0) from (if_pos (Int32.not_le.mp hc)).symm) rfl)
  · subst e
    refine x_swIn (off := 141) (tgt := 163) dX11_of_22 (by decide) (by decide) rfl (by decide) ?_
    refine x_iload_n dX11_of_163 rfl ?_
    refine x_iload_n dX11_of_164 rfl ?_
    refine x_icmp_ne (tgt := 172) dX11_of_165 (by decide) (fun hc => ?_) (fun hc => ?_)
    · refine x_ic0 dX11_of_172 ?_
      exact x_iret dX11_of_173 rfl rfl (fc_re.of2 (show nI 0 = (if v1 = v2 then nI 1 else nI 0) from (if_neg hc).symm) rfl)
    · refine x_ic1 dX11_of_168 ?_
      refine x_goto (tgt := 173) dX11_of_169 (by decide) ?_
      exact x_iret dX11_of_173 rfl rfl (fc_re.of2 (show nI 1 = (if v1 = v2 then nI 1 else nI 0) from (if_pos hc).symm) rfl)
  · subst e
    refine x_swIn (off := 152) (tgt := 174) dX11_of_22 (by decide) (by decide) rfl (by decide) ?_
    refine x_iload_n dX11_of_174 rfl ?_
    refine x_iload_n dX11_of_175 rfl ?_
    refine x_icmp_le (tgt := 183) dX11_of_176 (by decide) (fun hc => ?_) (fun hc => ?_)
    · refine x_ic0 dX11_of_183 ?_
      exact x_iret dX11_of_184 rfl rfl (fc_re.of2 (show nI 0 = (if v2 < v1 then nI 1 else nI 0) from (if_neg (Int32.not_lt.mpr hc)).symm) rfl)
    · refine x_ic1 dX11_of_179 ?_
      refine x_goto (tgt := 184) dX11_of_180 (by decide) ?_
      exact x_iret dX11_of_184 rfl rfl (fc_re.of2 (show nI 1 = (if v2 < v1 then nI 1 else nI 0) from (if_pos (Int32.not_le.mp hc)).symm) rfl)
  · subst e
    refine x_swIn (off := 163) (tgt := 185) dX11_of_22 (by decide) (by decide) rfl (by decide) ?_
    refine x_iload_n dX11_of_185 rfl ?_
    refine x_iload_n dX11_of_186 rfl ?_
    refine x_iand dX11_of_187 ?_
    exact x_iret dX11_of_188 rfl rfl fc_re.of
  · subst e
    refine x_swOut (tgt := 189) dX11_of_22 (by decide) (by decide) ?_
    refine x_iload_n dX11_of_189 rfl ?_
    refine x_iload_n dX11_of_190 rfl ?_
    refine x_ior dX11_of_191 ?_
    exact x_iret dX11_of_192 rfl rfl fc_re.of
end T99B
