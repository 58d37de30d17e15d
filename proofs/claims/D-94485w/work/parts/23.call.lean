set_option maxRecDepth 100000
def fc_ri (P : Int32 → fc_M → Prop) : Outcome → fc_M → Prop := fun o M => ∃ r : Int32, o = .returned (some (.int r)) ∧ P r M
def fc_rv (P : fc_M → Prop) : Outcome → fc_M → Prop := fun o M => o = .returned none ∧ P M
def fc_rr (P : Value → fc_M → Prop) : Outcome → fc_M → Prop := fun o M => ∃ v : Value, o = .returned (some v) ∧ P v M
section FCC
variable {g : fc_G} {l : Launch} {y : MethodName} {cc : ByteArray} {nL : Nat} {ret : Option FieldType} {d n0 s0 : Nat} {M : fc_M} {pc : Nat} {L : List (Option Value)} {st : List Value} {Q : Outcome → fc_M → Prop}
/-- from the kit's ends -/
theorem fc_ofMQ {p : Program} {e : Env} {R : Room} {s : State} {m : MethodId} {args : Array Value} {below : List Frame} {meth : Method} {c : Code} {H : Heap} {locs : List Loc} {cells slots mc ms : Nat} {Qc : Array Value → State → Outcome → State → Prop} {free : Addr → Prop} {gf : JFrame} (h : W p l e R s m args below meth c H locs cells slots (MQ below Qc args s mc ms free) gf) : W p l e R s m args below meth c H locs cells slots (fc_MQ below Qc args s mc ms free) gf := fun T hT X => by
  obtain ⟨t, a, o, b1, b2, b3, L, b4, b5⟩ := h T hT X
  exact ⟨t, a, o, b1, b2, b3, L, b4.2, b5⟩
theorem x_iret {v : Int32} {ty : FieldType} (hd : decode cc pc = .ok (.ireturn, 1)) (hr : ret = some ty) (hn : narrow ty (.int v) = .int v) (hQ : Q (.returned (some (.int v))) M) : fc_X g l y cc nL ret d n0 s0 M pc L [.int v] Q := by
  refine ⟨_, M, hQ, ⟨Nat.le_refl _, Nat.le_refl _⟩, fun R p e s m args below meth c H ls locs hSt h1 h2 hR hS hL => ?_⟩
  have hlocks : meth.locks = false := hSt.2.2.2.2.2.1
  exact fc_ofMQ (W.zret hSt.1 hSt.2.1 (hSt.2.2.2.2.1.trans hr) hn (fun t ht _ => ⟨rfl, by rw [ht]; exact hR, hS.F ht⟩) hS.2.2 hd)
theorem x_vret (hd : decode cc pc = .ok (.return_, 1)) (hr : ret = none) (hQ : Q (.returned none) M) : fc_X g l y cc nL ret d n0 s0 M pc L [] Q := by
  refine ⟨_, M, hQ, ⟨Nat.le_refl _, Nat.le_refl _⟩, fun R p e s m args below meth c H ls locs hSt h1 h2 hR hS hL => ?_⟩
  have hlocks : meth.locks = false := hSt.2.2.2.2.2.1
  exact fc_ofMQ (W.vret hSt.1 hSt.2.1 (hSt.2.2.2.2.1.trans hr) (fun t ht _ => ⟨rfl, by rw [ht]; exact hR, hS.F ht⟩) hS.2.2 hd)
theorem x_aret {v : Value} {rt : FieldType} (hd : decode cc pc = .ok (.areturn, 1)) (hr : ret = some rt) (hrt : (∃ n, rt = .object n) ∨ ∃ t, rt = .array t) (hv : v = .null ∨ ∃ a, v = .ref a) (hQ : Q (.returned (some v)) M) : fc_X g l y cc nL ret d n0 s0 M pc L [v] Q := by
  refine ⟨_, M, hQ, ⟨Nat.le_refl _, Nat.le_refl _⟩, fun R p e s m args below meth c H ls locs hSt h1 h2 hR hS hL => ?_⟩
  have hlocks : meth.locks = false := hSt.2.2.2.2.2.1
  exact fc_ofMQ (W.aret hSt.1 hSt.2.1 (hSt.2.2.2.2.1.trans hr) hrt hv (fun t ht _ => ⟨rfl, by rw [ht]; exact hR, hS.F ht⟩) hS.2.2 hd)
theorem x_lret {v : Int64} (hd : decode cc pc = .ok (.lreturn, 1)) (hr : ret = some .long) (hQ : Q (.returned (some (.long v))) M) : fc_X g l y cc nL ret d n0 s0 M pc L [.long v] Q := by
  refine ⟨_, M, hQ, ⟨Nat.le_refl _, Nat.le_refl _⟩, fun R p e s m args below meth c H ls locs hSt h1 h2 hR hS hL => ?_⟩
  have hlocks : meth.locks = false := hSt.2.2.2.2.2.1
  exact fc_ofMQ (W.lret hSt.1 hSt.2.1 (hSt.2.2.2.2.1.trans hr) (fun t ht _ => ⟨rfl, by rw [ht]; exact hR, hS.F ht⟩) hS.2.2 hd)
/-- behind a call that returned -/
theorem fc_callG {M2 : fc_M} {v : Option Value} {o2 : Outcome} {st0 rest : List Value} {a : Array Value} (ho : o2 = .returned v) (hb2 : fc_nx M ≤ fc_nx M2 ∧ fc_sl M ≤ fc_sl M2)
    (hr : ∀ (R : Room) (p : Program) (e : Env) (s : State) (m : MethodId) (args : Array Value) (below : List Frame) (meth : Method) (c : Code) (H : Heap) (ls : Array Slot) (locs : List Loc) (Mf : fc_M), fc_St g y cc nL ret d n0 s0 Mf R p s m args meth c → n0 ≤ fc_nx M → s0 ≤ fc_sl M → fc_R g M H → va_S (fc_A g) s.heap H locs → fc_L nL L ls → fc_nx M2 ≤ fc_nx Mf → fc_sl M2 ≤ fc_sl Mf →
      va_Run p l e R s m args below meth c H locs (fc_nx M - n0) (fc_sl M - s0) (fc_nx M2 - fc_nx M) (fc_sl M2 - fc_sl M) (F0 m pc ls st0) rest (fc_Qc g o2 M2 a) (fc_A g))
    (kk : fc_X g l y cc nL ret d n0 s0 M2 (pc + 3) L (v.toList ++ rest) Q) : fc_X g l y cc nL ret d n0 s0 M pc L st0 Q := by
  obtain ⟨o, Mf, hQ, hb0, hE⟩ := kk
  refine ⟨o, Mf, hQ, ⟨Nat.le_trans hb2.1 hb0.1, Nat.le_trans hb2.2 hb0.2⟩, fun R p e s m args below meth c H ls locs hSt h1 h2 hR hS hL => ?_⟩
  intro T hT X0
  obtain ⟨v', st₀, t, T', L', k0, X', hL', e1, e2, ⟨hv, hR2, hz, hk⟩, stp⟩ := hr R p e s m args below meth c H ls locs Mf hSt h1 h2 hR hS hL hb0.1 hb0.2 T hT X0
  rw [ho] at hv
  cases hv
  rw [k0] at hz hk
  have hn1 : fc_nx M - n0 + (fc_nx M2 - fc_nx M) = fc_nx M2 - n0 := by have := hb2.1; omega
  have hn2 : fc_sl M - s0 + (fc_sl M2 - fc_sl M) = fc_sl M2 - s0 := by have := hb2.2; omega
  rw [hn1, hn2] at X'
  have hS' : va_S (fc_A g) s.heap T'.heap (locs ++ L') := ⟨Nat.le_trans hS.1 (by rw [e1]; exact hz), fun q q1 q2 => by rw [e1, hk q (Nat.lt_of_lt_of_le q1 hS.1) q2]; exact hS.2.1 q q1 q2, fun q hq => by
      rcases List.mem_append.mp hq with h | h
      · exact hS.2.2 q h
      · exact hL' q h⟩
  obtain ⟨t2, a1, b1⟩ := hE R p e s m args below meth c T'.heap ls (locs ++ L') hSt (Nat.le_trans h1 hb2.1) (Nat.le_trans h2 hb2.2) (by rw [e1]; exact hR2) hS' hL T' rfl X'
  exact ⟨t2, stp t2 a1, b1⟩
theorem fc_blind {av : List Value} : FrameBlind (va_Pc av (fun U => fc_R g M U.heap ∧ fc_Env g U)) := fun a U gf mk q => ⟨q.1, q.2.1, q.2.2.same rfl⟩
/-- invokevirtual of a method that the receiver's class has itself -/
theorem fc_callV {y2 : MethodName} {c2 : ByteArray} {n2 d2 b i : Nat} {r2 : Option FieldType} {As rest st0 : List Value} {T : u_T} {N : Nat} {M2 : fc_M} {o2 : Outcome} {v : Option Value} (ci : Nat) (hd : decode cc pc = .ok (.invokevirtual i, 3)) (hG : GoodIn lw_all (wsV y.cls i y2.cls y2 (ws_ y2 c2 n2 r2))) (hpar : y2.cls = y2.cls ∧ y2.cls ≠ "java/lang/invoke/MethodHandle" ∧ y2.cls ≠ "java/lang/invoke/VarHandle" ∧ (parseMethodDescriptor y2.desc).map (fun d => d.parameters.length) = some As.length) (hcl : fcCl[ci]? = some (y2.cls, T, N)) (hb : b < fc_nx M) (hs : fc_sh M b = .inl ci) (hdd : d2 + 1 ≤ d) (hn2 : n2 ≤ 45) (hrest : (rest.map fun v => v.category).sum ≤ 8) (hst : st0 = As.reverse ++ .ref (fc_B g + b) :: rest)
    (hC : fc_C g l y2 c2 n2 r2 d2 (.ref (fc_B g + b) :: As) M o2 M2) (ho : o2 = .returned v)
    (kk : fc_X g l y cc nL ret d n0 s0 M2 (pc + 3) L (v.toList ++ rest) Q) : fc_X g l y cc nL ret d n0 s0 M pc L st0 Q := by
  subst hst
  refine fc_callG (a := (Value.ref (fc_B g + b) :: As).toArray) ho hC.1 (fun R p e s m args below meth c H ls locs Mf hSt h1 h2 hR hS hL m1 m2 => ?_) kk
  have h4 := hR.2.2 b hb
  rw [hs] at h4
  obtain ⟨r, h1', cell, q1, q2, q3, q4⟩ := h4
  have hr : r = (y2.cls, T, N) := Option.some.inj (h1'.symm.trans hcl)
  subst hr
  obtain ⟨hx, hb', hml, hown, hrt, hlk, hts, hnm, henv, hrm, -⟩ := id hSt
  have hfc := (henv.1.1 ci _ hcl).2.1
  exact va_runV (Ts := lw_all) ⟨hx, hb', hml, hown, hts⟩ (fc_Cw_met hC ho) (cwV As.length hts hG rfl rfl rfl hpar ⟨Nat.le_trans hdd hrm.1, by show 8 + (n2 + 11) + 64 * d2 ≤ R.locals; omega⟩) ⟨fc_blind, ⟨cell, q1, by rw [q3]; rfl, by rw [q2]; exact hfc⟩, fun U hU hW => ⟨rfl, by rw [hU]; exact hR, henv.warm hW⟩⟩ rfl rfl hL.1 rfl (lv_room hrest) hd ⟨by have := hrm.2.2.1; have := hC.1.1; omega, by have := hrm.2.2.2; have := hC.1.2; omega⟩
/-- a static call -/
theorem fc_callS {y2 : MethodName} {c2 : ByteArray} {n2 d2 i : Nat} {r2 : Option FieldType} {As rest st0 : List Value} {M2 : fc_M} {o2 : Outcome} {v : Option Value} (hd : decode cc pc = .ok (.invokestatic i, 3)) (hG : GoodIn lw_all (va_wsS y.cls i y2 (ws_ y2 c2 n2 r2))) (hpar : y2.cls ≠ "java/lang/invoke/MethodHandle" ∧ y2.cls ≠ "java/lang/invoke/VarHandle" ∧ (parseMethodDescriptor y2.desc).map (fun d => d.parameters.length) = some As.length) (hdd : d2 + 1 ≤ d) (hn2 : n2 ≤ 45) (hrest : (rest.map fun v => v.category).sum ≤ 8) (hst : st0 = As.reverse ++ rest)
    (hC : fc_C g l y2 c2 n2 r2 d2 As M o2 M2) (ho : o2 = .returned v)
    (kk : fc_X g l y cc nL ret d n0 s0 M2 (pc + 3) L (v.toList ++ rest) Q) : fc_X g l y cc nL ret d n0 s0 M pc L st0 Q := by
  subst hst
  refine fc_callG (a := As.toArray) ho hC.1 (fun R p e s m args below meth c H ls locs Mf hSt h1 h2 hR hS hL m1 m2 => ?_) kk
  obtain ⟨hx, hb', hml, hown, hrt, hlk, hts, hnm, henv, hrm, -⟩ := id hSt
  exact va_runS (Ts := lw_all) ⟨hx, hb', hml, hown, hts⟩ (fc_Cw_met hC ho) (va_cwS As.length hts hG rfl rfl rfl hpar ⟨Nat.le_trans hdd hrm.1, by show 8 + (n2 + 11) + 64 * d2 ≤ R.locals; omega⟩) ⟨fc_blind, fun U hU hW => ⟨rfl, by rw [hU]; exact hR, henv.warm hW⟩⟩ rfl rfl hL.1 rfl (lv_room hrest) hd ⟨by have := hrm.2.2.1; have := hC.1.1; omega, by have := hrm.2.2.2; have := hC.1.2; omega⟩
theorem fc_slots : ∀ (av : List Value), av.all (fun v => v.category == 1) = true → lg_sl av = av.map Slot.val
  | [], _ => rfl
  | v :: vs, h => by
    simp only [List.all_cons, Bool.and_eq_true, beq_iff_eq] at h
    have h2 : ¬ v.category = 2 := by omega
    have ih := fc_slots vs h.2
    simp only [lg_sl, List.flatMap_cons, if_neg h2, List.map_cons] at ih ⊢
    rw [ih]
    rfl
/-- into a method -/
theorem fc_enter {av : List Value} (hy : plainName y.cls = true) (hlen : av.length ≤ nL) (hcat : av.all (fun v => v.category == 1) = true) (h : fc_X g l y cc nL ret d (fc_nx M) (fc_sl M) M 0 (av.map some ++ List.replicate (nL - av.length) none) [] Q) : fc_CX g l y cc nL ret d av M Q := by
  obtain ⟨o, Mf, hQ, hb, hE⟩ := h
  refine ⟨o, Mf, hQ, hb, ?_⟩
  refine MetFree.of_bodyS (code := cc) (maxLocals := nL) (ret := ret) hy (fun args s m h hn => ?_) ?_
  · obtain ⟨meth, c, h1, h2, h3, h4, h5, h6, -, -⟩ := Cond.code_spec hn (atoms_spec (ws := ws_ y cc nL ret) h _ List.mem_cons_self)
    exact ⟨meth, c, h1, h2, h3, h4, h5, h6⟩
  refine fun p e s m args below meth c s₁ B hml hv _ => ?_
  have hh0 : s₁.heap = s.heap := by rw [B.state]; rfl
  suffices hW : W p l e (headSpec (ws_ y cc nL ret) ({ frames := d, cells := fc_nx Mf - fc_nx M, slots := fc_sl Mf - fc_sl M, locals := 64 * d })).room s m args below meth c s.heap [] 0 0 (fc_MQ below (fc_Qc g o Mf) args s (fc_nx Mf - fc_nx M) (fc_sl Mf - fc_sl M) (fc_A g)) (entryFrame m args nL) by
    obtain ⟨t, a1, o', b1, b2, b3⟩ := hW s₁ hh0 (Stand.of_body B)
    exact ⟨t, o', a1, b1, b2, ⟨b3.1, b3.2⟩⟩
  obtain ⟨rfl, hR, henv⟩ := hv
  have hts := atoms_spec (ws := ws_ y cc nL ret) B.pre
  have hts : ∀ w ∈ lw_all, w.before _ s = true := fun w h => hts w (List.mem_cons_of_mem _ h)
  have hsl : lg_sl av = av.map Slot.val := fc_slots av hcat
  have hwf := lv_entry av (n := nL) (by rw [hsl]; simpa using hlen)
  rw [lg_entry_eq]
  generalize hls : (lg_sl av ++ List.replicate (nL - (lg_sl av).length) Slot.unset).toArray = ls at hwf ⊢
  have k := hE (headSpec (ws_ y cc nL ret) ({ frames := d, cells := fc_nx Mf - fc_nx M, slots := fc_sl Mf - fc_sl M, locals := 64 * d })).room p e s m av.toArray below meth c s.heap ls [] ⟨B.exec, B.bytes, hml, findClass_of_methodNamed B.named, B.returns, B.notSynchronized, hts, (name_of_methodNamed B.named B.method).1, henv, ⟨Nat.le_refl _, Nat.le_refl _, Nat.le_refl _, Nat.le_refl _⟩, hR.1, hR.2.1, B.named⟩ (Nat.le_refl _) (Nat.le_refl _) hR va_S.rf ⟨hwf.1, hwf.2.1, fun i v hi => ?_⟩
  · rw [Nat.sub_self, Nat.sub_self] at k
    exact k
  · rw [← hls, hsl]
    rcases Nat.lt_or_ge i av.length with q | q
    · rw [List.getElem?_append_left (by simpa using q), List.getElem?_map] at hi
      have : av[i]? = some v := by
        cases ha : av[i]? with
        | none => rw [ha] at hi; simp at hi
        | some w => rw [ha] at hi; simp at hi; rw [hi]
      rw [List.getElem?_toArray, List.getElem?_append_left (by simpa using q), List.getElem?_map, this]
      rfl
    · rw [List.getElem?_append_right (by simpa using q)] at hi
      have := List.mem_of_getElem? hi
      simp at this
theorem x_V0i {y2 : MethodName} {c2 : ByteArray} {n2 d2 b i N : Nat} {r2 : Option FieldType} {rest : List Value} {T : u_T} {P : Int32 → fc_M → Prop} (ci : Nat) (hd : decode cc pc = .ok (.invokevirtual i, 3)) (hG : GoodIn lw_all (wsV y.cls i y2.cls y2 (ws_ y2 c2 n2 r2))) (hpar : y2.cls = y2.cls ∧ y2.cls ≠ "java/lang/invoke/MethodHandle" ∧ y2.cls ≠ "java/lang/invoke/VarHandle" ∧ (parseMethodDescriptor y2.desc).map (fun d => d.parameters.length) = some 0) (hcl : fcCl[ci]? = some (y2.cls, T, N)) (hb : b < fc_nx M) (hs : fc_sh M b = .inl ci) (hdd : d2 + 1 ≤ d) (hn2 : n2 ≤ 45) (hrest : (rest.map fun v => v.category).sum ≤ 8) (hC : fc_CX g l y2 c2 n2 r2 d2 (.ref (fc_B g + b) :: []) M (fc_ri P))
    (kk : ∀ (r : Int32) (M2 : fc_M), P r M2 → fc_X g l y cc nL ret d n0 s0 M2 (pc + 3) L (.int r :: rest) Q) : fc_X g l y cc nL ret d n0 s0 M pc L (.ref (fc_B g + b) :: rest) Q := by
  obtain ⟨o2, M2, ⟨r, ho, hP⟩, hC2⟩ := hC
  exact fc_callV (As := []) ci hd hG hpar hcl hb hs hdd hn2 hrest rfl hC2 ho (kk r M2 hP)
theorem x_S0i {y2 : MethodName} {c2 : ByteArray} {n2 d2 i : Nat} {r2 : Option FieldType} {rest : List Value} {P : Int32 → fc_M → Prop} (hd : decode cc pc = .ok (.invokestatic i, 3)) (hG : GoodIn lw_all (va_wsS y.cls i y2 (ws_ y2 c2 n2 r2))) (hpar : y2.cls ≠ "java/lang/invoke/MethodHandle" ∧ y2.cls ≠ "java/lang/invoke/VarHandle" ∧ (parseMethodDescriptor y2.desc).map (fun d => d.parameters.length) = some 0) (hdd : d2 + 1 ≤ d) (hn2 : n2 ≤ 45) (hrest : (rest.map fun v => v.category).sum ≤ 8) (hC : fc_CX g l y2 c2 n2 r2 d2 [] M (fc_ri P))
    (kk : ∀ (r : Int32) (M2 : fc_M), P r M2 → fc_X g l y cc nL ret d n0 s0 M2 (pc + 3) L (.int r :: rest) Q) : fc_X g l y cc nL ret d n0 s0 M pc L (rest) Q := by
  obtain ⟨o2, M2, ⟨r, ho, hP⟩, hC2⟩ := hC
  exact fc_callS (As := []) hd hG hpar hdd hn2 hrest rfl hC2 ho (kk r M2 hP)
theorem x_V0v {y2 : MethodName} {c2 : ByteArray} {n2 d2 b i N : Nat} {r2 : Option FieldType} {rest : List Value} {T : u_T} {P : fc_M → Prop} (ci : Nat) (hd : decode cc pc = .ok (.invokevirtual i, 3)) (hG : GoodIn lw_all (wsV y.cls i y2.cls y2 (ws_ y2 c2 n2 r2))) (hpar : y2.cls = y2.cls ∧ y2.cls ≠ "java/lang/invoke/MethodHandle" ∧ y2.cls ≠ "java/lang/invoke/VarHandle" ∧ (parseMethodDescriptor y2.desc).map (fun d => d.parameters.length) = some 0) (hcl : fcCl[ci]? = some (y2.cls, T, N)) (hb : b < fc_nx M) (hs : fc_sh M b = .inl ci) (hdd : d2 + 1 ≤ d) (hn2 : n2 ≤ 45) (hrest : (rest.map fun v => v.category).sum ≤ 8) (hC : fc_CX g l y2 c2 n2 r2 d2 (.ref (fc_B g + b) :: []) M (fc_rv P))
    (kk : ∀ (M2 : fc_M), P M2 → fc_X g l y cc nL ret d n0 s0 M2 (pc + 3) L rest Q) : fc_X g l y cc nL ret d n0 s0 M pc L (.ref (fc_B g + b) :: rest) Q := by
  obtain ⟨o2, M2, ⟨ho, hP⟩, hC2⟩ := hC
  exact fc_callV (As := []) ci hd hG hpar hcl hb hs hdd hn2 hrest rfl hC2 ho (kk M2 hP)
theorem x_S0v {y2 : MethodName} {c2 : ByteArray} {n2 d2 i : Nat} {r2 : Option FieldType} {rest : List Value} {P : fc_M → Prop} (hd : decode cc pc = .ok (.invokestatic i, 3)) (hG : GoodIn lw_all (va_wsS y.cls i y2 (ws_ y2 c2 n2 r2))) (hpar : y2.cls ≠ "java/lang/invoke/MethodHandle" ∧ y2.cls ≠ "java/lang/invoke/VarHandle" ∧ (parseMethodDescriptor y2.desc).map (fun d => d.parameters.length) = some 0) (hdd : d2 + 1 ≤ d) (hn2 : n2 ≤ 45) (hrest : (rest.map fun v => v.category).sum ≤ 8) (hC : fc_CX g l y2 c2 n2 r2 d2 [] M (fc_rv P))
    (kk : ∀ (M2 : fc_M), P M2 → fc_X g l y cc nL ret d n0 s0 M2 (pc + 3) L rest Q) : fc_X g l y cc nL ret d n0 s0 M pc L (rest) Q := by
  obtain ⟨o2, M2, ⟨ho, hP⟩, hC2⟩ := hC
  exact fc_callS (As := []) hd hG hpar hdd hn2 hrest rfl hC2 ho (kk M2 hP)
theorem x_V0r {y2 : MethodName} {c2 : ByteArray} {n2 d2 b i N : Nat} {r2 : Option FieldType} {rest : List Value} {T : u_T} {P : Value → fc_M → Prop} (ci : Nat) (hd : decode cc pc = .ok (.invokevirtual i, 3)) (hG : GoodIn lw_all (wsV y.cls i y2.cls y2 (ws_ y2 c2 n2 r2))) (hpar : y2.cls = y2.cls ∧ y2.cls ≠ "java/lang/invoke/MethodHandle" ∧ y2.cls ≠ "java/lang/invoke/VarHandle" ∧ (parseMethodDescriptor y2.desc).map (fun d => d.parameters.length) = some 0) (hcl : fcCl[ci]? = some (y2.cls, T, N)) (hb : b < fc_nx M) (hs : fc_sh M b = .inl ci) (hdd : d2 + 1 ≤ d) (hn2 : n2 ≤ 45) (hrest : (rest.map fun v => v.category).sum ≤ 8) (hC : fc_CX g l y2 c2 n2 r2 d2 (.ref (fc_B g + b) :: []) M (fc_rr P))
    (kk : ∀ (w : Value) (M2 : fc_M), P w M2 → fc_X g l y cc nL ret d n0 s0 M2 (pc + 3) L (w :: rest) Q) : fc_X g l y cc nL ret d n0 s0 M pc L (.ref (fc_B g + b) :: rest) Q := by
  obtain ⟨o2, M2, ⟨w, ho, hP⟩, hC2⟩ := hC
  exact fc_callV (As := []) ci hd hG hpar hcl hb hs hdd hn2 hrest rfl hC2 ho (kk w M2 hP)
theorem x_S0r {y2 : MethodName} {c2 : ByteArray} {n2 d2 i : Nat} {r2 : Option FieldType} {rest : List Value} {P : Value → fc_M → Prop} (hd : decode cc pc = .ok (.invokestatic i, 3)) (hG : GoodIn lw_all (va_wsS y.cls i y2 (ws_ y2 c2 n2 r2))) (hpar : y2.cls ≠ "java/lang/invoke/MethodHandle" ∧ y2.cls ≠ "java/lang/invoke/VarHandle" ∧ (parseMethodDescriptor y2.desc).map (fun d => d.parameters.length) = some 0) (hdd : d2 + 1 ≤ d) (hn2 : n2 ≤ 45) (hrest : (rest.map fun v => v.category).sum ≤ 8) (hC : fc_CX g l y2 c2 n2 r2 d2 [] M (fc_rr P))
    (kk : ∀ (w : Value) (M2 : fc_M), P w M2 → fc_X g l y cc nL ret d n0 s0 M2 (pc + 3) L (w :: rest) Q) : fc_X g l y cc nL ret d n0 s0 M pc L (rest) Q := by
  obtain ⟨o2, M2, ⟨w, ho, hP⟩, hC2⟩ := hC
  exact fc_callS (As := []) hd hG hpar hdd hn2 hrest rfl hC2 ho (kk w M2 hP)
theorem x_V1i {y2 : MethodName} {c2 : ByteArray} {n2 d2 b i N : Nat} {r2 : Option FieldType} {rest : List Value} {T : u_T} {a1 : Value} {P : Int32 → fc_M → Prop} (ci : Nat) (hd : decode cc pc = .ok (.invokevirtual i, 3)) (hG : GoodIn lw_all (wsV y.cls i y2.cls y2 (ws_ y2 c2 n2 r2))) (hpar : y2.cls = y2.cls ∧ y2.cls ≠ "java/lang/invoke/MethodHandle" ∧ y2.cls ≠ "java/lang/invoke/VarHandle" ∧ (parseMethodDescriptor y2.desc).map (fun d => d.parameters.length) = some 1) (hcl : fcCl[ci]? = some (y2.cls, T, N)) (hb : b < fc_nx M) (hs : fc_sh M b = .inl ci) (hdd : d2 + 1 ≤ d) (hn2 : n2 ≤ 45) (hrest : (rest.map fun v => v.category).sum ≤ 8) (hC : fc_CX g l y2 c2 n2 r2 d2 (.ref (fc_B g + b) :: [a1]) M (fc_ri P))
    (kk : ∀ (r : Int32) (M2 : fc_M), P r M2 → fc_X g l y cc nL ret d n0 s0 M2 (pc + 3) L (.int r :: rest) Q) : fc_X g l y cc nL ret d n0 s0 M pc L (a1 :: .ref (fc_B g + b) :: rest) Q := by
  obtain ⟨o2, M2, ⟨r, ho, hP⟩, hC2⟩ := hC
  exact fc_callV (As := [a1]) ci hd hG hpar hcl hb hs hdd hn2 hrest rfl hC2 ho (kk r M2 hP)
theorem x_S1i {y2 : MethodName} {c2 : ByteArray} {n2 d2 i : Nat} {r2 : Option FieldType} {rest : List Value} {a1 : Value} {P : Int32 → fc_M → Prop} (hd : decode cc pc = .ok (.invokestatic i, 3)) (hG : GoodIn lw_all (va_wsS y.cls i y2 (ws_ y2 c2 n2 r2))) (hpar : y2.cls ≠ "java/lang/invoke/MethodHandle" ∧ y2.cls ≠ "java/lang/invoke/VarHandle" ∧ (parseMethodDescriptor y2.desc).map (fun d => d.parameters.length) = some 1) (hdd : d2 + 1 ≤ d) (hn2 : n2 ≤ 45) (hrest : (rest.map fun v => v.category).sum ≤ 8) (hC : fc_CX g l y2 c2 n2 r2 d2 [a1] M (fc_ri P))
    (kk : ∀ (r : Int32) (M2 : fc_M), P r M2 → fc_X g l y cc nL ret d n0 s0 M2 (pc + 3) L (.int r :: rest) Q) : fc_X g l y cc nL ret d n0 s0 M pc L (a1 :: rest) Q := by
  obtain ⟨o2, M2, ⟨r, ho, hP⟩, hC2⟩ := hC
  exact fc_callS (As := [a1]) hd hG hpar hdd hn2 hrest rfl hC2 ho (kk r M2 hP)
theorem x_V1v {y2 : MethodName} {c2 : ByteArray} {n2 d2 b i N : Nat} {r2 : Option FieldType} {rest : List Value} {T : u_T} {a1 : Value} {P : fc_M → Prop} (ci : Nat) (hd : decode cc pc = .ok (.invokevirtual i, 3)) (hG : GoodIn lw_all (wsV y.cls i y2.cls y2 (ws_ y2 c2 n2 r2))) (hpar : y2.cls = y2.cls ∧ y2.cls ≠ "java/lang/invoke/MethodHandle" ∧ y2.cls ≠ "java/lang/invoke/VarHandle" ∧ (parseMethodDescriptor y2.desc).map (fun d => d.parameters.length) = some 1) (hcl : fcCl[ci]? = some (y2.cls, T, N)) (hb : b < fc_nx M) (hs : fc_sh M b = .inl ci) (hdd : d2 + 1 ≤ d) (hn2 : n2 ≤ 45) (hrest : (rest.map fun v => v.category).sum ≤ 8) (hC : fc_CX g l y2 c2 n2 r2 d2 (.ref (fc_B g + b) :: [a1]) M (fc_rv P))
    (kk : ∀ (M2 : fc_M), P M2 → fc_X g l y cc nL ret d n0 s0 M2 (pc + 3) L rest Q) : fc_X g l y cc nL ret d n0 s0 M pc L (a1 :: .ref (fc_B g + b) :: rest) Q := by
  obtain ⟨o2, M2, ⟨ho, hP⟩, hC2⟩ := hC
  exact fc_callV (As := [a1]) ci hd hG hpar hcl hb hs hdd hn2 hrest rfl hC2 ho (kk M2 hP)
theorem x_S1v {y2 : MethodName} {c2 : ByteArray} {n2 d2 i : Nat} {r2 : Option FieldType} {rest : List Value} {a1 : Value} {P : fc_M → Prop} (hd : decode cc pc = .ok (.invokestatic i, 3)) (hG : GoodIn lw_all (va_wsS y.cls i y2 (ws_ y2 c2 n2 r2))) (hpar : y2.cls ≠ "java/lang/invoke/MethodHandle" ∧ y2.cls ≠ "java/lang/invoke/VarHandle" ∧ (parseMethodDescriptor y2.desc).map (fun d => d.parameters.length) = some 1) (hdd : d2 + 1 ≤ d) (hn2 : n2 ≤ 45) (hrest : (rest.map fun v => v.category).sum ≤ 8) (hC : fc_CX g l y2 c2 n2 r2 d2 [a1] M (fc_rv P))
    (kk : ∀ (M2 : fc_M), P M2 → fc_X g l y cc nL ret d n0 s0 M2 (pc + 3) L rest Q) : fc_X g l y cc nL ret d n0 s0 M pc L (a1 :: rest) Q := by
  obtain ⟨o2, M2, ⟨ho, hP⟩, hC2⟩ := hC
  exact fc_callS (As := [a1]) hd hG hpar hdd hn2 hrest rfl hC2 ho (kk M2 hP)
theorem x_V1r {y2 : MethodName} {c2 : ByteArray} {n2 d2 b i N : Nat} {r2 : Option FieldType} {rest : List Value} {T : u_T} {a1 : Value} {P : Value → fc_M → Prop} (ci : Nat) (hd : decode cc pc = .ok (.invokevirtual i, 3)) (hG : GoodIn lw_all (wsV y.cls i y2.cls y2 (ws_ y2 c2 n2 r2))) (hpar : y2.cls = y2.cls ∧ y2.cls ≠ "java/lang/invoke/MethodHandle" ∧ y2.cls ≠ "java/lang/invoke/VarHandle" ∧ (parseMethodDescriptor y2.desc).map (fun d => d.parameters.length) = some 1) (hcl : fcCl[ci]? = some (y2.cls, T, N)) (hb : b < fc_nx M) (hs : fc_sh M b = .inl ci) (hdd : d2 + 1 ≤ d) (hn2 : n2 ≤ 45) (hrest : (rest.map fun v => v.category).sum ≤ 8) (hC : fc_CX g l y2 c2 n2 r2 d2 (.ref (fc_B g + b) :: [a1]) M (fc_rr P))
    (kk : ∀ (w : Value) (M2 : fc_M), P w M2 → fc_X g l y cc nL ret d n0 s0 M2 (pc + 3) L (w :: rest) Q) : fc_X g l y cc nL ret d n0 s0 M pc L (a1 :: .ref (fc_B g + b) :: rest) Q := by
  obtain ⟨o2, M2, ⟨w, ho, hP⟩, hC2⟩ := hC
  exact fc_callV (As := [a1]) ci hd hG hpar hcl hb hs hdd hn2 hrest rfl hC2 ho (kk w M2 hP)
theorem x_S1r {y2 : MethodName} {c2 : ByteArray} {n2 d2 i : Nat} {r2 : Option FieldType} {rest : List Value} {a1 : Value} {P : Value → fc_M → Prop} (hd : decode cc pc = .ok (.invokestatic i, 3)) (hG : GoodIn lw_all (va_wsS y.cls i y2 (ws_ y2 c2 n2 r2))) (hpar : y2.cls ≠ "java/lang/invoke/MethodHandle" ∧ y2.cls ≠ "java/lang/invoke/VarHandle" ∧ (parseMethodDescriptor y2.desc).map (fun d => d.parameters.length) = some 1) (hdd : d2 + 1 ≤ d) (hn2 : n2 ≤ 45) (hrest : (rest.map fun v => v.category).sum ≤ 8) (hC : fc_CX g l y2 c2 n2 r2 d2 [a1] M (fc_rr P))
    (kk : ∀ (w : Value) (M2 : fc_M), P w M2 → fc_X g l y cc nL ret d n0 s0 M2 (pc + 3) L (w :: rest) Q) : fc_X g l y cc nL ret d n0 s0 M pc L (a1 :: rest) Q := by
  obtain ⟨o2, M2, ⟨w, ho, hP⟩, hC2⟩ := hC
  exact fc_callS (As := [a1]) hd hG hpar hdd hn2 hrest rfl hC2 ho (kk w M2 hP)
theorem x_V2i {y2 : MethodName} {c2 : ByteArray} {n2 d2 b i N : Nat} {r2 : Option FieldType} {rest : List Value} {T : u_T} {a1 a2 : Value} {P : Int32 → fc_M → Prop} (ci : Nat) (hd : decode cc pc = .ok (.invokevirtual i, 3)) (hG : GoodIn lw_all (wsV y.cls i y2.cls y2 (ws_ y2 c2 n2 r2))) (hpar : y2.cls = y2.cls ∧ y2.cls ≠ "java/lang/invoke/MethodHandle" ∧ y2.cls ≠ "java/lang/invoke/VarHandle" ∧ (parseMethodDescriptor y2.desc).map (fun d => d.parameters.length) = some 2) (hcl : fcCl[ci]? = some (y2.cls, T, N)) (hb : b < fc_nx M) (hs : fc_sh M b = .inl ci) (hdd : d2 + 1 ≤ d) (hn2 : n2 ≤ 45) (hrest : (rest.map fun v => v.category).sum ≤ 8) (hC : fc_CX g l y2 c2 n2 r2 d2 (.ref (fc_B g + b) :: [a1, a2]) M (fc_ri P))
    (kk : ∀ (r : Int32) (M2 : fc_M), P r M2 → fc_X g l y cc nL ret d n0 s0 M2 (pc + 3) L (.int r :: rest) Q) : fc_X g l y cc nL ret d n0 s0 M pc L (a2 :: a1 :: .ref (fc_B g + b) :: rest) Q := by
  obtain ⟨o2, M2, ⟨r, ho, hP⟩, hC2⟩ := hC
  exact fc_callV (As := [a1, a2]) ci hd hG hpar hcl hb hs hdd hn2 hrest rfl hC2 ho (kk r M2 hP)
theorem x_S2i {y2 : MethodName} {c2 : ByteArray} {n2 d2 i : Nat} {r2 : Option FieldType} {rest : List Value} {a1 a2 : Value} {P : Int32 → fc_M → Prop} (hd : decode cc pc = .ok (.invokestatic i, 3)) (hG : GoodIn lw_all (va_wsS y.cls i y2 (ws_ y2 c2 n2 r2))) (hpar : y2.cls ≠ "java/lang/invoke/MethodHandle" ∧ y2.cls ≠ "java/lang/invoke/VarHandle" ∧ (parseMethodDescriptor y2.desc).map (fun d => d.parameters.length) = some 2) (hdd : d2 + 1 ≤ d) (hn2 : n2 ≤ 45) (hrest : (rest.map fun v => v.category).sum ≤ 8) (hC : fc_CX g l y2 c2 n2 r2 d2 [a1, a2] M (fc_ri P))
    (kk : ∀ (r : Int32) (M2 : fc_M), P r M2 → fc_X g l y cc nL ret d n0 s0 M2 (pc + 3) L (.int r :: rest) Q) : fc_X g l y cc nL ret d n0 s0 M pc L (a2 :: a1 :: rest) Q := by
  obtain ⟨o2, M2, ⟨r, ho, hP⟩, hC2⟩ := hC
  exact fc_callS (As := [a1, a2]) hd hG hpar hdd hn2 hrest rfl hC2 ho (kk r M2 hP)
theorem x_V2v {y2 : MethodName} {c2 : ByteArray} {n2 d2 b i N : Nat} {r2 : Option FieldType} {rest : List Value} {T : u_T} {a1 a2 : Value} {P : fc_M → Prop} (ci : Nat) (hd : decode cc pc = .ok (.invokevirtual i, 3)) (hG : GoodIn lw_all (wsV y.cls i y2.cls y2 (ws_ y2 c2 n2 r2))) (hpar : y2.cls = y2.cls ∧ y2.cls ≠ "java/lang/invoke/MethodHandle" ∧ y2.cls ≠ "java/lang/invoke/VarHandle" ∧ (parseMethodDescriptor y2.desc).map (fun d => d.parameters.length) = some 2) (hcl : fcCl[ci]? = some (y2.cls, T, N)) (hb : b < fc_nx M) (hs : fc_sh M b = .inl ci) (hdd : d2 + 1 ≤ d) (hn2 : n2 ≤ 45) (hrest : (rest.map fun v => v.category).sum ≤ 8) (hC : fc_CX g l y2 c2 n2 r2 d2 (.ref (fc_B g + b) :: [a1, a2]) M (fc_rv P))
    (kk : ∀ (M2 : fc_M), P M2 → fc_X g l y cc nL ret d n0 s0 M2 (pc + 3) L rest Q) : fc_X g l y cc nL ret d n0 s0 M pc L (a2 :: a1 :: .ref (fc_B g + b) :: rest) Q := by
  obtain ⟨o2, M2, ⟨ho, hP⟩, hC2⟩ := hC
  exact fc_callV (As := [a1, a2]) ci hd hG hpar hcl hb hs hdd hn2 hrest rfl hC2 ho (kk M2 hP)
theorem x_S2v {y2 : MethodName} {c2 : ByteArray} {n2 d2 i : Nat} {r2 : Option FieldType} {rest : List Value} {a1 a2 : Value} {P : fc_M → Prop} (hd : decode cc pc = .ok (.invokestatic i, 3)) (hG : GoodIn lw_all (va_wsS y.cls i y2 (ws_ y2 c2 n2 r2))) (hpar : y2.cls ≠ "java/lang/invoke/MethodHandle" ∧ y2.cls ≠ "java/lang/invoke/VarHandle" ∧ (parseMethodDescriptor y2.desc).map (fun d => d.parameters.length) = some 2) (hdd : d2 + 1 ≤ d) (hn2 : n2 ≤ 45) (hrest : (rest.map fun v => v.category).sum ≤ 8) (hC : fc_CX g l y2 c2 n2 r2 d2 [a1, a2] M (fc_rv P))
    (kk : ∀ (M2 : fc_M), P M2 → fc_X g l y cc nL ret d n0 s0 M2 (pc + 3) L rest Q) : fc_X g l y cc nL ret d n0 s0 M pc L (a2 :: a1 :: rest) Q := by
  obtain ⟨o2, M2, ⟨ho, hP⟩, hC2⟩ := hC
  exact fc_callS (As := [a1, a2]) hd hG hpar hdd hn2 hrest rfl hC2 ho (kk M2 hP)
theorem x_V2r {y2 : MethodName} {c2 : ByteArray} {n2 d2 b i N : Nat} {r2 : Option FieldType} {rest : List Value} {T : u_T} {a1 a2 : Value} {P : Value → fc_M → Prop} (ci : Nat) (hd : decode cc pc = .ok (.invokevirtual i, 3)) (hG : GoodIn lw_all (wsV y.cls i y2.cls y2 (ws_ y2 c2 n2 r2))) (hpar : y2.cls = y2.cls ∧ y2.cls ≠ "java/lang/invoke/MethodHandle" ∧ y2.cls ≠ "java/lang/invoke/VarHandle" ∧ (parseMethodDescriptor y2.desc).map (fun d => d.parameters.length) = some 2) (hcl : fcCl[ci]? = some (y2.cls, T, N)) (hb : b < fc_nx M) (hs : fc_sh M b = .inl ci) (hdd : d2 + 1 ≤ d) (hn2 : n2 ≤ 45) (hrest : (rest.map fun v => v.category).sum ≤ 8) (hC : fc_CX g l y2 c2 n2 r2 d2 (.ref (fc_B g + b) :: [a1, a2]) M (fc_rr P))
    (kk : ∀ (w : Value) (M2 : fc_M), P w M2 → fc_X g l y cc nL ret d n0 s0 M2 (pc + 3) L (w :: rest) Q) : fc_X g l y cc nL ret d n0 s0 M pc L (a2 :: a1 :: .ref (fc_B g + b) :: rest) Q := by
  obtain ⟨o2, M2, ⟨w, ho, hP⟩, hC2⟩ := hC
  exact fc_callV (As := [a1, a2]) ci hd hG hpar hcl hb hs hdd hn2 hrest rfl hC2 ho (kk w M2 hP)
theorem x_S2r {y2 : MethodName} {c2 : ByteArray} {n2 d2 i : Nat} {r2 : Option FieldType} {rest : List Value} {a1 a2 : Value} {P : Value → fc_M → Prop} (hd : decode cc pc = .ok (.invokestatic i, 3)) (hG : GoodIn lw_all (va_wsS y.cls i y2 (ws_ y2 c2 n2 r2))) (hpar : y2.cls ≠ "java/lang/invoke/MethodHandle" ∧ y2.cls ≠ "java/lang/invoke/VarHandle" ∧ (parseMethodDescriptor y2.desc).map (fun d => d.parameters.length) = some 2) (hdd : d2 + 1 ≤ d) (hn2 : n2 ≤ 45) (hrest : (rest.map fun v => v.category).sum ≤ 8) (hC : fc_CX g l y2 c2 n2 r2 d2 [a1, a2] M (fc_rr P))
    (kk : ∀ (w : Value) (M2 : fc_M), P w M2 → fc_X g l y cc nL ret d n0 s0 M2 (pc + 3) L (w :: rest) Q) : fc_X g l y cc nL ret d n0 s0 M pc L (a2 :: a1 :: rest) Q := by
  obtain ⟨o2, M2, ⟨w, ho, hP⟩, hC2⟩ := hC
  exact fc_callS (As := [a1, a2]) hd hG hpar hdd hn2 hrest rfl hC2 ho (kk w M2 hP)
theorem x_V3i {y2 : MethodName} {c2 : ByteArray} {n2 d2 b i N : Nat} {r2 : Option FieldType} {rest : List Value} {T : u_T} {a1 a2 a3 : Value} {P : Int32 → fc_M → Prop} (ci : Nat) (hd : decode cc pc = .ok (.invokevirtual i, 3)) (hG : GoodIn lw_all (wsV y.cls i y2.cls y2 (ws_ y2 c2 n2 r2))) (hpar : y2.cls = y2.cls ∧ y2.cls ≠ "java/lang/invoke/MethodHandle" ∧ y2.cls ≠ "java/lang/invoke/VarHandle" ∧ (parseMethodDescriptor y2.desc).map (fun d => d.parameters.length) = some 3) (hcl : fcCl[ci]? = some (y2.cls, T, N)) (hb : b < fc_nx M) (hs : fc_sh M b = .inl ci) (hdd : d2 + 1 ≤ d) (hn2 : n2 ≤ 45) (hrest : (rest.map fun v => v.category).sum ≤ 8) (hC : fc_CX g l y2 c2 n2 r2 d2 (.ref (fc_B g + b) :: [a1, a2, a3]) M (fc_ri P))
    (kk : ∀ (r : Int32) (M2 : fc_M), P r M2 → fc_X g l y cc nL ret d n0 s0 M2 (pc + 3) L (.int r :: rest) Q) : fc_X g l y cc nL ret d n0 s0 M pc L (a3 :: a2 :: a1 :: .ref (fc_B g + b) :: rest) Q := by
  obtain ⟨o2, M2, ⟨r, ho, hP⟩, hC2⟩ := hC
  exact fc_callV (As := [a1, a2, a3]) ci hd hG hpar hcl hb hs hdd hn2 hrest rfl hC2 ho (kk r M2 hP)
theorem x_S3i {y2 : MethodName} {c2 : ByteArray} {n2 d2 i : Nat} {r2 : Option FieldType} {rest : List Value} {a1 a2 a3 : Value} {P : Int32 → fc_M → Prop} (hd : decode cc pc = .ok (.invokestatic i, 3)) (hG : GoodIn lw_all (va_wsS y.cls i y2 (ws_ y2 c2 n2 r2))) (hpar : y2.cls ≠ "java/lang/invoke/MethodHandle" ∧ y2.cls ≠ "java/lang/invoke/VarHandle" ∧ (parseMethodDescriptor y2.desc).map (fun d => d.parameters.length) = some 3) (hdd : d2 + 1 ≤ d) (hn2 : n2 ≤ 45) (hrest : (rest.map fun v => v.category).sum ≤ 8) (hC : fc_CX g l y2 c2 n2 r2 d2 [a1, a2, a3] M (fc_ri P))
    (kk : ∀ (r : Int32) (M2 : fc_M), P r M2 → fc_X g l y cc nL ret d n0 s0 M2 (pc + 3) L (.int r :: rest) Q) : fc_X g l y cc nL ret d n0 s0 M pc L (a3 :: a2 :: a1 :: rest) Q := by
  obtain ⟨o2, M2, ⟨r, ho, hP⟩, hC2⟩ := hC
  exact fc_callS (As := [a1, a2, a3]) hd hG hpar hdd hn2 hrest rfl hC2 ho (kk r M2 hP)
theorem x_V3v {y2 : MethodName} {c2 : ByteArray} {n2 d2 b i N : Nat} {r2 : Option FieldType} {rest : List Value} {T : u_T} {a1 a2 a3 : Value} {P : fc_M → Prop} (ci : Nat) (hd : decode cc pc = .ok (.invokevirtual i, 3)) (hG : GoodIn lw_all (wsV y.cls i y2.cls y2 (ws_ y2 c2 n2 r2))) (hpar : y2.cls = y2.cls ∧ y2.cls ≠ "java/lang/invoke/MethodHandle" ∧ y2.cls ≠ "java/lang/invoke/VarHandle" ∧ (parseMethodDescriptor y2.desc).map (fun d => d.parameters.length) = some 3) (hcl : fcCl[ci]? = some (y2.cls, T, N)) (hb : b < fc_nx M) (hs : fc_sh M b = .inl ci) (hdd : d2 + 1 ≤ d) (hn2 : n2 ≤ 45) (hrest : (rest.map fun v => v.category).sum ≤ 8) (hC : fc_CX g l y2 c2 n2 r2 d2 (.ref (fc_B g + b) :: [a1, a2, a3]) M (fc_rv P))
    (kk : ∀ (M2 : fc_M), P M2 → fc_X g l y cc nL ret d n0 s0 M2 (pc + 3) L rest Q) : fc_X g l y cc nL ret d n0 s0 M pc L (a3 :: a2 :: a1 :: .ref (fc_B g + b) :: rest) Q := by
  obtain ⟨o2, M2, ⟨ho, hP⟩, hC2⟩ := hC
  exact fc_callV (As := [a1, a2, a3]) ci hd hG hpar hcl hb hs hdd hn2 hrest rfl hC2 ho (kk M2 hP)
theorem x_S3v {y2 : MethodName} {c2 : ByteArray} {n2 d2 i : Nat} {r2 : Option FieldType} {rest : List Value} {a1 a2 a3 : Value} {P : fc_M → Prop} (hd : decode cc pc = .ok (.invokestatic i, 3)) (hG : GoodIn lw_all (va_wsS y.cls i y2 (ws_ y2 c2 n2 r2))) (hpar : y2.cls ≠ "java/lang/invoke/MethodHandle" ∧ y2.cls ≠ "java/lang/invoke/VarHandle" ∧ (parseMethodDescriptor y2.desc).map (fun d => d.parameters.length) = some 3) (hdd : d2 + 1 ≤ d) (hn2 : n2 ≤ 45) (hrest : (rest.map fun v => v.category).sum ≤ 8) (hC : fc_CX g l y2 c2 n2 r2 d2 [a1, a2, a3] M (fc_rv P))
    (kk : ∀ (M2 : fc_M), P M2 → fc_X g l y cc nL ret d n0 s0 M2 (pc + 3) L rest Q) : fc_X g l y cc nL ret d n0 s0 M pc L (a3 :: a2 :: a1 :: rest) Q := by
  obtain ⟨o2, M2, ⟨ho, hP⟩, hC2⟩ := hC
  exact fc_callS (As := [a1, a2, a3]) hd hG hpar hdd hn2 hrest rfl hC2 ho (kk M2 hP)
theorem x_V3r {y2 : MethodName} {c2 : ByteArray} {n2 d2 b i N : Nat} {r2 : Option FieldType} {rest : List Value} {T : u_T} {a1 a2 a3 : Value} {P : Value → fc_M → Prop} (ci : Nat) (hd : decode cc pc = .ok (.invokevirtual i, 3)) (hG : GoodIn lw_all (wsV y.cls i y2.cls y2 (ws_ y2 c2 n2 r2))) (hpar : y2.cls = y2.cls ∧ y2.cls ≠ "java/lang/invoke/MethodHandle" ∧ y2.cls ≠ "java/lang/invoke/VarHandle" ∧ (parseMethodDescriptor y2.desc).map (fun d => d.parameters.length) = some 3) (hcl : fcCl[ci]? = some (y2.cls, T, N)) (hb : b < fc_nx M) (hs : fc_sh M b = .inl ci) (hdd : d2 + 1 ≤ d) (hn2 : n2 ≤ 45) (hrest : (rest.map fun v => v.category).sum ≤ 8) (hC : fc_CX g l y2 c2 n2 r2 d2 (.ref (fc_B g + b) :: [a1, a2, a3]) M (fc_rr P))
    (kk : ∀ (w : Value) (M2 : fc_M), P w M2 → fc_X g l y cc nL ret d n0 s0 M2 (pc + 3) L (w :: rest) Q) : fc_X g l y cc nL ret d n0 s0 M pc L (a3 :: a2 :: a1 :: .ref (fc_B g + b) :: rest) Q := by
  obtain ⟨o2, M2, ⟨w, ho, hP⟩, hC2⟩ := hC
  exact fc_callV (As := [a1, a2, a3]) ci hd hG hpar hcl hb hs hdd hn2 hrest rfl hC2 ho (kk w M2 hP)
theorem x_S3r {y2 : MethodName} {c2 : ByteArray} {n2 d2 i : Nat} {r2 : Option FieldType} {rest : List Value} {a1 a2 a3 : Value} {P : Value → fc_M → Prop} (hd : decode cc pc = .ok (.invokestatic i, 3)) (hG : GoodIn lw_all (va_wsS y.cls i y2 (ws_ y2 c2 n2 r2))) (hpar : y2.cls ≠ "java/lang/invoke/MethodHandle" ∧ y2.cls ≠ "java/lang/invoke/VarHandle" ∧ (parseMethodDescriptor y2.desc).map (fun d => d.parameters.length) = some 3) (hdd : d2 + 1 ≤ d) (hn2 : n2 ≤ 45) (hrest : (rest.map fun v => v.category).sum ≤ 8) (hC : fc_CX g l y2 c2 n2 r2 d2 [a1, a2, a3] M (fc_rr P))
    (kk : ∀ (w : Value) (M2 : fc_M), P w M2 → fc_X g l y cc nL ret d n0 s0 M2 (pc + 3) L (w :: rest) Q) : fc_X g l y cc nL ret d n0 s0 M pc L (a3 :: a2 :: a1 :: rest) Q := by
  obtain ⟨o2, M2, ⟨w, ho, hP⟩, hC2⟩ := hC
  exact fc_callS (As := [a1, a2, a3]) hd hG hpar hdd hn2 hrest rfl hC2 ho (kk w M2 hP)
theorem x_V4i {y2 : MethodName} {c2 : ByteArray} {n2 d2 b i N : Nat} {r2 : Option FieldType} {rest : List Value} {T : u_T} {a1 a2 a3 a4 : Value} {P : Int32 → fc_M → Prop} (ci : Nat) (hd : decode cc pc = .ok (.invokevirtual i, 3)) (hG : GoodIn lw_all (wsV y.cls i y2.cls y2 (ws_ y2 c2 n2 r2))) (hpar : y2.cls = y2.cls ∧ y2.cls ≠ "java/lang/invoke/MethodHandle" ∧ y2.cls ≠ "java/lang/invoke/VarHandle" ∧ (parseMethodDescriptor y2.desc).map (fun d => d.parameters.length) = some 4) (hcl : fcCl[ci]? = some (y2.cls, T, N)) (hb : b < fc_nx M) (hs : fc_sh M b = .inl ci) (hdd : d2 + 1 ≤ d) (hn2 : n2 ≤ 45) (hrest : (rest.map fun v => v.category).sum ≤ 8) (hC : fc_CX g l y2 c2 n2 r2 d2 (.ref (fc_B g + b) :: [a1, a2, a3, a4]) M (fc_ri P))
    (kk : ∀ (r : Int32) (M2 : fc_M), P r M2 → fc_X g l y cc nL ret d n0 s0 M2 (pc + 3) L (.int r :: rest) Q) : fc_X g l y cc nL ret d n0 s0 M pc L (a4 :: a3 :: a2 :: a1 :: .ref (fc_B g + b) :: rest) Q := by
  obtain ⟨o2, M2, ⟨r, ho, hP⟩, hC2⟩ := hC
  exact fc_callV (As := [a1, a2, a3, a4]) ci hd hG hpar hcl hb hs hdd hn2 hrest rfl hC2 ho (kk r M2 hP)
theorem x_S4i {y2 : MethodName} {c2 : ByteArray} {n2 d2 i : Nat} {r2 : Option FieldType} {rest : List Value} {a1 a2 a3 a4 : Value} {P : Int32 → fc_M → Prop} (hd : decode cc pc = .ok (.invokestatic i, 3)) (hG : GoodIn lw_all (va_wsS y.cls i y2 (ws_ y2 c2 n2 r2))) (hpar : y2.cls ≠ "java/lang/invoke/MethodHandle" ∧ y2.cls ≠ "java/lang/invoke/VarHandle" ∧ (parseMethodDescriptor y2.desc).map (fun d => d.parameters.length) = some 4) (hdd : d2 + 1 ≤ d) (hn2 : n2 ≤ 45) (hrest : (rest.map fun v => v.category).sum ≤ 8) (hC : fc_CX g l y2 c2 n2 r2 d2 [a1, a2, a3, a4] M (fc_ri P))
    (kk : ∀ (r : Int32) (M2 : fc_M), P r M2 → fc_X g l y cc nL ret d n0 s0 M2 (pc + 3) L (.int r :: rest) Q) : fc_X g l y cc nL ret d n0 s0 M pc L (a4 :: a3 :: a2 :: a1 :: rest) Q := by
  obtain ⟨o2, M2, ⟨r, ho, hP⟩, hC2⟩ := hC
  exact fc_callS (As := [a1, a2, a3, a4]) hd hG hpar hdd hn2 hrest rfl hC2 ho (kk r M2 hP)
theorem x_V4v {y2 : MethodName} {c2 : ByteArray} {n2 d2 b i N : Nat} {r2 : Option FieldType} {rest : List Value} {T : u_T} {a1 a2 a3 a4 : Value} {P : fc_M → Prop} (ci : Nat) (hd : decode cc pc = .ok (.invokevirtual i, 3)) (hG : GoodIn lw_all (wsV y.cls i y2.cls y2 (ws_ y2 c2 n2 r2))) (hpar : y2.cls = y2.cls ∧ y2.cls ≠ "java/lang/invoke/MethodHandle" ∧ y2.cls ≠ "java/lang/invoke/VarHandle" ∧ (parseMethodDescriptor y2.desc).map (fun d => d.parameters.length) = some 4) (hcl : fcCl[ci]? = some (y2.cls, T, N)) (hb : b < fc_nx M) (hs : fc_sh M b = .inl ci) (hdd : d2 + 1 ≤ d) (hn2 : n2 ≤ 45) (hrest : (rest.map fun v => v.category).sum ≤ 8) (hC : fc_CX g l y2 c2 n2 r2 d2 (.ref (fc_B g + b) :: [a1, a2, a3, a4]) M (fc_rv P))
    (kk : ∀ (M2 : fc_M), P M2 → fc_X g l y cc nL ret d n0 s0 M2 (pc + 3) L rest Q) : fc_X g l y cc nL ret d n0 s0 M pc L (a4 :: a3 :: a2 :: a1 :: .ref (fc_B g + b) :: rest) Q := by
  obtain ⟨o2, M2, ⟨ho, hP⟩, hC2⟩ := hC
  exact fc_callV (As := [a1, a2, a3, a4]) ci hd hG hpar hcl hb hs hdd hn2 hrest rfl hC2 ho (kk M2 hP)
theorem x_S4v {y2 : MethodName} {c2 : ByteArray} {n2 d2 i : Nat} {r2 : Option FieldType} {rest : List Value} {a1 a2 a3 a4 : Value} {P : fc_M → Prop} (hd : decode cc pc = .ok (.invokestatic i, 3)) (hG : GoodIn lw_all (va_wsS y.cls i y2 (ws_ y2 c2 n2 r2))) (hpar : y2.cls ≠ "java/lang/invoke/MethodHandle" ∧ y2.cls ≠ "java/lang/invoke/VarHandle" ∧ (parseMethodDescriptor y2.desc).map (fun d => d.parameters.length) = some 4) (hdd : d2 + 1 ≤ d) (hn2 : n2 ≤ 45) (hrest : (rest.map fun v => v.category).sum ≤ 8) (hC : fc_CX g l y2 c2 n2 r2 d2 [a1, a2, a3, a4] M (fc_rv P))
    (kk : ∀ (M2 : fc_M), P M2 → fc_X g l y cc nL ret d n0 s0 M2 (pc + 3) L rest Q) : fc_X g l y cc nL ret d n0 s0 M pc L (a4 :: a3 :: a2 :: a1 :: rest) Q := by
  obtain ⟨o2, M2, ⟨ho, hP⟩, hC2⟩ := hC
  exact fc_callS (As := [a1, a2, a3, a4]) hd hG hpar hdd hn2 hrest rfl hC2 ho (kk M2 hP)
theorem x_V4r {y2 : MethodName} {c2 : ByteArray} {n2 d2 b i N : Nat} {r2 : Option FieldType} {rest : List Value} {T : u_T} {a1 a2 a3 a4 : Value} {P : Value → fc_M → Prop} (ci : Nat) (hd : decode cc pc = .ok (.invokevirtual i, 3)) (hG : GoodIn lw_all (wsV y.cls i y2.cls y2 (ws_ y2 c2 n2 r2))) (hpar : y2.cls = y2.cls ∧ y2.cls ≠ "java/lang/invoke/MethodHandle" ∧ y2.cls ≠ "java/lang/invoke/VarHandle" ∧ (parseMethodDescriptor y2.desc).map (fun d => d.parameters.length) = some 4) (hcl : fcCl[ci]? = some (y2.cls, T, N)) (hb : b < fc_nx M) (hs : fc_sh M b = .inl ci) (hdd : d2 + 1 ≤ d) (hn2 : n2 ≤ 45) (hrest : (rest.map fun v => v.category).sum ≤ 8) (hC : fc_CX g l y2 c2 n2 r2 d2 (.ref (fc_B g + b) :: [a1, a2, a3, a4]) M (fc_rr P))
    (kk : ∀ (w : Value) (M2 : fc_M), P w M2 → fc_X g l y cc nL ret d n0 s0 M2 (pc + 3) L (w :: rest) Q) : fc_X g l y cc nL ret d n0 s0 M pc L (a4 :: a3 :: a2 :: a1 :: .ref (fc_B g + b) :: rest) Q := by
  obtain ⟨o2, M2, ⟨w, ho, hP⟩, hC2⟩ := hC
  exact fc_callV (As := [a1, a2, a3, a4]) ci hd hG hpar hcl hb hs hdd hn2 hrest rfl hC2 ho (kk w M2 hP)
theorem x_S4r {y2 : MethodName} {c2 : ByteArray} {n2 d2 i : Nat} {r2 : Option FieldType} {rest : List Value} {a1 a2 a3 a4 : Value} {P : Value → fc_M → Prop} (hd : decode cc pc = .ok (.invokestatic i, 3)) (hG : GoodIn lw_all (va_wsS y.cls i y2 (ws_ y2 c2 n2 r2))) (hpar : y2.cls ≠ "java/lang/invoke/MethodHandle" ∧ y2.cls ≠ "java/lang/invoke/VarHandle" ∧ (parseMethodDescriptor y2.desc).map (fun d => d.parameters.length) = some 4) (hdd : d2 + 1 ≤ d) (hn2 : n2 ≤ 45) (hrest : (rest.map fun v => v.category).sum ≤ 8) (hC : fc_CX g l y2 c2 n2 r2 d2 [a1, a2, a3, a4] M (fc_rr P))
    (kk : ∀ (w : Value) (M2 : fc_M), P w M2 → fc_X g l y cc nL ret d n0 s0 M2 (pc + 3) L (w :: rest) Q) : fc_X g l y cc nL ret d n0 s0 M pc L (a4 :: a3 :: a2 :: a1 :: rest) Q := by
  obtain ⟨o2, M2, ⟨w, ho, hP⟩, hC2⟩ := hC
  exact fc_callS (As := [a1, a2, a3, a4]) hd hG hpar hdd hn2 hrest rfl hC2 ho (kk w M2 hP)
theorem x_V5i {y2 : MethodName} {c2 : ByteArray} {n2 d2 b i N : Nat} {r2 : Option FieldType} {rest : List Value} {T : u_T} {a1 a2 a3 a4 a5 : Value} {P : Int32 → fc_M → Prop} (ci : Nat) (hd : decode cc pc = .ok (.invokevirtual i, 3)) (hG : GoodIn lw_all (wsV y.cls i y2.cls y2 (ws_ y2 c2 n2 r2))) (hpar : y2.cls = y2.cls ∧ y2.cls ≠ "java/lang/invoke/MethodHandle" ∧ y2.cls ≠ "java/lang/invoke/VarHandle" ∧ (parseMethodDescriptor y2.desc).map (fun d => d.parameters.length) = some 5) (hcl : fcCl[ci]? = some (y2.cls, T, N)) (hb : b < fc_nx M) (hs : fc_sh M b = .inl ci) (hdd : d2 + 1 ≤ d) (hn2 : n2 ≤ 45) (hrest : (rest.map fun v => v.category).sum ≤ 8) (hC : fc_CX g l y2 c2 n2 r2 d2 (.ref (fc_B g + b) :: [a1, a2, a3, a4, a5]) M (fc_ri P))
    (kk : ∀ (r : Int32) (M2 : fc_M), P r M2 → fc_X g l y cc nL ret d n0 s0 M2 (pc + 3) L (.int r :: rest) Q) : fc_X g l y cc nL ret d n0 s0 M pc L (a5 :: a4 :: a3 :: a2 :: a1 :: .ref (fc_B g + b) :: rest) Q := by
  obtain ⟨o2, M2, ⟨r, ho, hP⟩, hC2⟩ := hC
  exact fc_callV (As := [a1, a2, a3, a4, a5]) ci hd hG hpar hcl hb hs hdd hn2 hrest rfl hC2 ho (kk r M2 hP)
theorem x_S5i {y2 : MethodName} {c2 : ByteArray} {n2 d2 i : Nat} {r2 : Option FieldType} {rest : List Value} {a1 a2 a3 a4 a5 : Value} {P : Int32 → fc_M → Prop} (hd : decode cc pc = .ok (.invokestatic i, 3)) (hG : GoodIn lw_all (va_wsS y.cls i y2 (ws_ y2 c2 n2 r2))) (hpar : y2.cls ≠ "java/lang/invoke/MethodHandle" ∧ y2.cls ≠ "java/lang/invoke/VarHandle" ∧ (parseMethodDescriptor y2.desc).map (fun d => d.parameters.length) = some 5) (hdd : d2 + 1 ≤ d) (hn2 : n2 ≤ 45) (hrest : (rest.map fun v => v.category).sum ≤ 8) (hC : fc_CX g l y2 c2 n2 r2 d2 [a1, a2, a3, a4, a5] M (fc_ri P))
    (kk : ∀ (r : Int32) (M2 : fc_M), P r M2 → fc_X g l y cc nL ret d n0 s0 M2 (pc + 3) L (.int r :: rest) Q) : fc_X g l y cc nL ret d n0 s0 M pc L (a5 :: a4 :: a3 :: a2 :: a1 :: rest) Q := by
  obtain ⟨o2, M2, ⟨r, ho, hP⟩, hC2⟩ := hC
  exact fc_callS (As := [a1, a2, a3, a4, a5]) hd hG hpar hdd hn2 hrest rfl hC2 ho (kk r M2 hP)
theorem x_V5v {y2 : MethodName} {c2 : ByteArray} {n2 d2 b i N : Nat} {r2 : Option FieldType} {rest : List Value} {T : u_T} {a1 a2 a3 a4 a5 : Value} {P : fc_M → Prop} (ci : Nat) (hd : decode cc pc = .ok (.invokevirtual i, 3)) (hG : GoodIn lw_all (wsV y.cls i y2.cls y2 (ws_ y2 c2 n2 r2))) (hpar : y2.cls = y2.cls ∧ y2.cls ≠ "java/lang/invoke/MethodHandle" ∧ y2.cls ≠ "java/lang/invoke/VarHandle" ∧ (parseMethodDescriptor y2.desc).map (fun d => d.parameters.length) = some 5) (hcl : fcCl[ci]? = some (y2.cls, T, N)) (hb : b < fc_nx M) (hs : fc_sh M b = .inl ci) (hdd : d2 + 1 ≤ d) (hn2 : n2 ≤ 45) (hrest : (rest.map fun v => v.category).sum ≤ 8) (hC : fc_CX g l y2 c2 n2 r2 d2 (.ref (fc_B g + b) :: [a1, a2, a3, a4, a5]) M (fc_rv P))
    (kk : ∀ (M2 : fc_M), P M2 → fc_X g l y cc nL ret d n0 s0 M2 (pc + 3) L rest Q) : fc_X g l y cc nL ret d n0 s0 M pc L (a5 :: a4 :: a3 :: a2 :: a1 :: .ref (fc_B g + b) :: rest) Q := by
  obtain ⟨o2, M2, ⟨ho, hP⟩, hC2⟩ := hC
  exact fc_callV (As := [a1, a2, a3, a4, a5]) ci hd hG hpar hcl hb hs hdd hn2 hrest rfl hC2 ho (kk M2 hP)
theorem x_S5v {y2 : MethodName} {c2 : ByteArray} {n2 d2 i : Nat} {r2 : Option FieldType} {rest : List Value} {a1 a2 a3 a4 a5 : Value} {P : fc_M → Prop} (hd : decode cc pc = .ok (.invokestatic i, 3)) (hG : GoodIn lw_all (va_wsS y.cls i y2 (ws_ y2 c2 n2 r2))) (hpar : y2.cls ≠ "java/lang/invoke/MethodHandle" ∧ y2.cls ≠ "java/lang/invoke/VarHandle" ∧ (parseMethodDescriptor y2.desc).map (fun d => d.parameters.length) = some 5) (hdd : d2 + 1 ≤ d) (hn2 : n2 ≤ 45) (hrest : (rest.map fun v => v.category).sum ≤ 8) (hC : fc_CX g l y2 c2 n2 r2 d2 [a1, a2, a3, a4, a5] M (fc_rv P))
    (kk : ∀ (M2 : fc_M), P M2 → fc_X g l y cc nL ret d n0 s0 M2 (pc + 3) L rest Q) : fc_X g l y cc nL ret d n0 s0 M pc L (a5 :: a4 :: a3 :: a2 :: a1 :: rest) Q := by
  obtain ⟨o2, M2, ⟨ho, hP⟩, hC2⟩ := hC
  exact fc_callS (As := [a1, a2, a3, a4, a5]) hd hG hpar hdd hn2 hrest rfl hC2 ho (kk M2 hP)
theorem x_V5r {y2 : MethodName} {c2 : ByteArray} {n2 d2 b i N : Nat} {r2 : Option FieldType} {rest : List Value} {T : u_T} {a1 a2 a3 a4 a5 : Value} {P : Value → fc_M → Prop} (ci : Nat) (hd : decode cc pc = .ok (.invokevirtual i, 3)) (hG : GoodIn lw_all (wsV y.cls i y2.cls y2 (ws_ y2 c2 n2 r2))) (hpar : y2.cls = y2.cls ∧ y2.cls ≠ "java/lang/invoke/MethodHandle" ∧ y2.cls ≠ "java/lang/invoke/VarHandle" ∧ (parseMethodDescriptor y2.desc).map (fun d => d.parameters.length) = some 5) (hcl : fcCl[ci]? = some (y2.cls, T, N)) (hb : b < fc_nx M) (hs : fc_sh M b = .inl ci) (hdd : d2 + 1 ≤ d) (hn2 : n2 ≤ 45) (hrest : (rest.map fun v => v.category).sum ≤ 8) (hC : fc_CX g l y2 c2 n2 r2 d2 (.ref (fc_B g + b) :: [a1, a2, a3, a4, a5]) M (fc_rr P))
    (kk : ∀ (w : Value) (M2 : fc_M), P w M2 → fc_X g l y cc nL ret d n0 s0 M2 (pc + 3) L (w :: rest) Q) : fc_X g l y cc nL ret d n0 s0 M pc L (a5 :: a4 :: a3 :: a2 :: a1 :: .ref (fc_B g + b) :: rest) Q := by
  obtain ⟨o2, M2, ⟨w, ho, hP⟩, hC2⟩ := hC
  exact fc_callV (As := [a1, a2, a3, a4, a5]) ci hd hG hpar hcl hb hs hdd hn2 hrest rfl hC2 ho (kk w M2 hP)
theorem x_S5r {y2 : MethodName} {c2 : ByteArray} {n2 d2 i : Nat} {r2 : Option FieldType} {rest : List Value} {a1 a2 a3 a4 a5 : Value} {P : Value → fc_M → Prop} (hd : decode cc pc = .ok (.invokestatic i, 3)) (hG : GoodIn lw_all (va_wsS y.cls i y2 (ws_ y2 c2 n2 r2))) (hpar : y2.cls ≠ "java/lang/invoke/MethodHandle" ∧ y2.cls ≠ "java/lang/invoke/VarHandle" ∧ (parseMethodDescriptor y2.desc).map (fun d => d.parameters.length) = some 5) (hdd : d2 + 1 ≤ d) (hn2 : n2 ≤ 45) (hrest : (rest.map fun v => v.category).sum ≤ 8) (hC : fc_CX g l y2 c2 n2 r2 d2 [a1, a2, a3, a4, a5] M (fc_rr P))
    (kk : ∀ (w : Value) (M2 : fc_M), P w M2 → fc_X g l y cc nL ret d n0 s0 M2 (pc + 3) L (w :: rest) Q) : fc_X g l y cc nL ret d n0 s0 M pc L (a5 :: a4 :: a3 :: a2 :: a1 :: rest) Q := by
  obtain ⟨o2, M2, ⟨w, ho, hP⟩, hC2⟩ := hC
  exact fc_callS (As := [a1, a2, a3, a4, a5]) hd hG hpar hdd hn2 hrest rfl hC2 ho (kk w M2 hP)
end FCC
