set_option maxRecDepth 100000
/-! ===== what throws: athrow, a call that throws, a handler ===== -/
section FCTH
variable {g : fc_G} {l : Launch} {y : MethodName} {cc : ByteArray} {nL : Nat} {ret : Option FieldType} {d n0 s0 : Nat} {M : fc_M} {pc : Nat} {L : List (Option Value)} {st : List Value} {Q : Outcome → fc_M → Prop}
variable {R : Room} {p : Program} {e : Env} {s : State} {m : MethodId} {args : Array Value} {below : List Frame} {meth : Method} {c : Code} {T : State} {locs : List Loc} {cells slots : Nat}
theorem fc_nohand (X : Stand p l e R s m args below meth c T locs cells slots) (hn : s.methodNamed? y = some m) (h : (Cond.code y cc nL ret).before args s = true) (k : Nat) : ∀ x ∈ c.exceptionTable.toList, covers x k = false := by
  obtain ⟨meth', c', hm', hc', -, -, -, -, he', -⟩ := Cond.code_spec hn h
  cases X.method.symm.trans hm'
  cases X.code.symm.trans hc'
  intro x hx
  rw [Array.isEmpty_iff.mp he'] at hx
  cases hx
theorem x_athrow {a : Nat} (hd : decode cc pc = .ok (.athrow, 1)) (hq : Cond.code y cc nL ret ∈ lw_all) (hQ : Q (.threw (fc_B g + a)) M) : fc_X g l y cc nL ret d n0 s0 M pc L (.ref (fc_B g + a) :: st) Q := by
  refine ⟨_, M, hQ, ⟨Nat.le_refl _, Nat.le_refl _⟩, fun R p e s m args below meth c H ls locs hSt h1 h2 hR hS hL => ?_⟩
  intro T hT X
  obtain ⟨hx, hb', hml, hown, hrt, hlk, hts, hnm, henv, hrm, hsz, hold, hmn⟩ := hSt
  obtain ⟨st1, hrun, hend, hW, hsame⟩ := X.athrowLeaves hx (g := F0 m pc ls (.ref (fc_B g + a) :: st)) rfl rfl rfl (fc_nohand X hmn (hts _ hq) pc) rfl (by rw [hb']; exact hd) hlk
  exact ⟨_, st1, .threw (fc_B g + a), hrun, hend, ⟨rfl, by show fc_R g M T.heap; rw [hT]; exact hR, hS.F hT⟩, locs, ⟨hW, hsame⟩, hS.2.2⟩
/-- an invokevirtual up to the callee's entry -/
theorem fc_intoV (X : Stand p l e R s m args below meth c T locs cells slots) (hexec : p.tables.exec = Jvm.exec) {own C : String} {index : Nat} {y2 : MethodName}
    (hown : s.vm.findClass own = some m.cls) (hlink : (Cond.methodLink own index y2).before args s = true) (hinst : (Cond.instanceMethod y2).before args s = true) (hsel : (Cond.selects C y2 y2).before args s = true)
    (hsig : ∀ mk meth2, s.methodNamed? y2 = some mk → s.vm.method? mk = some meth2 → parseMethodDescriptor y2.desc = some meth2.sig) (hy : y2.cls ≠ "java/lang/invoke/MethodHandle" ∧ y2.cls ≠ "java/lang/invoke/VarHandle")
    {b : Addr} {cellB : Cell} (hcell : T.heap[b]? = some cellB) (hobj : cellB.vm.isStatics = false) (hcls : s.vm.findClass C = some cellB.cls)
    {gf : JFrame} (hg : gf.method = m) {As rest : List Value} (hlen : ∀ sig, parseMethodDescriptor y2.desc = some sig → As.length = sig.parameters.length)
    (hstack : gf.stack = As.reverse ++ .ref b :: rest) (hdg : decode c.code gf.pc = .ok (.invokevirtual index, 3)) :
    ∃ (vm₁ : Vm) (mk : MethodId), s.WarmedH vm₁ ∧ Stand p l e R s m args below meth c (T.setVm vm₁) locs cells slots ∧ (T.setVm vm₁).methodNamed? y2 = some mk ∧
      ∀ target, Steps p.tables e below (doInvoke e ((T.setVm vm₁).setTop { gf with stack := rest }) [] mk (Value.ref b :: As).toArray).1 target → Steps p.tables e below (T.setTop gf) target := by
  obtain ⟨mk, methM, hnamed, hmethM, hstM, habM⟩ := Cond.instanceMethod_spec hinst
  have hsigM := hsig mk methM hnamed hmethM
  obtain ⟨c2, r2, m2, q1, q2, q3, q4, kP, hkP, hkPi⟩ := Cond.selects_spec hsel
  cases hcls.symm.trans q1
  cases (State.methodFound?_of_named hnamed hy).symm.trans q2
  cases hnamed.symm.trans q3
  have hselP : selectMethod e.platform s.vm cellB.cls mk = .method mk := by rw [Launch.admits_selectMethod X.admits]; exact q4
  obtain ⟨vm₁, X₁, hstep₁⟩ := X.invokevirtual hexec hown hlink hnamed hmethM hstM hkP hkPi hy (a := b) (cell := cellB) hcell
    (fun z h => by rw [h] at hobj; cases hobj) hselP hmethM habM hkP hkPi (g := gf) hg (argsL := As) (rest := rest) (hlen _ hsigM) hstack hdg
  exact ⟨vm₁, mk, X₁.warmed, X₁, X₁.named hnamed, fun target h => hstep₁ _ fun acts => by rw [doInvoke_state]; exact h⟩
/-- the callee throws -/
theorem fc_thrown {y2 : MethodName} {c2 : ByteArray} {n2 d2 x : Nat} {r2 : Option FieldType} {av : List Value} {M2 : fc_M} {gf : JFrame} {ig : Instr} {len : Nat} {mk : MethodId}
    (hC : fc_C g l y2 c2 n2 r2 d2 av M (.threw x) M2) (X : Stand p l e R s m args below meth c T locs cells slots) (hg : gf.method = m) (hsize : gf.locals.size = c.maxLocals) (hdg : decode c.code gf.pc = .ok (ig, len))
    (hW : 2 * gf.monitorRoom + (gf.stack.map fun v => v.category).sum ≤ 8) (hn : T.methodNamed? y2 = some mk) (hws : ∀ w ∈ ws_ y2 c2 n2 r2, w.before av.toArray T = true) (hinit : (Cond.initialized y2.cls).before av.toArray T = true)
    (hfr : d2 + 1 ≤ R.frames) (hlo : 8 + (n2 + 11) + 64 * d2 ≤ R.locals) (hce : cells + (fc_nx M2 - fc_nx M) ≤ R.cells) (hsl : slots + (fc_sl M2 - fc_sl M) ≤ R.slots) (hR : fc_R g M T.heap) (henv : fc_Env g T) :
    ∃ (T' : State) (Lc : List Loc), Stand p l e R s m args below meth c T' (locs ++ Lc) (cells + (fc_nx M2 - fc_nx M)) (slots + (fc_sl M2 - fc_sl M)) ∧ (∀ q ∈ Lc, fc_A g q.base) ∧ fc_R g M2 T'.heap ∧ T.heap.size ≤ T'.heap.size ∧ (∀ q : Nat, q < T.heap.size → ¬ fc_A g q → T'.heap[q]? = T.heap[q]?) ∧
      Steps p.tables e below (doInvoke e (T.setTop gf) [] mk av.toArray).1 ((T'.setTop gf).pushFrame (.throwing x)) := by
  obtain ⟨methY, cY, hmY, hcY, -, hlY, -, -, -, -⟩ := Cond.code_spec hn (hws _ List.mem_cons_self)
  obtain ⟨kY, hkY, -⟩ := className_of_methodNamed hn
  have hinitY : kY.init = .initialized := Cond.initialized_spec (findClass_of_methodNamed hn) hkY hinit
  have h : At T gf.method c below := by rw [hg]; exact X.here
  have happ : (headSpec (ws_ y2 c2 n2 r2) ({ frames := d2, cells := fc_nx M2 - fc_nx M, slots := fc_sl M2 - fc_sl M, locals := 64 * d2 })).appliesLoose y2 e.platform (T.calling gf mk av.toArray) = true :=
    Spec.appliesLoose_calling (g := gf) h hdg hn hkY hinitY
      (X.room_calling (g := gf) (R' := ({ frames := d2, cells := fc_nx M2 - fc_nx M, slots := fc_sl M2 - fc_sl M, locals := 64 * d2 } : Room)) hsize hmY hcY hfr (by rw [hlY]; show _ + 64 * d2 ≤ _; omega) hce hsl) (atoms_intro hws)
  obtain ⟨mid, hmid⟩ := h.above
  have hfrm : (T.setTop gf).frames = (.java gf :: mid) ++ below := by rw [State.frames_setTop' gf h.top, hmid]; rfl
  obtain ⟨o, s₂, hsteps, -, hend, hq⟩ := Steps.callFree hC.2 p X.admits X.cas X.clock (acts := []) hfrm happ (fc_blind av.toArray T gf mk ⟨rfl, hR, henv⟩) trivial
  obtain ⟨⟨ho, hR2, hz, hk⟩, Lc, ⟨hW2, hsame⟩, hfree⟩ := hq
  subst ho
  rw [State.frames_setTop' gf h.top, X.tail] at hend
  obtain ⟨T', X', hW', hsame', ht⟩ := X.outOfThrown hg (mk := mk) (a := av.toArray) (t := s₂) hend hW2 hsame
  have eh : s₂.heap = T'.heap := by rw [ht]; exact Stand.throwing_heap T' gf x
  rw [ht] at hsteps
  rw [eh] at hR2 hz hk
  exact ⟨T', Lc, X', hfree, hR2, hz, hk, hsteps⟩
/-- an invokevirtual whose callee throws, as far as the note over this frame -/
theorem fc_runVt {y2 : MethodName} {c2 : ByteArray} {n2 d2 b i x : Nat} {r2 : Option FieldType} {As rest : List Value} {Tf : u_T} {N : Nat} {M2 Mf : fc_M} {ls : Array Slot} {H : Heap} (ci : Nat) (hSt : fc_St g y cc nL ret d n0 s0 Mf R p s m args meth c) (h1 : n0 ≤ fc_nx M) (h2 : s0 ≤ fc_sl M) (hR : fc_R g M H) (hS : va_S (fc_A g) s.heap H locs) (hL : fc_L nL L ls) (m1 : fc_nx M2 ≤ fc_nx Mf) (m2 : fc_sl M2 ≤ fc_sl Mf)
    (hd : decode cc pc = .ok (.invokevirtual i, 3)) (hG : GoodIn lw_all (wsV y.cls i y2.cls y2 (ws_ y2 c2 n2 r2))) (hpar : y2.cls = y2.cls ∧ y2.cls ≠ "java/lang/invoke/MethodHandle" ∧ y2.cls ≠ "java/lang/invoke/VarHandle" ∧ (parseMethodDescriptor y2.desc).map (fun d => d.parameters.length) = some As.length) (hcl : fcCl[ci]? = some (y2.cls, Tf, N)) (hb : b < fc_nx M) (hs : fc_sh M b = .inl ci) (hdd : d2 + 1 ≤ d) (hn2 : n2 ≤ 45) (hrest : (rest.map fun v => v.category).sum ≤ 8)
    (hC : fc_C g l y2 c2 n2 r2 d2 (.ref (fc_B g + b) :: As) M (.threw x) M2) (hT : T.heap = H) (X : Stand p l e R s m args below meth c T locs (fc_nx M - n0) (fc_sl M - s0)) :
    ∃ (T' : State) (locs' : List Loc), Stand p l e R s m args below meth c T' locs' (fc_nx M2 - n0) (fc_sl M2 - s0) ∧ fc_R g M2 T'.heap ∧ va_S (fc_A g) s.heap T'.heap locs' ∧
      ∀ target, Steps p.tables e below ((T'.setTop (F0 m pc ls rest)).pushFrame (.throwing x)) target → Steps p.tables e below (T.setTop (F0 m pc ls (As.reverse ++ .ref (fc_B g + b) :: rest))) target := by
  have h4 := hR.2.2 b hb
  rw [hs] at h4
  obtain ⟨r, h1', cell, q1, q2, q3, q4⟩ := h4
  have hr : r = (y2.cls, Tf, N) := Option.some.inj (h1'.symm.trans hcl)
  subst hr
  obtain ⟨hx, hb', hml, hown, hrt, hlk, hts, hnm, henv, hrm, -⟩ := id hSt
  have hfc := (henv.1.1 ci _ hcl).2.1
  have cw := cwV (R := R) (rm := ({ frames := d2, cells := fc_nx M2 - fc_nx M, slots := fc_sl M2 - fc_sl M, locals := 64 * d2 } : Room)) As.length hts hG rfl rfl rfl hpar ⟨Nat.le_trans hdd hrm.1, by show 8 + (n2 + 11) + 64 * d2 ≤ R.locals; omega⟩
  obtain ⟨⟨-, -, -, -, hws, hcw, hcode, hini, hy, hlen, hl⟩, hin, hse⟩ := cw
  obtain ⟨vm₁, mk, hW₁, X₁, hnamed, hstep⟩ := fc_intoV X hx hown hl hin hse (fun mk meth2 e1 e2 => by
      obtain ⟨meth', c', hm', -, -, -, -, -, -, hsg⟩ := Cond.code_spec e1 hcode
      cases e2.symm.trans hm'
      exact hsg) hy (by rw [hT]; exact q1) (by rw [q3]; rfl) (by rw [q2]; exact hfc) (gf := F0 m pc ls (As.reverse ++ .ref (fc_B g + b) :: rest)) rfl (As := As) (rest := rest) (fun sig h => hlen sig h) rfl (by rw [hb']; exact hd)
  have c1 := hC.1.1
  have c2' := hC.1.2
  obtain ⟨T', Lc, X', hfree, hR2, hz, hk, hsteps⟩ := fc_thrown hC X₁ (gf := F0 m pc ls rest) rfl (hL.1.trans hml.symm) (by rw [hb']; exact hd) (lv_room hrest) hnamed (fun w hw => hws w hw _ _ X₁.warmed) (word_at X₁.warmed (Or.inl (by first | rfl | simp [Cond.onTables, Cond.keeps, Cond.steady])) hini) (Nat.le_trans hdd hrm.1) (by show 8 + (n2 + 11) + 64 * d2 ≤ R.locals; omega) (by have := hrm.2.2.1; omega) (by have := hrm.2.2.2; omega) (by show fc_R g M T.heap; rw [hT]; exact hR) (henv.warm hW₁)
  have hz' : H.size ≤ T'.heap.size := by rw [← hT]; exact hz
  have hk' : ∀ q : Nat, q < H.size → ¬ fc_A g q → T'.heap[q]? = H[q]? := by rw [← hT]; exact hk
  have n1 : fc_nx M - n0 + (fc_nx M2 - fc_nx M) = fc_nx M2 - n0 := by omega
  have n2' : fc_sl M - s0 + (fc_sl M2 - fc_sl M) = fc_sl M2 - s0 := by omega
  rw [n1, n2'] at X'
  refine ⟨T', locs ++ Lc, X', hR2, ⟨Nat.le_trans hS.1 hz', fun q a1 a2 => by rw [hk' q (Nat.lt_of_lt_of_le a1 hS.1) a2]; exact hS.2.1 q a1 a2, fun q hq => ?_⟩, fun target h => hstep target (hsteps.trans h)⟩
  rcases List.mem_append.mp hq with h | h
  · exact hS.2.2 q h
  · exact hfree q h
theorem fc_callVt {y2 : MethodName} {c2 : ByteArray} {n2 d2 b i x : Nat} {r2 : Option FieldType} {As rest st0 : List Value} {Tf : u_T} {N : Nat} {M2 : fc_M} (ci : Nat) (hd : decode cc pc = .ok (.invokevirtual i, 3)) (hG : GoodIn lw_all (wsV y.cls i y2.cls y2 (ws_ y2 c2 n2 r2))) (hpar : y2.cls = y2.cls ∧ y2.cls ≠ "java/lang/invoke/MethodHandle" ∧ y2.cls ≠ "java/lang/invoke/VarHandle" ∧ (parseMethodDescriptor y2.desc).map (fun d => d.parameters.length) = some As.length) (hcl : fcCl[ci]? = some (y2.cls, Tf, N)) (hb : b < fc_nx M) (hs : fc_sh M b = .inl ci) (hdd : d2 + 1 ≤ d) (hn2 : n2 ≤ 45) (hrest : (rest.map fun v => v.category).sum ≤ 8) (hst : st0 = As.reverse ++ .ref (fc_B g + b) :: rest)
    (hq : Cond.code y cc nL ret ∈ lw_all) (hC : fc_C g l y2 c2 n2 r2 d2 (.ref (fc_B g + b) :: As) M (.threw x) M2) (hQ : Q (.threw x) M2) : fc_X g l y cc nL ret d n0 s0 M pc L st0 Q := by
  subst hst
  refine ⟨_, M2, hQ, hC.1, fun R p e s m args below meth c H ls locs hSt h1 h2 hR hS hL => ?_⟩
  intro T hT X
  obtain ⟨T', locs', X', hR2, hS2, hstep⟩ := fc_runVt ci hSt h1 h2 hR hS hL (Nat.le_refl _) (Nat.le_refl _) hd hG hpar hcl hb hs hdd hn2 hrest hC hT X
  obtain ⟨hx, hb', hml, hown, hrt, hlk, hts, hnm, henv, hrm, hsz, hold, hmn⟩ := hSt
  obtain ⟨st1, hrun, hend, hW, hsame⟩ := X'.leaveThrown x (g := F0 m pc ls rest) rfl rfl rfl (fc_nohand X' hmn (hts _ hq) pc) hlk
  exact ⟨_, hstep _ st1, .threw x, hrun, hend, ⟨rfl, hR2, hS2.F rfl⟩, locs', ⟨hW, hsame⟩, hS2.2.2⟩
/-- a handler's class, resolved or not -/
theorem fc_goCold {f : JFrame} {a : Addr} {u : State} {en : ExceptionTableEntry} {t : List ExceptionTableEntry} {cX : ClassId} {cell : Cell} {vm' : Vm} {Qh : Handler → Pre} {E : CtlPost} {dd : Bool} {acts : List Action} (hx : covers en f.pc = true) (h0 : en.catchType ≠ 0)
    (hg : (Jvm.resolveClass f.method.cls en.catchType).Gives e.toSetting u.vm (.ok cX) vm') (hsz : vm'.classes.size ≤ u.vm.classes.size) (hcell : u.heap[a]? = some cell) (hobj : ∀ k, cell.vm ≠ .statics k) (hk : ∃ k, vm'.classes[cell.cls]? = some k) (hc : ∃ k, vm'.classes[cX]? = some k) (hfit : vm'.assignable cell.cls cX = true) :
    wp (findHandler.go f a (en :: t)) Qh E e dd acts u ↔ Qh (.found en.handlerPc) dd acts (u.setVm vm') := by
  obtain ⟨ha, ht⟩ := hg.op (op := VmOp.resolveClass f.method.cls en.catchType) rfl
  simp only [covers] at hx
  simp [findHandler.go, hx, h0, ha, ht, hsz, hcell, hobj, hk, hc, hfit, VmOp.dirties, VmOp.acts]
/-- the note over this frame is caught by a handler of its class -/
theorem fc_caught (X : Stand p l e R s m args below meth c T locs cells slots) {x : Addr} {gf : JFrame} (hg : gf.method = m) {own C : String} {index : Nat} (hown : s.vm.findClass own = some m.cls) (hclink : (Cond.classLink own index C).before args s = true) {cell : Cell} (hcell : T.heap[x]? = some cell) (hobj : cell.vm = .none) (hcls : s.vm.findClass C = some cell.cls)
    {pre rest : List ExceptionTableEntry} {en : ExceptionTableEntry} (hsplit : c.exceptionTable.toList = pre ++ en :: rest) (hskip : ∀ y ∈ pre, covers y gf.pc = false) (hx : covers en gf.pc = true) (hct : en.catchType = index) (h0 : index ≠ 0) :
    ∃ vm₁ : Vm, Stand p l e R s m args below meth c (T.setVm vm₁) locs cells slots ∧ ∀ target, Steps p.tables e below ((T.setVm vm₁).setTop { gf with pc := en.handlerPc, stack := [.ref x] }) target → Steps p.tables e below ((T.setTop gf).pushFrame (.throwing x)) target := by
  subst hg
  subst hct
  have hpl : e.platform.magicAccessors = ({} : Platform).magicAccessors := by rw [X.admits.platform]
  obtain ⟨c0, hfc0, hcl⟩ := Cond.classLink_spec hown hclink e.platform hpl
  cases hcls.symm.trans hfc0
  obtain ⟨hg₁, hwarm₁, hready₁⟩ := State.classEntry (e := e) X.warmed hcl
  have hsz : (T.vm.noted gf.method.cls en.catchType (.cls cell.cls)).classes.size ≤ T.vm.classes.size := by rw [Vm.size_noted]; exact Nat.le_refl _
  generalize T.vm.noted gf.method.cls en.catchType (.cls cell.cls) = vm₁ at hg₁ hwarm₁ hready₁ hsz
  have X₁ := X.noted hwarm₁
  obtain ⟨kX, hkX⟩ := Vm.classAt_of_findClass hcls
  obtain ⟨kX', hkX', -⟩ := hwarm₁.alike.2.2 _ _ hkX
  have hself : vm₁.assignable cell.cls cell.cls = true := by
    show vm₁.assignableAux (255 + 1) cell.cls cell.cls = true
    rw [Vm.assignableAux, Bool.or_eq_true, beq_iff_eq]
    exact Or.inl rfl
  refine ⟨vm₁, X₁, fun target h => ?_⟩
  obtain ⟨hgo, hw⟩ := X.here.throwing x
  refine Steps.head hgo hw ?_
  rw [stepThread_throwing (frames_entered X.here.top _)]
  generalize hu : (T.setTop gf).pushFrame (.throwing x) = u
  have huv : u.vm = T.vm := by rw [← hu]; exact Stand.throwing_vm T gf x
  have huh : u.heap = T.heap := by rw [← hu]; exact Stand.throwing_heap T gf x
  have hfind : ∀ (Qh : Handler → Pre) (E : CtlPost) (dd : Bool) (acts : List Action), wp (findHandler gf x) Qh E e dd acts u ↔ Qh (.found en.handlerPc) dd acts (u.setVm vm₁) := by
    intro Qh E dd acts
    rw [W.findHandler_eq (meth := meth) (code := c) (by rw [huv]; exact X.method') X.code, hsplit]
    clear hsplit
    induction pre with
    | nil => exact fc_goCold hx h0 (by rw [huv]; exact hg₁) (by rw [huv]; exact hsz) (by rw [huh]; exact hcell) (fun k q => by rw [hobj] at q; cases q) ⟨_, hkX'⟩ ⟨_, hkX'⟩ hself
    | cons z t ih =>
      rw [List.cons_append, W.findHandler_go_skip (hskip z (List.mem_cons_self ..))]
      exact ih (fun y hy => hskip y (List.mem_cons_of_mem _ hy))
  have hstep : (stepThrowing e u x (.java gf :: T.frames.tail)).1 = (u.setVm vm₁).setFrames (.java { gf with pc := en.handlerPc, stack := [.ref x] } :: T.frames.tail) := by
    simp only [stepThrowing, searchFrame, vmDo]
    generalize hr : Sem.go _ e false [] u = res
    obtain ⟨as, rfl, ha⟩ := Sem.eq_ok_of hr (a := Handler.found en.handlerPc) (s' := u.setVm vm₁) (acts' := []) (by simp [hfind _ _ _ _])
    rfl
  rw [hstep, ← hu]
  obtain ⟨g₀, hg⟩ := Option.isSome_iff_exists.mp X.here.top
  obtain ⟨r, hr⟩ := State.topJava?_eq_some.mp hg
  have hr1 : (T.setVm vm₁).frames = .java g₀ :: r := hr
  rw [State.setTop_of_frames _ hr1] at h
  have e5 : ∀ X Y, ((T.setFrames X).setVm vm₁).setFrames Y = (T.setVm vm₁).setFrames Y := fun X Y => State.setFrames_setFrames (T.setVm vm₁) X Y
  rw [State.pushFrame, State.setTop_of_frames _ hr, State.setFrames_setFrames]
  rw [hr, e5]
  exact h
theorem fc_callVc {y2 : MethodName} {c2 : ByteArray} {n2 d2 b i a sp ep hp ct : Nat} {r2 : Option FieldType} {As rest st0 : List Value} {Tf : u_T} {N : Nat} {M2 : fc_M} {pre post : List (Nat × Nat × Nat × Nat)} (ci : Nat) (hd : decode cc pc = .ok (.invokevirtual i, 3)) (hG : GoodIn lw_all (wsV y.cls i y2.cls y2 (ws_ y2 c2 n2 r2))) (hpar : y2.cls = y2.cls ∧ y2.cls ≠ "java/lang/invoke/MethodHandle" ∧ y2.cls ≠ "java/lang/invoke/VarHandle" ∧ (parseMethodDescriptor y2.desc).map (fun d => d.parameters.length) = some As.length) (hcl : fcCl[ci]? = some (y2.cls, Tf, N)) (hb : b < fc_nx M) (hs : fc_sh M b = .inl ci) (hdd : d2 + 1 ≤ d) (hn2 : n2 ≤ 45) (hrest : (rest.map fun v => v.category).sum ≤ 8) (hst : st0 = As.reverse ++ .ref (fc_B g + b) :: rest)
    (hh : Cond.codeWith y cc nL ret (pre ++ (sp, ep, hp, ct) :: post) ∈ lw_all) (hskip : ∀ q ∈ pre, (decide (q.1 ≤ pc) && decide (pc < q.2.1)) = false) (hcov : (decide (sp ≤ pc) && decide (pc < ep)) = true) (hct : ct ≠ 0) (hclk : Cond.classLink y.cls ct RX7 ∈ lw_all)
    (hC : fc_C g l y2 c2 n2 r2 d2 (.ref (fc_B g + b) :: As) M (.threw (fc_B g + a)) M2) (ha : a < fc_nx M2) (hsa : fc_sh M2 a = .inl 7) (kk : fc_X g l y cc nL ret d n0 s0 M2 hp L [.ref (fc_B g + a)] Q) : fc_X g l y cc nL ret d n0 s0 M pc L st0 Q := by
  subst hst
  obtain ⟨o, Mf, hQ, hb0, hE⟩ := kk
  refine ⟨o, Mf, hQ, ⟨Nat.le_trans hC.1.1 hb0.1, Nat.le_trans hC.1.2 hb0.2⟩, fun R p e s m args below meth c H ls locs hSt h1 h2 hR hS hL => ?_⟩
  intro T hT X
  obtain ⟨T', locs', X', hR2, hS2, hstep⟩ := fc_runVt ci hSt h1 h2 hR hS hL hb0.1 hb0.2 hd hG hpar hcl hb hs hdd hn2 hrest hC hT X
  obtain ⟨hx, hb', hml, hown, hrt, hlk, hts, hnm, henv, hrm, hsz, hold, hmn⟩ := id hSt
  obtain ⟨m', meth', c', hn', hm', hc', -, -, htab, -, -, -⟩ := Cond.codeWith_spec (hts _ hh)
  cases hmn.symm.trans hn'
  cases X'.method.symm.trans hm'
  cases X'.code.symm.trans hc'
  obtain ⟨l1, l2, e1, e2, e3⟩ := List.map_eq_append_iff.mp htab
  obtain ⟨en, l3, e4, e5, e6⟩ := List.map_eq_cons_iff.mp e3
  subst e4
  have h4 := hR2.2.2 a ha
  rw [hsa] at h4
  obtain ⟨r, h1', cell, q1, q2, q3, q4⟩ := h4
  have hr : r = (RX7, TX7, 8) := Option.some.inj (h1'.symm.trans rfl)
  subst hr
  have hfc := (henv.1.1 7 _ rfl).2.1
  have e51 : en.startPc = sp ∧ en.endPc = ep ∧ en.handlerPc = hp ∧ en.catchType = ct := by
    simp only [Prod.mk.injEq] at e5
    exact e5
  obtain ⟨e51, e52, e53, e54⟩ := e51
  obtain ⟨vm₁, X₁, hst2⟩ := fc_caught X' (x := fc_B g + a) (gf := F0 m pc ls rest) rfl hown (hts _ hclk) q1 q3 (by rw [q2]; exact hfc) e1 (fun z hz => by
      have := hskip _ (e2 ▸ List.mem_map_of_mem hz)
      exact this) (by show (decide (en.startPc ≤ pc) && decide (pc < en.endPc)) = true; rw [e51, e52]; exact hcov) e54 hct
  obtain ⟨t2, a1, b1⟩ := hE R p e s m args below meth c T'.heap ls locs' hSt (Nat.le_trans h1 hC.1.1) (Nat.le_trans h2 hC.1.2) hR2 hS2 hL (T'.setVm vm₁) rfl X₁
  refine ⟨t2, hstep _ (hst2 _ ?_), b1⟩
  rw [e53]
  exact a1
end FCTH
