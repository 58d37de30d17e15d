set_option maxRecDepth 100000
/-! ===== a call of a method with handlers, that returns ===== -/
section T99ZZZO
variable {g : fc_G} {l : Launch} {y : MethodName} {cc : ByteArray} {nL : Nat} {ret : Option FieldType} {d n0 s0 : Nat} {M : fc_M} {pc : Nat} {L : List (Option Value)} {st : List Value} {Q : Outcome → fc_M → Prop}
variable {R : Room} {p : Program} {e : Env} {s : State} {m : MethodId} {args : Array Value} {below : List Frame} {meth : Method} {c : Code} {T : State} {locs : List Loc} {cells slots : Nat}
theorem fc_returned {y2 : MethodName} {c2 : ByteArray} {n2 d2 : Nat} {r2 : Option FieldType} {hh : List (Nat × Nat × Nat × Nat)} {av : List Value} {M2 : fc_M} {v : Option Value} {gf : JFrame} {ig : Instr} {len : Nat} {mk : MethodId}
    (hC : fc_Cw g l y2 (wsW_ y2 c2 n2 r2 hh) d2 av M (.returned v) M2) (X : Stand p l e R s m args below meth c T locs cells slots) (hg : gf.method = m) (hsize : gf.locals.size = c.maxLocals) (hdg : decode c.code gf.pc = .ok (ig, len))
    (hW : 2 * gf.monitorRoom + (gf.stack.map fun v => v.category).sum ≤ 8) (hn : T.methodNamed? y2 = some mk) (hws : ∀ w ∈ wsW_ y2 c2 n2 r2 hh, w.before av.toArray T = true) (hinit : (Cond.initialized y2.cls).before av.toArray T = true)
    (hfr : d2 + 1 ≤ R.frames) (hlo : 8 + (n2 + 11) + 64 * d2 ≤ R.locals) (hce : cells + (fc_nx M2 - fc_nx M) ≤ R.cells) (hsl : slots + (fc_sl M2 - fc_sl M) ≤ R.slots) (hR : fc_R g M T.heap) (henv : fc_Env g T) :
    ∃ (t T' : State) (Lc : List Loc), Stand p l e R s m args below meth c T' (locs ++ Lc) (cells + (fc_nx M2 - fc_nx M)) (slots + (fc_sl M2 - fc_sl M)) ∧ (∀ q ∈ Lc, fc_A g q.base) ∧ T'.heap = t.heap ∧ T'.vm = t.vm ∧ fc_Qc g (.returned v) M2 av.toArray (T.calling gf mk av.toArray) (.returned v) t ∧
      Steps p.tables e below (doInvoke e (T.setTop gf) [] mk av.toArray).1 (T'.setTop { gf with pc := gf.pc + len, stack := v.toList ++ gf.stack }) := by
  obtain ⟨mk', methY, cY, hn', hmY, hcY, -, hlY, -, -, -, -⟩ := Cond.codeWith_spec (hws _ List.mem_cons_self)
  cases hn.symm.trans hn'
  obtain ⟨kY, hkY, -⟩ := className_of_methodNamed hn
  have hinitY : kY.init = .initialized := Cond.initialized_spec (findClass_of_methodNamed hn) hkY hinit
  have h : At T gf.method c below := by rw [hg]; exact X.here
  have happ : (headSpec (wsW_ y2 c2 n2 r2 hh) ({ frames := d2, cells := fc_nx M2 - fc_nx M, slots := fc_sl M2 - fc_sl M, locals := 64 * d2 })).appliesLoose y2 e.platform (T.calling gf mk av.toArray) = true :=
    Spec.appliesLoose_calling (g := gf) h hdg hn hkY hinitY
      (X.room_calling (g := gf) (R' := ({ frames := d2, cells := fc_nx M2 - fc_nx M, slots := fc_sl M2 - fc_sl M, locals := 64 * d2 } : Room)) hsize hmY hcY hfr (by rw [hlY]; show _ + 64 * d2 ≤ _; omega) hce hsl) (atoms_intro hws)
  obtain ⟨mid, hmid⟩ := h.above
  have hfrm : (T.setTop gf).frames = (.java gf :: mid) ++ below := by rw [State.frames_setTop' gf h.top, hmid]; rfl
  obtain ⟨o, s₂, hsteps, -, hend, hq⟩ := Steps.callFree hC.2 p X.admits X.cas X.clock (acts := []) hfrm happ (fc_blind av.toArray T gf mk ⟨rfl, hR, henv⟩) trivial
  obtain ⟨hq0, Lc, ⟨hW2, hsame⟩, hfree⟩ := hq
  have ho := hq0.1
  subst ho
  rw [State.frames_setTop' gf h.top, X.tail] at hend
  obtain ⟨T', X', hW', hsame', ht⟩ := X.outOf hg hdg (mk := mk) (a := av.toArray) (t := s₂) hend hW2 hsame
  have eh : T'.heap = s₂.heap := by rw [ht]; rfl
  have ev : T'.vm = s₂.vm := by rw [ht]; rfl
  refine ⟨s₂, T', Lc, X', hfree, eh, ev, hq0, ?_⟩
  rw [← ht]
  exact hsteps
theorem fc_callVW {y2 : MethodName} {c2 : ByteArray} {n2 d2 b i : Nat} {r2 : Option FieldType} {hh : List (Nat × Nat × Nat × Nat)} {As rest st0 : List Value} {Tf : u_T} {N : Nat} {M2 : fc_M} {o2 : Outcome} {v : Option Value} (ci : Nat) (hd : decode cc pc = .ok (.invokevirtual i, 3)) (hl : Cond.methodLink y.cls i y2 ∈ lw_all) (hin : Cond.instanceMethod y2 ∈ lw_all) (hse : Cond.selects y2.cls y2 y2 ∈ lw_all) (hini : Cond.initialized y2.cls ∈ lw_all) (hcode : Cond.codeWith y2 c2 n2 r2 hh ∈ lw_all) (hpar : y2.cls = y2.cls ∧ y2.cls ≠ "java/lang/invoke/MethodHandle" ∧ y2.cls ≠ "java/lang/invoke/VarHandle" ∧ (parseMethodDescriptor y2.desc).map (fun d => d.parameters.length) = some As.length) (hcl : fcCl[ci]? = some (y2.cls, Tf, N)) (hb : b < fc_nx M) (hs : fc_sh M b = .inl ci) (hdd : d2 + 1 ≤ d) (hn2 : n2 ≤ 45) (hrest : (rest.map fun v => v.category).sum ≤ 8) (hst : st0 = As.reverse ++ .ref (fc_B g + b) :: rest)
    (hC : fc_Cw g l y2 (wsW_ y2 c2 n2 r2 hh) d2 (.ref (fc_B g + b) :: As) M o2 M2) (ho : o2 = .returned v)
    (kk : fc_X g l y cc nL ret d n0 s0 M2 (pc + 3) L (v.toList ++ rest) Q) : fc_X g l y cc nL ret d n0 s0 M pc L st0 Q := by
  subst hst
  subst ho
  refine fc_callG (a := (Value.ref (fc_B g + b) :: As).toArray) rfl hC.1 (fun R p e s m args below meth c H ls locs Mf hSt h1 h2 hR hS hL m1 m2 => ?_) kk
  have h4 := hR.2.2 b hb
  rw [hs] at h4
  obtain ⟨r, h1', cell, q1, q2, q3, q4⟩ := h4
  have hr : r = (y2.cls, Tf, N) := Option.some.inj (h1'.symm.trans hcl)
  subst hr
  obtain ⟨hx, hb', hml, hown, hrt, hlk, hts, hnm, henv, hrm, -⟩ := id hSt
  have hfc := (henv.1.1 ci _ hcl).2.1
  intro T hT X
  obtain ⟨vm₁, mk, hW₁, X₁, hnamed, hstep⟩ := fc_intoV X hx hown (hts _ hl) (hts _ hin) (hts _ hse) (fun mk meth2 e1 e2 => by
      obtain ⟨mk', meth', c', hk', hm', -, -, -, -, -, -, hsg⟩ := Cond.codeWith_spec (hts _ hcode)
      cases e1.symm.trans hk'
      cases e2.symm.trans hm'
      exact hsg) ⟨hpar.2.1, hpar.2.2.1⟩ (by rw [hT]; exact q1) (by rw [q3]; rfl) (by rw [q2]; exact hfc) (gf := F0 m pc ls (As.reverse ++ .ref (fc_B g + b) :: rest)) rfl (As := As) (rest := rest) (fun sig h => by
      have := hpar.2.2.2
      rw [h] at this
      exact (Option.some.inj this).symm) rfl (by rw [hb']; exact hd)
  have c1 := hC.1.1
  have c2' := hC.1.2
  have hwd : ∀ w ∈ lw_all, ∀ a' : Array Value, w.before a' (T.setVm vm₁) = true := fun w hw a' => word_at X₁.warmed (lw_self w hw).2 (hts w hw)
  obtain ⟨t, T', Lc, X', hfree, hh1, hh2, hq, hsteps⟩ := fc_returned hC X₁ (gf := F0 m pc ls rest) rfl (hL.1.trans hml.symm) (by rw [hb']; exact hd) (lv_room hrest) hnamed (fun w hw => by
      rcases List.mem_cons.mp hw with h | h
      · rw [h]; exact hwd _ hcode _
      · exact hwd w h _) (hwd _ hini _) (Nat.le_trans hdd hrm.1) (by show 8 + (n2 + 11) + 64 * d2 ≤ R.locals; omega) (by have := hrm.2.2.1; omega) (by have := hrm.2.2.2; omega) (by show fc_R g M T.heap; rw [hT]; exact hR) (henv.warm hW₁)
  exact ⟨v, (T.setVm vm₁).calling (F0 m pc ls rest) mk (Value.ref (fc_B g + b) :: As).toArray, t, T', Lc, hT, X', hfree, hh1, hh2, hq, fun target h => hstep target (hsteps.trans h)⟩
end T99ZZZO
