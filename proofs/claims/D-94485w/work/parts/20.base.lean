set_option maxRecDepth 100000
/-! ===== BASE: a lighter judgement over the kit's W: memory by offsets from the law's start, exact ends ===== -/
abbrev fc_Sh : Type := Nat ⊕ (FieldType × Nat)
abbrev fc_M : Type := (Nat × Nat) × (Nat → fc_Sh) × (Nat → Nat → Value)
def fc_nx (M : fc_M) : Nat := M.1.1
def fc_sl (M : fc_M) : Nat := M.1.2
def fc_sh (M : fc_M) (a : Nat) : fc_Sh := M.2.1 a
def fc_ct (M : fc_M) (a k : Nat) : Value := M.2.2 a k
def fc_put (M : fc_M) (a k : Nat) (v : Value) : fc_M := (M.1, M.2.1, fun b j => if b = a ∧ j = k then v else M.2.2 b j)
def fc_new (M : fc_M) (sh : fc_Sh) (n : Nat) (f : Nat → Value) : fc_M := ((M.1.1 + 1, M.1.2 + n), fun a => if a = M.1.1 then sh else M.2.1 a, fun a k => if a = M.1.1 then f k else M.2.2 a k)
abbrev fc_G : Type := va_G × (FieldType → ClassId) × Nat × Heap × (Nat → Nat) × (Nat → Nat) × (Nat → Nat) × (Nat × Nat × (Nat → Int32))
def fc_D (g : fc_G) : va_G := g.1
def fc_dA (g : fc_G) : FieldType → ClassId := g.2.1
def fc_B (g : fc_G) : Nat := g.2.2.1
def fc_H0 (g : fc_G) : Heap := g.2.2.2.1
def fc_sK (g : fc_G) : Nat → Nat := g.2.2.2.2.1
def fc_sV (g : fc_G) : Nat → Nat := g.2.2.2.2.2.1
def fc_tk (g : fc_G) : Nat → Nat := g.2.2.2.2.2.2.1
def fc_sc (g : fc_G) : Nat × Nat × (Nat → Int32) := g.2.2.2.2.2.2.2
def fc_A (g : fc_G) : Nat → Prop := fun q => fc_B g ≤ q
def fcCl : List vw_C := [(RX0, TX0, 30), (RX1, TX1, 4), (RX2, TX2, 9), (RX3, TX3, 12), (RX4, TX4, 7), (RX5, TX5, 8), (RX6, TX6, 39), (RX7, TX7, 8), (RX9, TX9, 1), (RX10, TX10, 1), (RX11, TX11, 3), (RX12, TX12, 1)]
def fcTy : Nat → Nat → FieldType := fun ci => match ci with
  | 0 => tyX0
  | 1 => tyX1
  | 2 => tyX2
  | 3 => tyX3
  | 4 => tyX4
  | 5 => tyX5
  | 6 => tyX6
  | 7 => tyX7
  | 8 => tyX9
  | 9 => tyX10
  | 10 => tyX11
  | _ => tyX12
theorem fc_cls {ci : Nat} {r : vw_C} (h : fcCl[ci]? = some r) : (∀ w ∈ u_ws r.1 r.2.1 r.2.2, w ∈ lw_all) ∧ (∀ a, a < r.2.2 → ∀ b, b < r.2.2 → a ≠ b → (r.2.1 a).2.1 ≠ (r.2.1 b).2.1) ∧ (∀ k, k < r.2.2 → parseFieldDescriptor (r.2.1 k).2.2.1 = some (fcTy ci k)) := by
  match ci, h with
  | 0, h => cases h; exact ⟨in_X0, nmX0, tyX0_ok⟩
  | 1, h => cases h; exact ⟨in_X1, nmX1, tyX1_ok⟩
  | 2, h => cases h; exact ⟨in_X2, nmX2, tyX2_ok⟩
  | 3, h => cases h; exact ⟨in_X3, nmX3, tyX3_ok⟩
  | 4, h => cases h; exact ⟨in_X4, nmX4, tyX4_ok⟩
  | 5, h => cases h; exact ⟨in_X5, nmX5, tyX5_ok⟩
  | 6, h => cases h; exact ⟨in_X6, nmX6, tyX6_ok⟩
  | 7, h => cases h; exact ⟨in_X7, nmX7, tyX7_ok⟩
  | 8, h => cases h; exact ⟨in_X9, nmX9, tyX9_ok⟩
  | 9, h => cases h; exact ⟨in_X10, nmX10, tyX10_ok⟩
  | 10, h => cases h; exact ⟨in_X11, nmX11, tyX11_ok⟩
  | 11, h => cases h; exact ⟨in_X12, nmX12, tyX12_ok⟩
  | k + 12, h => simp [fcCl] at h
def fcTys : List FieldType := [.int, .byte, .boolean, .object "java/lang/String", .object "FourCars$Text", .object "FourCars$Term", .object "FourCars$Person", .object "FourCars$Car", .array .boolean, .array .int]
def fc_AT (U : State) (cA : ClassId) (ty : FieldType) : Prop := ArrOfT U cA ty ∧ U.vm.findClass ("[" ++ ty.toString) = some cA ∧ ∃ (kA : Class) (comp : ClassId), U.vm.classes[cA]? = some kA ∧ kA.kind = .array comp ty ∧ (∀ C, ty = .object C → U.vm.findClass C = some comp) ∧ (∀ t, ty = .array t → U.vm.findClass (FieldType.array t).toString = some comp)
theorem fc_AT.moved {u U : State} (hvm : u.vm.Alike U.vm) {cA : ClassId} {ty : FieldType} (h : fc_AT u cA ty) : fc_AT U cA ty := by
  obtain ⟨h1, h2, kA, comp, h3, h4, h5, h6⟩ := h
  obtain ⟨k', hk', he⟩ := hvm.2.2 _ _ h3
  exact ⟨arrOfT_moved hvm h1, by rw [hvm.findClass]; exact h2, k', comp, hk', by rw [he]; exact h4, fun C e => by rw [hvm.findClass]; exact h5 C e, fun t e => by rw [hvm.findClass]; exact h6 t e⟩
def fcStr : List (String × Nat × String × List Int32) := [("FourCars", 15, "cost", [99, 111, 115, 116]), ("FourCars", 17, "never", [110, 101, 118, 101, 114]), ("FourCars", 23, "floors", [102, 108, 111, 111, 114, 115]), ("FourCars", 25, "car", [99, 97, 114]), ("FourCars", 27, "skip", [115, 107, 105, 112]), ("FourCars", 32, "far", [102, 97, 114]), ("FourCars", 34, "same", [115, 97, 109, 101]), ("FourCars", 36, "against", [97, 103, 97, 105, 110, 115, 116]), ("FourCars", 38, "load", [108, 111, 97, 100]), ("FourCars", 40, "given", [103, 105, 118, 101, 110]), ("FourCars", 42, "idle", [105, 100, 108, 101]), ("FourCars", 44, "up", [117, 112]), ("FourCars", 46, "floor", [102, 108, 111, 111, 114]), ("FourCars", 48, "waits", [119, 97, 105, 116, 115]), ("FourCars", 53, "when", [119, 104, 101, 110]), ("FourCars", 55, "or", [111, 114]), ("FourCars", 57, "and", [97, 110, 100]), ("FourCars", 59, "not", [110, 111, 116]), ("FourCars", 205, ";+-*/()<=>", [59, 43, 45, 42, 47, 40, 41, 60, 61, 62]), ("FourCarsModel", 89, "floors", [102, 108, 111, 111, 114, 115]), ("FourCarsModel", 95, "car", [99, 97, 114]), ("FourCarsModel", 97, "skip", [115, 107, 105, 112]), ("FourCarsModel", 123, "when", [119, 104, 101, 110]), ("FourCarsModel", 125, "or", [111, 114]), ("FourCarsModel", 127, "and", [97, 110, 100]), ("FourCarsModel", 129, "not", [110, 111, 116]), ("FourCarsModel", 131, "cost", [99, 111, 115, 116]), ("FourCarsModel", 133, "never", [110, 101, 118, 101, 114]), ("FourCarsModel", 99, "far", [102, 97, 114]), ("FourCarsModel", 101, "same", [115, 97, 109, 101]), ("FourCarsModel", 103, "against", [97, 103, 97, 105, 110, 115, 116]), ("FourCarsModel", 105, "load", [108, 111, 97, 100]), ("FourCarsModel", 107, "given", [103, 105, 118, 101, 110]), ("FourCarsModel", 109, "idle", [105, 100, 108, 101]), ("FourCarsModel", 111, "up", [117, 112]), ("FourCarsModel", 113, "floor", [102, 108, 111, 111, 114]), ("FourCarsModel", 115, "waits", [119, 97, 105, 116, 115])]
def fc_Ext (g : fc_G) (U : State) : Prop :=
  (∀ (i : Nat) (q : String × Nat × String × List Int32), fcStr[i]? = some q → vk_R q.1 q.2.1 q.2.2.1 (fc_sK g i) U ∧ va_O "java/lang/String" (fc_sK g i) (fc_A g) U (fc_H0 g) ∧ va_OF "java/lang/String" "coder" "B" (.int 0) (fc_sK g i) (fc_A g) U (fc_H0 g) ∧ va_OF "java/lang/String" "value" "[B" (.ref (fc_sV g i)) (fc_sK g i) (fc_A g) U (fc_H0 g) ∧ va_T .byte (fc_sV g i) q.2.2.2.length (fun j => .int (q.2.2.2.getD j 0)) (fc_A g) U (fc_H0 g))
  ∧ va_En "FourCars$Token" "LFourCars$Token;" ["END", "NONE", "WORD", "NUMBER", "SIGN"] [] (fc_tk g) (fc_A g) U (fc_H0 g)
  ∧ va_Z "java/lang/String" "COMPACT_STRINGS" "Z" (.int 1) (fc_A g) U (fc_H0 g)
  ∧ va_Zq "jdk/internal/util/Preconditions" "SIOOBE_FORMATTER" "Ljava/util/function/BiFunction;" (fc_A g) U (fc_H0 g)
  ∧ va_Zq "java/lang/Throwable" "UNASSIGNED_STACK" "[Ljava/lang/StackTraceElement;" (fc_A g) U (fc_H0 g)
  ∧ va_Zq "java/lang/Throwable" "SUPPRESSED_SENTINEL" "Ljava/util/List;" (fc_A g) U (fc_H0 g)
  ∧ va_X (fc_sc g).1 (fc_sc g).2.1 (fc_sc g).2.2 U (fc_H0 g) ∧ (fc_sc g).1 < fc_B g
def fc_Nst (U : State) : Prop :=
  (∀ (a : String) (i : Nat) (b n d h : String), Cond.fieldLinkNest a i b n d h ∈ lw_tbl → va_Nw (.fieldLinkNest a i b n d h) U)
  ∧ (∀ (a : String) (i : Nat) (x : MethodName) (h : String), Cond.methodLinkNest a i x h ∈ lw_tbl → va_Nw (.methodLinkNest a i x h) U)
  ∧ (∀ (C T : String), Cond.castable C T ∈ lw_tbl → va_Nw (.castable C T) U)
  ∧ (∀ (x : MethodName), Cond.declares x ∈ lw_tbl → va_Nw (.declares x) U)
  ∧ (∀ (C : String), Cond.arrayOver (.object C) ∈ lw_tbl → va_AO C U)
def fc_Env (g : fc_G) (U : State) : Prop := va_K (fc_D g) fcCl [] U ∧ (∀ ty ∈ fcTys, fc_AT U (fc_dA g ty) ty) ∧ fc_Nst U ∧ fc_Ext g U
theorem fc_Nst.warm {s U : State} (hW : s.WarmedH U.vm) (h : fc_Nst s) : fc_Nst U :=
  ⟨fun a i b n d h0 q => va_Nw.warmF hW (h.1 a i b n d h0 q), fun a i x h0 q => va_Nw.warmM hW (h.2.1 a i x h0 q), fun C T q => va_Nw.warmC hW (h.2.2.1 C T q), fun x q => va_Nw.warmD hW (h.2.2.2.1 x q), fun C q => va_AO.moved hW.alike (h.2.2.2.2 C q)⟩
theorem fc_Ext.warm {g : fc_G} {s U : State} (hW : s.WarmedH U.vm) (h : fc_Ext g s) : fc_Ext g U := by
  obtain ⟨h1, h2, h3, h4, h5, h6, h7, h8⟩ := h
  exact ⟨fun i q hq => ⟨vk_R.warm hW (h1 i q hq).1, va_O.moved hW.alike (h1 i q hq).2.1, va_OF.moved hW.alike (h1 i q hq).2.2.1, va_OF.moved hW.alike (h1 i q hq).2.2.2.1, va_T.moved hW.alike (h1 i q hq).2.2.2.2⟩, va_En.moved hW.alike h2, va_Z.moved hW.alike h3, va_Zq.moved hW.alike h4, va_Zq.moved hW.alike h5, va_Zq.moved hW.alike h6, va_X.moved hW.alike h7, h8⟩
theorem fc_Env.warm {g : fc_G} {s U : State} (hW : s.WarmedH U.vm) (h : fc_Env g s) : fc_Env g U :=
  ⟨va_K.moved hW.alike h.1, fun ty ht => (h.2.1 ty ht).moved hW.alike, h.2.2.1.warm hW, h.2.2.2.warm hW⟩
theorem fc_alk {u U : State} (hv : u.vm = U.vm) : u.vm.Alike U.vm := by rw [hv]; exact Vm.Alike.refl U.vm
theorem fc_Nst.same {s U : State} (hv : s.vm = U.vm) (h : fc_Nst s) : fc_Nst U :=
  ⟨fun a i b n d h0 q => va_Nw.same rfl hv (h.1 a i b n d h0 q), fun a i x h0 q => va_Nw.same rfl hv (h.2.1 a i x h0 q), fun C T q => va_Nw.same rfl hv (h.2.2.1 C T q), fun x q => va_Nw.same rfl hv (h.2.2.2.1 x q), fun C q => va_AO.moved (fc_alk hv) (h.2.2.2.2 C q)⟩
theorem fc_Env.same {g : fc_G} {s U : State} (hv : s.vm = U.vm) (h : fc_Env g s) : fc_Env g U := by
  obtain ⟨k1, k2, k3, h1, h2, h3, h4, h5, h6, h7, h8⟩ := h
  have ha := fc_alk hv
  exact ⟨va_K.moved ha k1, fun ty ht => (k2 ty ht).moved ha, k3.same hv, fun i q hq => ⟨vk_R.same hv.symm (h1 i q hq).1, va_O.moved ha (h1 i q hq).2.1, va_OF.moved ha (h1 i q hq).2.2.1, va_OF.moved ha (h1 i q hq).2.2.2.1, va_T.moved ha (h1 i q hq).2.2.2.2⟩, va_En.moved ha h2, va_Z.moved ha h3, va_Zq.moved ha h4, va_Zq.moved ha h5, va_Zq.moved ha h6, va_X.moved ha h7, h8⟩
/-- a cell of the memory as the heap has it -/
def fc_cell (g : fc_G) (q : Nat) (sh : fc_Sh) (f : Nat → Value) (H : Heap) : Prop := match sh with
  | .inl ci => ∃ r : vw_C, fcCl[ci]? = some r ∧ t_OB q ((fc_D g).1 ci) r.2.2 ((fc_D g).2 ci) H f
  | .inr (ty, n) => ty ∈ fcTys ∧ H[q]? = some (arrV (fc_dA g ty) n f)
def fc_R (g : fc_G) (M : fc_M) (H : Heap) : Prop := H.size = fc_B g + fc_nx M ∧ (∀ q : Nat, q < fc_B g → H[q]? = (fc_H0 g)[q]?) ∧ ∀ a : Nat, a < fc_nx M → fc_cell g (fc_B g + a) (fc_sh M a) (fc_ct M a) H
def fc_L (nL : Nat) (L : List (Option Value)) (ls : Array Slot) : Prop := ls.size = nL ∧ lv_wf ls ∧ ∀ (i : Nat) (v : Value), L[i]? = some (some v) → ls[i]? = some (.val v)
def fc_Qc (g : fc_G) (o : Outcome) (M : fc_M) : Array Value → State → Outcome → State → Prop := fun _ st o' t => o' = o ∧ fc_R g M t.heap ∧ va_F (fc_A g) st t
def fc_St (g : fc_G) (y : MethodName) (cc : ByteArray) (nL : Nat) (ret : Option FieldType) (d n0 s0 : Nat) (Mf : fc_M) (R : Room) (p : Program) (s : State) (m : MethodId) (args : Array Value) (meth : Method) (c : Code) : Prop :=
  p.tables.exec = Jvm.exec ∧ c.code = cc ∧ c.maxLocals = nL ∧ s.vm.findClass y.cls = some m.cls ∧ meth.sig.returnType = ret ∧ meth.locks = false ∧ (∀ w ∈ lw_all, w.before args s = true) ∧ meth.name = y.name ∧ fc_Env g s ∧ (d ≤ R.frames ∧ 64 * d ≤ R.locals ∧ fc_nx Mf - n0 ≤ R.cells ∧ fc_sl Mf - s0 ≤ R.slots) ∧ s.heap.size = fc_B g + n0 ∧ (∀ q : Nat, q < fc_B g → s.heap[q]? = (fc_H0 g)[q]?) ∧ s.methodNamed? y = some m
/-- an end, returned or thrown -/
def fc_FE (first t : State) (L : List Loc) (k n : Nat) : Prop := first.WarmedH t.vm ∧ first.sameButNew ({ t with vm := first.vm } : State) L k n
def fc_MQ (below : List Frame) (Qc : Array Value → State → Outcome → State → Prop) (a : Array Value) (s : State) (mc ms : Nat) (free : Addr → Prop) : State → Prop := fun t => ∃ o, t.status = .running ∧ Ended t below o ∧ Qc a s o t ∧ ∃ L, fc_FE s t L mc ms ∧ ∀ q ∈ L, free q.base
/-- the machine at this frame, with this memory, comes to the end o with the memory Mf -/
def fc_E (g : fc_G) (l : Launch) (y : MethodName) (cc : ByteArray) (nL : Nat) (ret : Option FieldType) (d n0 s0 : Nat) (o : Outcome) (Mf : fc_M) (M : fc_M) (pc : Nat) (L : List (Option Value)) (st : List Value) : Prop :=
  (fc_nx M ≤ fc_nx Mf ∧ fc_sl M ≤ fc_sl Mf) ∧ ∀ (R : Room) (p : Program) (e : Env) (s : State) (m : MethodId) (args : Array Value) (below : List Frame) (meth : Method) (c : Code) (H : Heap) (ls : Array Slot) (locs : List Loc),
    fc_St g y cc nL ret d n0 s0 Mf R p s m args meth c → n0 ≤ fc_nx M → s0 ≤ fc_sl M → fc_R g M H → va_S (fc_A g) s.heap H locs → fc_L nL L ls →
    W p l e R s m args below meth c H locs (fc_nx M - n0) (fc_sl M - s0) (fc_MQ below (fc_Qc g o Mf) args s (fc_nx Mf - n0) (fc_sl Mf - s0) (fc_A g)) (F0 m pc ls st)
def fc_X (g : fc_G) (l : Launch) (y : MethodName) (cc : ByteArray) (nL : Nat) (ret : Option FieldType) (d n0 s0 : Nat) (M : fc_M) (pc : Nat) (L : List (Option Value)) (st : List Value) (Q : Outcome → fc_M → Prop) : Prop :=
  ∃ (o : Outcome) (Mf : fc_M), Q o Mf ∧ fc_E g l y cc nL ret d n0 s0 o Mf M pc L st
/-- a method's contract at exact start and end (its words: ws) -/
def fc_Cw (g : fc_G) (l : Launch) (y : MethodName) (ws : List Cond) (d : Nat) (av : List Value) (M : fc_M) (o : Outcome) (M' : fc_M) : Prop :=
  (fc_nx M ≤ fc_nx M' ∧ fc_sl M ≤ fc_sl M') ∧ MetFree l y (headSpec ws ({ frames := d, cells := fc_nx M' - fc_nx M, slots := fc_sl M' - fc_sl M, locals := 64 * d })) (va_Pc av (fun U => fc_R g M U.heap ∧ fc_Env g U)) (fun _ _ _ _ _ => True) (fun a st o' t => fc_Qc g o M' a st o' t ∧ ∃ L, fc_FE st t L (fc_nx M' - fc_nx M) (fc_sl M' - fc_sl M) ∧ ∀ q ∈ L, fc_A g q.base)
abbrev fc_C (g : fc_G) (l : Launch) (y : MethodName) (cc : ByteArray) (nL : Nat) (ret : Option FieldType) (d : Nat) (av : List Value) (M : fc_M) (o : Outcome) (M' : fc_M) : Prop := fc_Cw g l y (ws_ y cc nL ret) d av M o M'
theorem fc_Cw_met {g : fc_G} {l : Launch} {y : MethodName} {ws : List Cond} {d : Nat} {av : List Value} {M : fc_M} {o : Outcome} {M' : fc_M} {v : Option Value} (h : fc_Cw g l y ws d av M o M') (ho : o = .returned v) : Met l y ws ({ frames := d, cells := fc_nx M' - fc_nx M, slots := fc_sl M' - fc_sl M, locals := 64 * d }) (va_Pc av (fun U => fc_R g M U.heap ∧ fc_Env g U)) (fc_Qc g o M') (fc_nx M' - fc_nx M) (fc_sl M' - fc_sl M) (fc_A g) :=
  MetFree.mono h.2 (fun _ _ q => q) (fun _ _ _ _ _ q => q) (fun a s o' s' _ q => ⟨q.1, by
    obtain ⟨L, q1, q2⟩ := q.2
    exact ⟨L, ⟨⟨v, q.1.1.trans ho⟩, q1⟩, q2⟩⟩)
def fc_CX (g : fc_G) (l : Launch) (y : MethodName) (cc : ByteArray) (nL : Nat) (ret : Option FieldType) (d : Nat) (av : List Value) (M : fc_M) (Q : Outcome → fc_M → Prop) : Prop :=
  ∃ (o : Outcome) (M' : fc_M), Q o M' ∧ fc_C g l y cc nL ret d av M o M'
section FCX
variable {g : fc_G} {l : Launch} {y : MethodName} {cc : ByteArray} {nL : Nat} {ret : Option FieldType} {d n0 s0 : Nat} {M : fc_M} {pc : Nat} {L : List (Option Value)} {st : List Value} {Q : Outcome → fc_M → Prop}
/-- a step that changes the stack alone -/
theorem fc_go {pc' : Nat} {st' : List Value} (h : ∀ (R : Room) (p : Program) (e : Env) (s : State) (m : MethodId) (args : Array Value) (below : List Frame) (meth : Method) (c : Code) (H : Heap) (ls : Array Slot) (locs : List Loc) (cells slots : Nat) (Qs : State → Prop) (Mf : fc_M),
    fc_St g y cc nL ret d n0 s0 Mf R p s m args meth c → fc_R g M H → va_S (fc_A g) s.heap H locs → fc_L nL L ls → W p l e R s m args below meth c H locs cells slots Qs (F0 m pc' ls st') → W p l e R s m args below meth c H locs cells slots Qs (F0 m pc ls st))
    (k : fc_X g l y cc nL ret d n0 s0 M pc' L st' Q) : fc_X g l y cc nL ret d n0 s0 M pc L st Q := by
  obtain ⟨o, Mf, hQ, hb, hE⟩ := k
  exact ⟨o, Mf, hQ, hb, fun R p e s m args below meth c H ls locs hSt h1 h2 hR hS hL => h R p e s m args below meth c H ls locs _ _ _ Mf hSt hR hS hL (hE R p e s m args below meth c H ls locs hSt h1 h2 hR hS hL)⟩
/-- a branch -/
theorem fc_br {pc1 pc2 : Nat} {st' : List Value} {c0 : Prop} (h : ∀ (R : Room) (p : Program) (e : Env) (s : State) (m : MethodId) (args : Array Value) (below : List Frame) (meth : Method) (c : Code) (H : Heap) (ls : Array Slot) (locs : List Loc) (cells slots : Nat) (Qs : State → Prop) (Mf : fc_M),
    fc_St g y cc nL ret d n0 s0 Mf R p s m args meth c → (c0 → W p l e R s m args below meth c H locs cells slots Qs (F0 m pc1 ls st')) → (¬ c0 → W p l e R s m args below meth c H locs cells slots Qs (F0 m pc2 ls st')) → W p l e R s m args below meth c H locs cells slots Qs (F0 m pc ls st))
    (k1 : c0 → fc_X g l y cc nL ret d n0 s0 M pc1 L st' Q) (k2 : ¬ c0 → fc_X g l y cc nL ret d n0 s0 M pc2 L st' Q) : fc_X g l y cc nL ret d n0 s0 M pc L st Q := by
  by_cases hc : c0
  · obtain ⟨o, Mf, hQ, hb, hE⟩ := k1 hc
    exact ⟨o, Mf, hQ, hb, fun R p e s m args below meth c H ls locs hSt h1 h2 hR hS hL => h R p e s m args below meth c H ls locs _ _ _ Mf hSt (fun _ => hE R p e s m args below meth c H ls locs hSt h1 h2 hR hS hL) (fun n => absurd hc n)⟩
  · obtain ⟨o, Mf, hQ, hb, hE⟩ := k2 hc
    exact ⟨o, Mf, hQ, hb, fun R p e s m args below meth c H ls locs hSt h1 h2 hR hS hL => h R p e s m args below meth c H ls locs _ _ _ Mf hSt (fun n => absurd n hc) (fun _ => hE R p e s m args below meth c H ls locs hSt h1 h2 hR hS hL)⟩
/-- a store to a local -/
def fc_ok1 (L : List (Option Value)) (i : Nat) : Bool := match i with
  | 0 => true
  | j + 1 => match L[j]? with
    | some (some (.long _)) => false
    | some (some (.double _)) => false
    | _ => true
theorem fc_L_set {ls : Array Slot} {i : Nat} {v : Value} (h : fc_L nL L ls) (hi : i < nL) (hc : v.category = 1) (hok : fc_ok1 L i = true) : ∃ ls', storeLocals ls i v = some ls' ∧ fc_L nL (L.set i (some v)) ls' := by
  obtain ⟨h1, h2, h3⟩ := h
  obtain ⟨ls', e1, e2⟩ := lv_store1 (l := []) (v := v) ⟨h1, h2, fun q hq => by cases hq⟩ hi hc
  refine ⟨ls', e1, e2.1, e2.2.1, fun j w hj => ?_⟩
  by_cases hji : j = i
  · subst hji
    have hl : j < L.length := by
      rcases Nat.lt_or_ge j L.length with q | q
      · exact q
      · rw [List.set_eq_of_length_le q] at hj
        rw [List.getElem?_eq_none q] at hj
        cases hj
    rw [List.getElem?_set_self hl] at hj
    cases hj
    exact e2.2.2 (j, v) List.mem_cons_self
  · rw [List.getElem?_set_ne (Ne.symm hji)] at hj
    obtain ⟨ls2, f1, f2⟩ := lv_store1 (l := [(j, w)]) (v := v) ⟨h1, h2, fun q hq => by rw [List.mem_singleton.mp hq]; exact h3 j w hj⟩ hi hc
    rw [e1] at f1
    cases f1
    refine f2.2.2 (j, w) (List.mem_cons_of_mem _ (List.mem_filter.mpr ⟨List.mem_singleton.mpr rfl, ?_⟩))
    by_cases hj1 : j + 1 = i
    · subst hj1
      have : w.category = 1 := by
        simp only [fc_ok1, hj] at hok
        cases w <;> first | rfl | (simp at hok)
      simp [this]
    · simp [hji, hj1]
theorem fc_stl {i n : Nat} {v : Value} (hi : i < nL) (hc : v.category = 1) (hok : fc_ok1 L i = true) (h : ∀ (R : Room) (p : Program) (e : Env) (s : State) (m : MethodId) (args : Array Value) (below : List Frame) (meth : Method) (c : Code) (H : Heap) (ls ls' : Array Slot) (locs : List Loc) (cells slots : Nat) (Qs : State → Prop) (Mf : fc_M),
    fc_St g y cc nL ret d n0 s0 Mf R p s m args meth c → fc_L nL L ls → storeLocals ls i v = some ls' → W p l e R s m args below meth c H locs cells slots Qs (F0 m (pc + n) ls' st) → W p l e R s m args below meth c H locs cells slots Qs (F0 m pc ls (v :: st)))
    (k : fc_X g l y cc nL ret d n0 s0 M (pc + n) (L.set i (some v)) st Q) : fc_X g l y cc nL ret d n0 s0 M pc L (v :: st) Q := by
  obtain ⟨o, Mf, hQ, hb, hE⟩ := k
  refine ⟨o, Mf, hQ, hb, fun R p e s m args below meth c H ls locs hSt h1 h2 hR hS hL => ?_⟩
  obtain ⟨ls', e1, e2⟩ := fc_L_set hL hi hc hok
  exact h R p e s m args below meth c H ls ls' locs _ _ _ Mf hSt hL e1 (hE R p e s m args below meth c H ls' locs hSt h1 h2 hR hS e2)
end FCX
