set_option maxRecDepth 100000
section FCGRD2
variable {p : Program} {l : Launch} {e : Env} {R : Room} {s : State} {m : MethodId} {args : Array Value} {below : List Frame} {meth : Method} {c : Code} {T : State} {locs : List Loc} {cells slots : Nat}
theorem fts_ref {t : FieldType} {v : Value} (h : v = .null ∨ ∃ a, v = .ref a) : fits (.array t) v = true := by
  rcases h with rfl | ⟨a, rfl⟩ <;> rfl
theorem gd_st (X : Stand p l e R s m args below meth c T locs cells slots) (hexec : p.tables.exec = Jvm.exec) {own : String} {index : Nat} {ty : FieldType} {cA cR cq : ClassId} {kA kR : Class} (hown : s.vm.findClass own = some m.cls) (hclink : (Cond.classLink own index ("[" ++ (FieldType.array ty).toString)).before args s = true)
    (hfA : s.vm.findClass ("[" ++ (FieldType.array ty).toString) = some cA) (hA : s.vm.classes[cA]? = some kA) (hAk : kA.kind = .array cR (.array ty)) (hR : s.vm.classes[cR]? = some kR) (hRk : kR.kind = .array cq ty)
    {g : JFrame} (hg : g.method = m) (hdg : decode c.code g.pc = .ok (.multianewarray index 2, 4)) {n k : Int32} {rest : List Value} (hst : g.stack = .int k :: .int n :: rest) (hn : ¬ n < 0) (hk : ¬ k < 0) (hb1 : n.toNatClampNeg * 4 ≤ 536870912) (hb2 : k.toNatClampNeg * componentBytes ty ≤ 536870912) (hb3 : k.toNatClampNeg ≤ 536870912) (hft : fits ty (defaultValue ty) = true) (hdf : (defaultValue ty).isDefault = true)
    (hcells : cells + (1 + n.toNatClampNeg) ≤ R.cells) (hslots : slots + (n.toNatClampNeg + n.toNatClampNeg * k.toNatClampNeg) ≤ R.slots) :
    ∃ vm₁ : Vm, Stand p l e R s m args below meth c (gdS (T.setVm vm₁) cA cR n.toNatClampNeg k.toNatClampNeg (defaultValue ty) n.toNatClampNeg) (locs ++ (List.range n.toNatClampNeg).map fun j => ⟨T.heap.size, j⟩) (cells + 1 + n.toNatClampNeg) (slots + n.toNatClampNeg + n.toNatClampNeg * k.toNatClampNeg) ∧
      ∀ target, Steps p.tables e below ((gdS (T.setVm vm₁) cA cR n.toNatClampNeg k.toNatClampNeg (defaultValue ty) n.toNatClampNeg).setTop { g with pc := g.pc + 4, stack := .ref T.heap.size :: rest }) target → Steps p.tables e below (T.setTop g) target := by
  subst hg
  have hpl : e.platform.magicAccessors = ({} : Platform).magicAccessors := by rw [X.admits.platform]
  obtain ⟨c0, hfc0, hcl⟩ := Cond.classLink_spec hown hclink e.platform hpl
  cases hfA.symm.trans hfc0
  obtain ⟨hg₁, hwarm₁, hready₁⟩ := State.classEntry (e := e) X.warmed hcl
  generalize T.vm.noted g.method.cls index (.cls cA) = vm₁ at hg₁ hwarm₁ hready₁
  have hal : s.vm.Alike vm₁ := hwarm₁.alike
  obtain ⟨kA', hA', eA⟩ := hal.2.2 _ _ hA
  obtain ⟨kR', hR', eR⟩ := hal.2.2 _ _ hR
  have X₁ := X.noted hwarm₁
  obtain ⟨r1, r2⟩ := X.roomAbove hcells hslots
  have XF := gd_X X₁ cA cR n.toNatClampNeg k.toNatClampNeg (defaultValue ty) n.toNatClampNeg
  refine ⟨vm₁, XF, fun target hto => ?_⟩
  have hl1 : ¬ n.toNatClampNeg > e.platform.arrayLengthLimit := by rw [Launch.admits_arrayLengthLimit X.admits]; omega
  have hh1 : ¬ n.toNatClampNeg * componentBytes (.array ty) > e.platform.maxHeapBytes := by
    rw [Launch.admits_maxHeapBytes X.admits]; show ¬ n.toNatClampNeg * 4 > 536870912; omega
  have hl2 : ¬ k.toNatClampNeg > e.platform.arrayLengthLimit := by rw [Launch.admits_arrayLengthLimit X.admits]; omega
  have hh2 : ¬ k.toNatClampNeg * componentBytes ty > e.platform.maxHeapBytes := by rw [Launch.admits_maxHeapBytes X.admits]; omega
  jvm_step X.here [hexec, hdg]
  simp only [Op.multianewarray.sem, wp_bind', W.resolveClassAt_links (State.method?_setTop g X.here.top) hg₁]
  rw [W.popN, if_neg (by decide)]
  refine ⟨g, State.topJava?_setTop' (s := T.setVm vm₁) g X.here.top, [.int n, .int k], rest, rfl, hst, ?_⟩
  simp only [List.mapM_cons, List.mapM_nil, wp_bind', wp_pure']
  refine gd_mk (kA := kA') (kR := kR') (cR := cR) (comp := cq) (tA := .array ty) hA' (by rw [eA]; exact hAk) (fun v hv => fts_ref hv) hR' (by rw [eR]; exact hRk) hn hk hl1 hh1 hl2 hh2 hft hdf (by show T.heap.size + 1 + _ ≤ _; omega) (by show T.slotsUsed + _ + _ ≤ _; omega) (fun d' acts' => ?_)
  have e1 : ((T.setTop g).setVm vm₁).setTop { g with stack := rest } = (T.setVm vm₁).setTop { g with stack := rest } := by
    show ((T.setVm vm₁).setTop g).setTop _ = _
    rw [State.setTop_setTop]
  rw [e1, gd_t]
  simp only [wp_bind', W.mark, W.pushRef, State.topJava?_setTop' _ XF.here.top, Option.some.injEq, exists_eq_left', State.setTop_setTop, State.heap_setTop]
  intro acts
  simp [jvm, XF.here.top]
  exact hto
end FCGRD2
section FCGRD3
variable {g : fc_G} {l : Launch} {y : MethodName} {cc : ByteArray} {nL : Nat} {ret : Option FieldType} {d n0 s0 : Nat} {M : fc_M} {pc : Nat} {L : List (Option Value)} {st : List Value} {Q : Outcome → fc_M → Prop}
def fc_grd (g : fc_G) (M : fc_M) (ty : FieldType) (n k : Nat) : Nat → fc_M
  | 0 => fc_new M (.inr (.array ty, n)) n (fun _ => .null)
  | i + 1 => fc_put (fc_new (fc_grd g M ty n k i) (.inr (ty, k)) k (fun _ => defaultValue ty)) (fc_nx M) i (.ref (fc_B g + (fc_nx M + 1 + i)))
theorem grd_nx {ty : FieldType} {n k : Nat} : ∀ i, fc_nx (fc_grd g M ty n k i) = fc_nx M + 1 + i ∧ fc_sl (fc_grd g M ty n k i) = fc_sl M + n + i * k
  | 0 => ⟨rfl, by rw [Nat.zero_mul]; rfl⟩
  | i + 1 => by
    obtain ⟨h1, h2⟩ := (grd_nx i : fc_nx (fc_grd g M ty n k i) = fc_nx M + 1 + i ∧ fc_sl (fc_grd g M ty n k i) = fc_sl M + n + i * k)
    refine ⟨?_, ?_⟩
    · show fc_nx (fc_grd g M ty n k i) + 1 = _
      omega
    · show fc_sl (fc_grd g M ty n k i) + k = _
      rw [h2, Nat.succ_mul]; omega
theorem grd_0 {ty : FieldType} {n k : Nat} : ∀ i, fc_sh (fc_grd g M ty n k i) (fc_nx M) = .inr (.array ty, n) ∧ fc_ct (fc_grd g M ty n k i) (fc_nx M) = gdF (fc_B g + fc_nx M) i
  | 0 => ⟨sh_new, funext fun j => (ct_new).trans (if_neg (Nat.not_lt_zero j)).symm⟩
  | i + 1 => by
    obtain ⟨h1, h2⟩ := (grd_0 i : fc_sh (fc_grd g M ty n k i) (fc_nx M) = .inr (.array ty, n) ∧ fc_ct (fc_grd g M ty n k i) (fc_nx M) = gdF (fc_B g + fc_nx M) i)
    have hne : fc_nx M ≠ fc_nx (fc_grd g M ty n k i) := by rw [(grd_nx i).1]; omega
    have hs9 : fc_sh (fc_new (fc_grd g M ty n k i) (.inr (ty, k)) k (fun _ => defaultValue ty)) (fc_nx M) = .inr (.array ty, n) := (sh_newn hne).trans h1
    refine ⟨hs9, ?_⟩
    rw [← gdF_s, ← h2]
    funext j
    show (if fc_nx M = fc_nx M ∧ j = i then Value.ref (fc_B g + (fc_nx M + 1 + i)) else fc_ct (fc_new (fc_grd g M ty n k i) (.inr (ty, k)) k (fun _ => defaultValue ty)) (fc_nx M) j) = (if j = i then Value.ref (fc_B g + fc_nx M + 1 + i) else fc_ct (fc_grd g M ty n k i) (fc_nx M) j)
    by_cases e : j = i
    · rw [if_pos ⟨rfl, e⟩, if_pos e, show fc_B g + (fc_nx M + 1 + i) = fc_B g + fc_nx M + 1 + i by omega]
    · rw [if_neg (fun z => e z.2), if_neg e, ct_newn hne]
theorem grd_R {H0 : State} {cA cR : ClassId} {ty : FieldType} {n k : Nat} (h1 : FieldType.array ty ∈ fcTys) (h2 : ty ∈ fcTys) (hA : cA = fc_dA g (.array ty)) (hRr : cR = fc_dA g ty) (hR : fc_R g M H0.heap) : ∀ i, fc_R g (fc_grd g M ty n k i) (gdS H0 cA cR n k (defaultValue ty) i).heap
  | 0 => by
    refine fc_R_new hR (by simp [gdS]) (fun q hq => State.heap_pushCell_of_lt _ _ hq) ⟨h1, ?_⟩
    have e0 : gdF H0.heap.size 0 = fun _ => Value.null := funext fun j => if_neg (Nat.not_lt_zero j)
    rw [← hR.1, ← hA, ← e0]
    simp [gdS]
  | i + 1 => by
    have ih := grd_R (n := n) (k := k) h1 h2 hA hRr hR i
    obtain ⟨f1, f2, -, -⟩ := gd_f H0 cA cR n k (defaultValue ty) i
    obtain ⟨g1, g2⟩ := grd_0 (g := g) (M := M) (ty := ty) (n := n) (k := k) i
    have hne : fc_nx M ≠ fc_nx (fc_grd g M ty n k i) := by rw [(grd_nx i).1]; omega
    have hlt : H0.heap.size < (gdS H0 cA cR n k (defaultValue ty) i).heap.size := by rw [f1]; omega
    have ihN : fc_R g (fc_new (fc_grd g M ty n k i) (.inr (ty, k)) k (fun _ => defaultValue ty)) ((gdS H0 cA cR n k (defaultValue ty) i).pushCell (arrV cR k (fun _ => defaultValue ty))).heap := by
      refine fc_R_new ih (by simp) (fun q hq => State.heap_pushCell_of_lt _ _ hq) ⟨h2, ?_⟩
      rw [← hRr, ← ih.1]
      simp
    have hq : ((gdS H0 cA cR n k (defaultValue ty) i).pushCell (arrV cR k (fun _ => defaultValue ty))).heap[H0.heap.size]? = some (arrV cA n (gdF H0.heap.size i)) := by
      rw [State.heap_pushCell_of_lt (h := hlt)]; exact f2
    have hlt2 : H0.heap.size < ((gdS H0 cA cR n k (defaultValue ty) i).pushCell (arrV cR k (fun _ => defaultValue ty))).heap.size := (Array.getElem?_eq_some_iff.mp hq).1
    refine fc_R_put ihN (show fc_nx M < fc_nx (fc_grd g M ty n k i) + 1 by rw [(grd_nx i).1]; omega) ?_ ?_ ?_
    · rw [show fc_sh (fc_new (fc_grd g M ty n k i) (.inr (ty, k)) k (fun _ => defaultValue ty)) (fc_nx M) = .inr (.array ty, n) from (sh_newn hne).trans g1]
      refine ⟨h1, ?_⟩
      rw [show fc_ct (fc_new (fc_grd g M ty n k i) (.inr (ty, k)) k (fun _ => defaultValue ty)) (fc_nx M) = gdF (fc_B g + fc_nx M) i from (funext fun j => ct_newn hne).trans g2, show fc_B g + (fc_nx M + 1 + i) = fc_B g + fc_nx M + 1 + i by omega, gdF_s, ← hR.1, ← hA]
      exact State.heap_setCell_self hq
    · simp [gdS, State.setCell]
    · intro q hq2
      rw [← hR.1] at hq2
      exact State.heap_setCell_other (Ne.symm hq2)
theorem grd_S {H0 : State} {A : Nat → Prop} {Hs : Heap} {cA cR : ClassId} {n k : Nat} {dv : Value} {locs : List Loc} (h : va_S A Hs H0.heap locs) (hA : A H0.heap.size) : ∀ i, va_S A Hs (gdS H0 cA cR n k dv i).heap (locs ++ (List.range i).map fun j => ⟨H0.heap.size, j⟩)
  | 0 => by
    rw [show (locs ++ (List.range 0).map fun j => (⟨H0.heap.size, j⟩ : Loc)) = locs by simp]
    exact fc_S_new h (by simp [gdS]) (fun q hq => State.heap_pushCell_of_lt _ _ hq)
  | i + 1 => by
    have ih := grd_S (cA := cA) (cR := cR) (n := n) (k := k) (dv := dv) h hA i
    rw [List.range_succ, List.map_append, ← List.append_assoc]
    refine va_S.put (H := ((gdS H0 cA cR n k dv i).pushCell (arrV cR k (fun _ => dv))).heap) (fc_S_new ih (by simp) (fun q hq => State.heap_pushCell_of_lt _ _ hq)) (by simp [gdS, State.setCell]) (fun q hq => State.heap_setCell_other (Ne.symm hq)) hA
theorem x_grid {i n k : Nat} {ty : FieldType} (hd : decode cc pc = .ok (.multianewarray i 2, 4)) (h1 : FieldType.array ty ∈ fcTys) (h2 : ty ∈ fcTys) (hcl : Cond.classLink y.cls i ("[" ++ (FieldType.array ty).toString) ∈ lw_all) (hts2 : (FieldType.array ty).toString = "[" ++ ty.toString) (hn : n < 1000) (hk : k < 1000) (hcb : componentBytes ty ≤ 8) (hft : fits ty (defaultValue ty) = true) (hdf : (defaultValue ty).isDefault = true)
    (kk : fc_X g l y cc nL ret d n0 s0 (fc_grd g M ty n k n) (pc + 4) L (.ref (fc_B g + fc_nx M) :: st) Q) : fc_X g l y cc nL ret d n0 s0 M pc L (.int (nI k) :: .int (nI n) :: st) Q := by
  obtain ⟨o, Mf, hQ, hb0, hE⟩ := kk
  obtain ⟨e1, e2⟩ := grd_nx (g := g) (M := M) (ty := ty) (n := n) (k := k) n
  rw [e1, e2] at hb0
  have b1 := hb0.1
  have b2 := hb0.2
  refine ⟨o, Mf, hQ, ⟨by omega, by omega⟩, fun R p e s m args below meth c H ls locs hSt q1 q2 hR hS hL => ?_⟩
  obtain ⟨hx, hb, hml, hown, hrt, hlk, hts, hnm, henv, hrm, hrest⟩ := id hSt
  have hcn : (nI n).toNatClampNeg = n := nI_clamp (by omega)
  have hck : (nI k).toNatClampNeg = k := nI_clamp (by omega)
  obtain ⟨-, hfA, kA, comp, a1, a2, -, a3⟩ := henv.2.1 _ h1
  obtain ⟨-, hfR, kR, cq, c1, c2, -, -⟩ := henv.2.1 _ h2
  have hcomp : comp = fc_dA g ty := by
    have z := a3 ty rfl
    rw [hts2, hfR] at z
    exact (Option.some.inj z).symm
  subst hcomp
  have hbytes : k * componentBytes ty ≤ 536870912 := Nat.le_trans (Nat.mul_le_mul (Nat.le_of_lt hk) hcb) (by decide)
  intro T hT X
  subst hT
  subst hb
  obtain ⟨vm₁, X', step⟩ := gd_st X hx hown (hts _ hcl) hfA a1 a2 c1 c2 (g := F0 m pc ls (.int (nI k) :: .int (nI n) :: st)) rfl hd rfl (nI_pos (by omega)) (nI_pos (by omega)) (by rw [hcn]; omega) (by rw [hck]; exact hbytes) (by rw [hck]; omega) hft hdf (by rw [hcn]; have := hrm.2.2.1; omega) (by rw [hcn, hck]; have := hrm.2.2.2; omega)
  rw [hcn, hck] at X' step
  have hR' := grd_R (H0 := T.setVm vm₁) (n := n) (k := k) h1 h2 rfl rfl hR n
  have hS' := grd_S (H0 := T.setVm vm₁) (cA := fc_dA g (.array ty)) (cR := fc_dA g ty) (n := n) (k := k) (dv := defaultValue ty) hS (by show fc_B g ≤ T.heap.size; rw [hR.1]; omega) n
  have kW := hE R p e s m args below meth c _ ls _ hSt (by rw [e1]; omega) (by rw [e2]; omega) hR' hS' hL
  rw [e1, e2, show fc_nx M + 1 + n - n0 = fc_nx M - n0 + 1 + n by omega, show fc_sl M + n + n * k - s0 = fc_sl M - s0 + n + n * k by omega] at kW
  obtain ⟨t, t1, t2⟩ := kW _ rfl X'
  refine ⟨t, step t ?_, t2⟩
  rw [hR.1]
  exact t1
end FCGRD3
