set_option maxRecDepth 100000
/-! ===== what is made: objects, arrays, constructors' calls ===== -/
section FCMK
variable {g : fc_G} {l : Launch} {y : MethodName} {cc : ByteArray} {nL : Nat} {ret : Option FieldType} {d n0 s0 : Nat} {M : fc_M} {pc : Nat} {L : List (Option Value)} {st : List Value} {Q : Outcome → fc_M → Prop}
theorem fc_R_new {H H' : Heap} {sh : fc_Sh} {n : Nat} {f : Nat → Value} (hR : fc_R g M H) (hz : H'.size = H.size + 1) (ho : ∀ q : Nat, q < H.size → H'[q]? = H[q]?) (hc : fc_cell g (fc_B g + fc_nx M) sh f H') : fc_R g (fc_new M sh n f) H' := by
  obtain ⟨h1, h2, h3⟩ := hR
  refine ⟨by rw [hz, h1]; show _ = fc_B g + (fc_nx M + 1); omega, fun q hq => by rw [ho q (by omega)]; exact h2 q hq, fun a ha => ?_⟩
  have ha' : a < fc_nx M + 1 := ha
  by_cases e : a = fc_nx M
  · subst e
    have e1 : fc_sh (fc_new M sh n f) (fc_nx M) = sh := if_pos rfl
    have e2 : fc_ct (fc_new M sh n f) (fc_nx M) = f := funext fun k => if_pos rfl
    rw [e1, e2]
    exact hc
  · have e1 : fc_sh (fc_new M sh n f) a = fc_sh M a := if_neg e
    have e2 : fc_ct (fc_new M sh n f) a = fc_ct M a := funext fun k => if_neg e
    rw [e1, e2]
    have h4 := h3 a (by omega)
    have hq := ho (fc_B g + a) (by omega)
    cases hs : fc_sh M a with
    | inl ci =>
      rw [hs] at h4
      obtain ⟨r, r1, r2⟩ := h4
      exact ⟨r, r1, r2.kept hq⟩
    | inr q =>
      rw [hs] at h4
      obtain ⟨ty, n⟩ := q
      exact ⟨h4.1, by rw [hq]; exact h4.2⟩
theorem fc_S_new {H0 H H' : Heap} {A : Nat → Prop} {locs : List Loc} (hS : va_S A H0 H locs) (hz : H'.size = H.size + 1) (ho : ∀ q : Nat, q < H.size → H'[q]? = H[q]?) : va_S A H0 H' locs :=
  ⟨Nat.le_trans hS.1 (by omega), fun q h1 h2 => (ho q (Nat.lt_of_lt_of_le h1 hS.1)).trans (hS.2.1 q h1 h2), hS.2.2⟩
theorem x_new {i : Nat} {C : String} {T : u_T} {N : Nat} (ci : Nat) (hd : decode cc pc = .ok (.new i, 3)) (hc : fcCl[ci]? = some (C, T, N)) (hcl : Cond.classLink y.cls i C ∈ lw_all) (hin : Cond.instantiable C N ∈ lw_all) (hini : Cond.initialized C ∈ lw_all)
    (kk : fc_X g l y cc nL ret d n0 s0 (fc_new M (.inl ci) N (fun k => defaultValue (fcTy ci k))) (pc + 3) L (.ref (fc_B g + fc_nx M) :: st) Q) : fc_X g l y cc nL ret d n0 s0 M pc L st Q := by
  obtain ⟨o, Mf, hQ, hb0, hE⟩ := kk
  have b1 : fc_nx M + 1 ≤ fc_nx Mf := hb0.1
  have b2 : fc_sl M + N ≤ fc_sl Mf := hb0.2
  refine ⟨o, Mf, hQ, ⟨by omega, by omega⟩, fun R p e s m args below meth c H ls locs hSt h1 h2 hR hS hL => ?_⟩
  obtain ⟨hx, hb, hml, hown, hrt, hlk, hts, hnm, henv, hrm, hrest⟩ := id hSt
  have hKn := henv.1.1 ci _ hc
  refine W.newcK hx hb hown (hts _ hcl) (hts _ hin) (hts _ hini) rfl hd (by have := hrm.2.2.1; omega) (by have := hrm.2.2.2; omega) hKn.2.1 hR.1 fun H1 kC hkC e1 z1 o1 => ?_
  have z1' : H1.size = H.size + 1 := by rw [z1, hR.1]
  have o1' : ∀ q : Nat, q < H.size → H1[q]? = H[q]? := fun q hq => o1 q (by rw [← hR.1]; exact hq)
  have k := hE R p e s m args below meth c H1 ls locs hSt (by show n0 ≤ fc_nx M + 1; omega) (by show s0 ≤ fc_sl M + N; omega) (fc_R_new hR z1' o1' ⟨_, hc, u_born (fcTy ci) hts (fc_cls hc).1 hKn hkC e1 (fc_cls hc).2.2⟩) (fc_S_new hS z1' o1') hL
  have n1 : fc_nx (fc_new M (.inl ci) N (fun k => defaultValue (fcTy ci k))) - n0 = fc_nx M - n0 + 1 := by show fc_nx M + 1 - n0 = _; omega
  have n2 : fc_sl (fc_new M (.inl ci) N (fun k => defaultValue (fcTy ci k))) - s0 = fc_sl M - s0 + N := by show fc_sl M + N - s0 = _; omega
  rw [n1, n2] at k
  exact k
theorem x_newa {n : Nat} {ty : FieldType} {atype : ArrayType} (hd : decode cc pc = .ok (.newarray atype, 2)) (hty : newarray.typeOf atype = ty) (hmem : ty ∈ fcTys) (harr : Cond.arrayClass ty ∈ lw_all) (hn : n < 100000) (hcb : componentBytes ty ≤ 8)
    (kk : fc_X g l y cc nL ret d n0 s0 (fc_new M (.inr (ty, n)) n (fun _ => defaultValue ty)) (pc + 2) L (.ref (fc_B g + fc_nx M) :: st) Q) : fc_X g l y cc nL ret d n0 s0 M pc L (.int (nI n) :: st) Q := by
  subst hty
  obtain ⟨o, Mf, hQ, hb0, hE⟩ := kk
  have b1 : fc_nx M + 1 ≤ fc_nx Mf := hb0.1
  have b2 : fc_sl M + n ≤ fc_sl Mf := hb0.2
  refine ⟨o, Mf, hQ, ⟨by omega, by omega⟩, fun R p e s m args below meth c H ls locs hSt h1 h2 hR hS hL => ?_⟩
  obtain ⟨hx, hb, hml, hown, hrt, hlk, hts, hnm, henv, hrm, hrest⟩ := id hSt
  have hbytes : n * componentBytes (newarray.typeOf atype) ≤ 536870912 := Nat.le_trans (Nat.mul_le_mul (Nat.le_of_lt hn) hcb) (by decide)
  refine va_newaK hx hb (hts _ harr) rfl hd rfl (n := nI n) (N := n) (fun q => nI_in (show n < n + 1 by omega) (by omega) (Or.inl q)) (nI_clamp (by omega)) hbytes (by have := hrm.2.2.1; omega) (by have := hrm.2.2.2; omega) hR.1 fun H1 cA e1 z1 o1 hAr hNm => ?_
  have z1' : H1.size = H.size + 1 := by rw [z1, hR.1]
  have o1' : ∀ q : Nat, q < H.size → H1[q]? = H[q]? := fun q hq => o1 q (by rw [← hR.1]; exact hq)
  obtain ⟨-, hfA, -⟩ := henv.2.1 _ hmem
  cases hfA.symm.trans hNm
  have k := hE R p e s m args below meth c H1 ls locs hSt (by show n0 ≤ fc_nx M + 1; omega) (by show s0 ≤ fc_sl M + n; omega) (fc_R_new hR z1' o1' ⟨hmem, e1⟩) (fc_S_new hS z1' o1') hL
  have n1 : fc_nx (fc_new M (.inr (newarray.typeOf atype, n)) n (fun _ => defaultValue (newarray.typeOf atype))) - n0 = fc_nx M - n0 + 1 := by show fc_nx M + 1 - n0 = _; omega
  have n2 : fc_sl (fc_new M (.inr (newarray.typeOf atype, n)) n (fun _ => defaultValue (newarray.typeOf atype))) - s0 = fc_sl M - s0 + n := by show fc_sl M + n - s0 = _; omega
  rw [n1, n2] at k
  exact k
theorem x_anew {n i : Nat} {C : String} (hd : decode cc pc = .ok (.anewarray i, 3)) (hmem : FieldType.object C ∈ fcTys) (hcl : Cond.classLink y.cls i C ∈ lw_all) (hao : Cond.arrayOver (.object C) ∈ lw_tbl) (hn : n < 100000)
    (kk : fc_X g l y cc nL ret d n0 s0 (fc_new M (.inr (.object C, n)) n (fun _ => .null)) (pc + 3) L (.ref (fc_B g + fc_nx M) :: st) Q) : fc_X g l y cc nL ret d n0 s0 M pc L (.int (nI n) :: st) Q := by
  obtain ⟨o, Mf, hQ, hb0, hE⟩ := kk
  have b1 : fc_nx M + 1 ≤ fc_nx Mf := hb0.1
  have b2 : fc_sl M + n ≤ fc_sl Mf := hb0.2
  refine ⟨o, Mf, hQ, ⟨by omega, by omega⟩, fun R p e s m args below meth c H ls locs hSt h1 h2 hR hS hL => ?_⟩
  obtain ⟨hx, hb, hml, hown, hrt, hlk, hts, hnm, henv, hrm, hrest⟩ := id hSt
  have hcn : (nI n).toNatClampNeg = n := nI_clamp (by omega)
  refine W.anew hx hb hown (hts _ hcl) (va_AO.use (henv.2.2.1.2.2.2.2 _ hao)) rfl hd rfl (n := nI n) (fun q => nI_in (show n < n + 1 by omega) (by omega) (Or.inl q)) (by rw [hcn]; omega) (by have := hrm.2.2.1; omega) (by rw [hcn]; have := hrm.2.2.2; omega) fun cA kA comp f1 f2 f3 f4 => ?_
  rw [hcn]
  generalize hH1 : H.push ({ cls := cA, slots := Array.replicate n .null, vm := .none } : Cell) = H1
  have z1' : H1.size = H.size + 1 := by rw [← hH1, Array.size_push]
  have e1 : H1[H.size]? = some (arrV cA n (fun _ => .null)) := by rw [← hH1, Array.getElem?_push_size, ← arrV_new]
  have o1' : ∀ q : Nat, q < H.size → H1[q]? = H[q]? := fun q hq => by rw [← hH1, Array.getElem?_push, if_neg (Nat.ne_of_lt hq)]
  obtain ⟨-, hfA, -⟩ := henv.2.1 _ hmem
  cases hfA.symm.trans f1
  rw [hR.1] at e1 ⊢
  have k := hE R p e s m args below meth c H1 ls locs hSt (by show n0 ≤ fc_nx M + 1; omega) (by show s0 ≤ fc_sl M + n; omega) (fc_R_new hR z1' o1' ⟨hmem, e1⟩) (fc_S_new hS z1' o1') hL
  have n1 : fc_nx (fc_new M (.inr (.object C, n)) n (fun _ => .null)) - n0 = fc_nx M - n0 + 1 := by show fc_nx M + 1 - n0 = _; omega
  have n2 : fc_sl (fc_new M (.inr (.object C, n)) n (fun _ => .null)) - s0 = fc_sl M - s0 + n := by show fc_sl M + n - s0 = _; omega
  rw [n1, n2] at k
  exact k
/-- Object's constructor -/
theorem x_obj {i : Nat} {a : Nat} (hd : decode cc pc = .ok (.invokespecial i, 3)) (hl : Cond.methodLink y.cls i Lib.objectInit ∈ lw_all) (hin : Cond.instanceMethod Lib.objectInit ∈ lw_all) (hco : Cond.code Lib.objectInit ⟨#[0xb1]⟩ 1 none ∈ lw_all) (hd1 : 1 ≤ d) (hrest : (st.map fun v => v.category).sum ≤ 8)
    (kk : fc_X g l y cc nL ret d n0 s0 M (pc + 3) L st Q) : fc_X g l y cc nL ret d n0 s0 M pc L (.ref (fc_B g + a) :: st) Q := by
  refine fc_go (fun R p e s m args below meth c H ls locs cells slots Qs Mf hSt hR hS hL w => ?_) kk
  obtain ⟨hx, hb, hml, hown, hrt, hlk, hts, hnm, henv, hrm, hz⟩ := id hSt
  exact W.objInit hx hb hown (hts _ hl) (hts _ hin) (hts _ hco) rfl (hL.1.trans hml.symm) rfl hd (by have := hrm.1; omega) (by have := hrm.2.1; show 2 * 0 + (st.map fun v => v.category).sum + 12 ≤ R.locals; omega) w
/-- a constructor's call -/
theorem fc_callI {y2 : MethodName} {c2 : ByteArray} {n2 d2 b i : Nat} {As rest st0 : List Value} {M2 : fc_M} {o2 : Outcome} {v : Option Value} (hd : decode cc pc = .ok (.invokespecial i, 3)) (hG : GoodIn lw_all (ws_ y2 c2 n2 none)) (hini : Cond.initialized y2.cls ∈ lw_all) (hl : Cond.methodLink y.cls i y2 ∈ lw_all) (hin : Cond.instanceMethod y2 ∈ lw_all) (hy1 : y2.name = "<init>") (hpar : y2.cls ≠ "java/lang/invoke/MethodHandle" ∧ y2.cls ≠ "java/lang/invoke/VarHandle" ∧ (parseMethodDescriptor y2.desc).map (fun d => d.parameters.length) = some As.length) (hdd : d2 + 1 ≤ d) (hn2 : n2 ≤ 45) (hrest : (rest.map fun v => v.category).sum ≤ 8) (hst : st0 = As.reverse ++ .ref (fc_B g + b) :: rest)
    (hC : fc_C g l y2 c2 n2 none d2 (.ref (fc_B g + b) :: As) M o2 M2) (ho : o2 = .returned v)
    (kk : fc_X g l y cc nL ret d n0 s0 M2 (pc + 3) L (v.toList ++ rest) Q) : fc_X g l y cc nL ret d n0 s0 M pc L st0 Q := by
  subst hst
  refine fc_callG (a := (Value.ref (fc_B g + b) :: As).toArray) ho hC.1 (fun R p e s m args below meth c H ls locs Mf hSt h1 h2 hR hS hL m1 m2 => ?_) kk
  obtain ⟨hx, hb', hml, hown, hrt, hlk, hts, hnm, henv, hrm, -⟩ := id hSt
  exact va_runI (Ts := lw_all) ⟨hx, hb', hml, hown, hts⟩ (fc_Cw_met hC ho) (cwI As.length hts hG rfl rfl rfl (hts _ hini) (hts _ hl) (hts _ hin) hy1 hpar ⟨Nat.le_trans hdd hrm.1, by show 8 + (n2 + 11) + 64 * d2 ≤ R.locals; omega⟩) ⟨fc_blind, fun U hU hW => ⟨rfl, by rw [hU]; exact hR, henv.warm hW⟩⟩ rfl rfl hL.1 rfl (lv_room hrest) hd ⟨by have := hrm.2.2.1; have := hC.1.1; omega, by have := hrm.2.2.2; have := hC.1.2; omega⟩
/-- a private constructor of a nest mate -/
theorem fc_callIN {y2 : MethodName} {host : String} {c2 : ByteArray} {n2 d2 b i : Nat} {As rest st0 : List Value} {M2 : fc_M} {o2 : Outcome} {v : Option Value} (hd : decode cc pc = .ok (.invokespecial i, 3)) (hG : GoodIn lw_all (ws_ y2 c2 n2 none)) (hini : Cond.initialized y2.cls ∈ lw_all) (hl : Cond.methodLinkNest y.cls i y2 host ∈ lw_tbl) (hin : Cond.instanceMethod y2 ∈ lw_all) (hy1 : y2.name = "<init>") (hpar : y2.cls ≠ "java/lang/invoke/MethodHandle" ∧ y2.cls ≠ "java/lang/invoke/VarHandle" ∧ (parseMethodDescriptor y2.desc).map (fun d => d.parameters.length) = some As.length) (hdd : d2 + 1 ≤ d) (hn2 : n2 ≤ 45) (hrest : (rest.map fun v => v.category).sum ≤ 8) (hst : st0 = As.reverse ++ .ref (fc_B g + b) :: rest)
    (hC : fc_C g l y2 c2 n2 none d2 (.ref (fc_B g + b) :: As) M o2 M2) (ho : o2 = .returned v)
    (kk : fc_X g l y cc nL ret d n0 s0 M2 (pc + 3) L (v.toList ++ rest) Q) : fc_X g l y cc nL ret d n0 s0 M pc L st0 Q := by
  subst hst
  refine fc_callG (a := (Value.ref (fc_B g + b) :: As).toArray) ho hC.1 (fun R p e s m args below meth c H ls locs Mf hSt h1 h2 hR hS hL m1 m2 => ?_) kk
  obtain ⟨hx, hb', hml, hown, hrt, hlk, hts, hnm, henv, hrm, -⟩ := id hSt
  exact va_runIN (Ts := lw_all) ⟨hx, hb', hml, hown, hts⟩ (fc_Cw_met hC ho) ⟨va_cnB As.length hts hG rfl rfl rfl (henv.2.2.1.2.1 _ _ _ _ hl) (hts _ hini) hpar ⟨Nat.le_trans hdd hrm.1, by show 8 + (n2 + 11) + 64 * d2 ≤ R.locals; omega⟩, hy1, hts _ hin⟩ ⟨fc_blind, fun U hU hW => ⟨rfl, by rw [hU]; exact hR, henv.warm hW⟩⟩ rfl rfl hL.1 rfl (lv_room hrest) hd ⟨by have := hrm.2.2.1; have := hC.1.1; omega, by have := hrm.2.2.2; have := hC.1.2; omega⟩
end FCMK
