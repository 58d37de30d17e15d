set_option maxRecDepth 100000
/-! ===== what has been made: shapes, contents, ints, towers ===== -/
section T99ZZZQ
variable {g : fc_G} {l : Launch} {M M1 : fc_M} {S S1 : tT} {U U1 : tU} {n s : Nat} {shs : List (Nat × fc_Sh)} {cts : List (Nat × Nat × Value)} {E : List (Nat × Nat)} {tws : List Nat}
variable {y : MethodName} {cc : ByteArray} {nL : Nat} {ret : Option FieldType} {d n0 s0 : Nat} {pc : Nat} {L : List (Option Value)} {st : List Value} {Q : Outcome → fc_M → Prop}
def IQ (g : fc_G) (M : fc_M) (S : tT) (U : tU) (n s : Nat) (shs : List (Nat × fc_Sh)) (cts : List (Nat × Nat × Value)) (E : List (Nat × Nat)) (tws : List Nat) : Prop :=
  (fc_nx M = n ∧ fc_sl M = s) ∧ (∀ q ∈ shs, q.1 < n ∧ fc_sh M q.1 = q.2) ∧ (∀ q ∈ cts, q.1 < n ∧ fc_ct M q.1 q.2.1 = q.2.2) ∧ ((∀ q ∈ E, q.1 < n) ∧ ∀ a k, a < n → S a k = if (a, k) ∈ E then -1 else 0) ∧ ∀ β ∈ tws, β + 67 ≤ n ∧ LT g M β ∧ ∀ c k, c < 4 → U (β + 63 + c) k = 0
theorem LT_new {β N : Nat} {sh : fc_Sh} {f : Nat → Value} (hb : β + 67 ≤ fc_nx M) (h : LT g M β) : LT g (fc_new M sh N f) β := by
  obtain ⟨a, b, ⟨c1, c2, c3⟩, d1, d2⟩ := h
  exact ⟨Nat.le_succ_of_le a, fun j hj => (sh_newn (N := N) (f := f) (by omega)).trans (b j hj), ⟨(ct_newn (by omega)).trans c1, (ct_newn (by omega)).trans c2, (ct_newn (by omega)).trans c3⟩, fun p hp => (ct_newn (by omega)).trans (d1 p hp), fun c hc => (ct_newn (by omega)).trans (d2 c hc)⟩
theorem LT_pta {β x k : Nat} {v : Value} (hx : x < β ∨ β + 67 ≤ x) (h : LT g M β) : LT g (fc_put M x k v) β := by
  obtain ⟨a, b, ⟨c1, c2, c3⟩, d1, d2⟩ := h
  exact ⟨a, b, ⟨(ct_pn (fun z => by omega)).trans c1, (ct_pn (fun z => by omega)).trans c2, (ct_pn (fun z => by omega)).trans c3⟩, fun p hp => (ct_pn (fun z => by omega)).trans (d1 p hp), fun c hc => (ct_pn (fun z => by omega)).trans (d2 c hc)⟩
theorem IQ_al {sh : fc_Sh} {N : Nat} {f : Nat → Value} (h : IQ g M S U n s shs cts E tws) (hU : ∀ a k, a < n → U1 a k = U a k) : IQ g (fc_new M sh N f) (tz0 S n) U1 (n + 1) (s + N) ((n, sh) :: shs) cts E tws := by
  obtain ⟨⟨h1, h2⟩, h3, h4, ⟨h5, h6⟩, h7⟩ := h
  subst h1; subst h2
  refine ⟨⟨rfl, rfl⟩, fun q hq => ?_, fun q hq => ⟨by have := (h4 q hq).1; omega, (ct_newn (by have := (h4 q hq).1; omega)).trans (h4 q hq).2⟩, ⟨fun q hq => by have := h5 q hq; omega, fun a k ha => ?_⟩, fun β hβ => ?_⟩
  · rcases List.mem_cons.mp hq with e | e
    · subst e; exact ⟨Nat.lt_succ_self _, sh_new (N := N) (f := f)⟩
    · exact ⟨by have := (h3 q e).1; omega, (sh_newn (N := N) (f := f) (by have := (h3 q e).1; omega)).trans (h3 q e).2⟩
  · show (if a = fc_nx M then 0 else S a k) = _
    by_cases e : a = fc_nx M
    · rw [if_pos e, if_neg (fun z => by have := h5 _ z; simp only at this; omega)]
    · rw [if_neg e]; exact h6 a k (by omega)
  · obtain ⟨b1, b2, b3⟩ := h7 β hβ
    exact ⟨by omega, LT_new b1 b2, fun c k hc => (hU _ _ (by omega)).trans (b3 c k hc)⟩
theorem IQ_put {a k : Nat} {v : Value} (h : IQ g M S U n s shs cts E tws) (ha : a < n) (hc : cts.all (fun q => !(q.1 == a && q.2.1 == k)) = true) (ht : tws.all (fun β => decide (a < β ∨ β + 67 ≤ a)) = true) : IQ g (fc_put M a k v) S U n s shs ((a, k, v) :: cts) E tws := by
  obtain ⟨h1, h3, h4, h5, h7⟩ := h
  refine ⟨h1, h3, fun q hq => ?_, h5, fun β hβ => ?_⟩
  · rcases List.mem_cons.mp hq with e | e
    · subst e; exact ⟨ha, ct_ps⟩
    · refine ⟨(h4 q e).1, (ct_pn (fun z => ?_)).trans (h4 q e).2⟩
      have := List.all_eq_true.mp hc q e
      simp [z.1, z.2] at this
  · obtain ⟨b1, b2, b3⟩ := h7 β hβ
    exact ⟨b1, LT_pta (of_decide_eq_true (List.all_eq_true.mp ht β hβ)) b2, b3⟩
theorem IQ_E {a k : Nat} (h : IQ g M S U n s shs cts E tws) (ha : a < n) : IQ g M (tu S a k (-1)) U n s shs cts ((a, k) :: E) tws := by
  obtain ⟨h1, h3, h4, ⟨h5, h6⟩, h7⟩ := h
  refine ⟨h1, h3, h4, ⟨fun q hq => ?_, fun b j hb => ?_⟩, h7⟩
  · rcases List.mem_cons.mp hq with e | e
    · subst e; exact ha
    · exact h5 q e
  · show (if b = a ∧ j = k then -1 else S b j) = _
    by_cases e : b = a ∧ j = k
    · rw [if_pos e, if_pos (by rw [e.1, e.2]; exact List.mem_cons_self)]
    · rw [if_neg e, h6 b j hb]
      by_cases e2 : (b, j) ∈ E
      · rw [if_pos e2, if_pos (List.mem_cons_of_mem _ e2)]
      · rw [if_neg e2, if_neg (fun z => (List.mem_cons.mp z).elim (fun w => e ⟨congrArg Prod.fst w, congrArg Prod.snd w⟩) e2)]
theorem IQ_ct {a k : Nat} {v : Value} (h : IQ g M S U n s shs cts E tws) (ha : a < n) (hv : fc_ct M a k = v) : IQ g M S U n s shs ((a, k, v) :: cts) E tws := by
  obtain ⟨h1, h3, h4, h5, h7⟩ := h
  refine ⟨h1, h3, fun q hq => ?_, h5, h7⟩
  rcases List.mem_cons.mp hq with e | e
  · subst e; exact ⟨ha, hv⟩
  · exact h4 q e
theorem IQ_tiA {τ k N : Nat} {sh : fc_Sh} {f : Nat → Value} (h : IQ g M S U n s shs cts E tws) (ha : τ < n) (hc : cts.all (fun q => !(q.1 == τ && q.2.1 == k)) = true) (ht : tws.all (fun β => decide (τ < β ∨ β + 67 ≤ τ)) = true) : IQ g (tiA g M τ k sh N f) (tz0 S n) U (n + 1) (s + N) ((n, sh) :: shs) ((τ, k, .ref (fc_B g + n)) :: cts) E tws := by
  have e := h.1.1
  unfold tiA
  rw [e]
  exact IQ_put (IQ_al h (fun _ _ _ => rfl)) (by omega) hc ht
theorem IQ_tw {β : Nat} (h : IQ g M S U (β + 1) s shs cts E tws) (hc : cts.all (fun q => !(q.1 == β) || (q.2.1 != 0 && q.2.1 != 1 && q.2.1 != 11)) = true) (hs : shs.all (fun q => decide (q.1 < β ∨ q = (β, .inl 3))) = true) (ht : tws.all (fun b => decide (b + 67 ≤ β)) = true) (hP : iTP g M S U β M1 S1 U1) : IQ g M1 S1 U1 (β + 67) (s + 516) shs cts ((β, 6) :: (β + 63, 4) :: (β + 64, 4) :: (β + 65, 4) :: (β + 66, 4) :: E) (β :: tws) := by
  obtain ⟨⟨h1, h2⟩, h3, h4, ⟨h5, h6⟩, h7⟩ := h
  obtain ⟨⟨p1, p2⟩, pL, p3, p4, p5, p6, p7, p8⟩ := hP
  refine ⟨⟨p1, by rw [p2, h2]⟩, fun q hq => ?_, fun q hq => ?_, ⟨fun q hq => ?_, fun a k ha => ?_⟩, fun b hb => ?_⟩
  · have hd := of_decide_eq_true (List.all_eq_true.mp hs q hq)
    rcases hd with hd | hd
    · exact ⟨by omega, (p3 _ hd).1.trans (h3 q hq).2⟩
    · rw [hd]
      exact ⟨by show β < β + 67; omega, pL.2.1 0 (by decide)⟩
  · have hd := List.all_eq_true.mp hc q hq
    have hlt := (h4 q hq).1
    by_cases e : q.1 = β
    · simp [e] at hd
      refine ⟨by omega, ?_⟩
      have := p4 q.2.1 hd.1.1 hd.1.2 hd.2
      rw [e, this, ← e]
      exact (h4 q hq).2
    · exact ⟨by omega, ((p3 _ (by omega)).2 _).trans (h4 q hq).2⟩
  · simp only [List.mem_cons] at hq
    rcases hq with e | e | e | e | e | e
    · rw [e]; show β < β + 67; omega
    · rw [e]; show β + 63 < β + 67; omega
    · rw [e]; show β + 64 < β + 67; omega
    · rw [e]; show β + 65 < β + 67; omega
    · rw [e]; show β + 66 < β + 67; omega
    · have := h5 q e; omega
  · have hmem : ((a, k) ∈ (β, 6) :: (β + 63, 4) :: (β + 64, 4) :: (β + 65, 4) :: (β + 66, 4) :: E) ↔ ((a = β ∧ k = 6) ∨ ((β + 63 ≤ a ∧ a < β + 67) ∧ k = 4) ∨ (a, k) ∈ E) := by
      simp only [List.mem_cons, Prod.mk.injEq]
      constructor
      · rintro (e | e | e | e | e | e)
        · exact Or.inl e
        · exact Or.inr (Or.inl ⟨by omega, e.2⟩)
        · exact Or.inr (Or.inl ⟨by omega, e.2⟩)
        · exact Or.inr (Or.inl ⟨by omega, e.2⟩)
        · exact Or.inr (Or.inl ⟨by omega, e.2⟩)
        · exact Or.inr (Or.inr e)
      · rintro (e | ⟨e1, e2⟩ | e)
        · exact Or.inl e
        · rcases (show a = β + 63 ∨ a = β + 64 ∨ a = β + 65 ∨ a = β + 66 by omega) with z | z | z | z
          · exact Or.inr (Or.inl ⟨z, e2⟩)
          · exact Or.inr (Or.inr (Or.inl ⟨z, e2⟩))
          · exact Or.inr (Or.inr (Or.inr (Or.inl ⟨z, e2⟩)))
          · exact Or.inr (Or.inr (Or.inr (Or.inr (Or.inl ⟨z, e2⟩))))
        · exact Or.inr (Or.inr (Or.inr (Or.inr (Or.inr e))))
    by_cases ha1 : a < β + 1
    · rw [p5 a k ha1]
      by_cases e : a = β ∧ k = 6
      · rw [if_pos e, if_pos (hmem.mpr (Or.inl e))]
      · rw [if_neg e, h6 a k ha1]
        by_cases e2 : (a, k) ∈ E
        · rw [if_pos e2, if_pos (hmem.mpr (Or.inr (Or.inr e2)))]
        · rw [if_neg e2, if_neg (fun z => (hmem.mp z).elim e (fun w => w.elim (fun q => by omega) e2))]
    · rw [p6 a k (by omega) ha]
      by_cases e : β + 63 ≤ a ∧ k = 4
      · rw [if_pos e, if_pos (hmem.mpr (Or.inr (Or.inl ⟨⟨e.1, ha⟩, e.2⟩)))]
      · rw [if_neg e, if_neg (fun z => (hmem.mp z).elim (fun q => by omega) (fun w => w.elim (fun q => e ⟨q.1.1, q.2⟩) (fun q => by have := h5 _ q; simp only at this; omega)))]
  · rcases List.mem_cons.mp hb with e | e
    · subst e; exact ⟨by omega, pL, p8⟩
    · have hd := of_decide_eq_true (List.all_eq_true.mp ht b e)
      obtain ⟨b1, b2, b3⟩ := h7 b e
      refine ⟨by omega, ?_, fun c k hc => (p7 _ _ (by omega)).trans (b3 c k hc)⟩
      obtain ⟨a, c, ⟨c1, c2, c3⟩, d1, d2⟩ := b2
      exact ⟨by omega, fun j hj => (p3 _ (by omega)).1.trans (c j hj), ⟨((p3 _ (by omega)).2 _).trans c1, ((p3 _ (by omega)).2 _).trans c2, ((p3 _ (by omega)).2 _).trans c3⟩, fun p hp => ((p3 _ (by omega)).2 _).trans (d1 p hp), fun c hc => ((p3 _ (by omega)).2 _).trans (d2 c hc)⟩
/-! rows -/
theorem i_newa {N : Nat} {ty : FieldType} {atype : ArrayType} (h : IQ g M S U n s shs cts E tws) (hd : decode cc pc = .ok (.newarray atype, 2)) (hty : newarray.typeOf atype = ty) (hmem : ty ∈ fcTys) (harr : Cond.arrayClass ty ∈ lw_all) (hn : N < 100000) (hcb : componentBytes ty ≤ 8) (hk : kdO (.inr (ty, N)) 0 = 1 ∧ ∀ k, kdO (.inr (ty, N)) k = kdO (.inr (ty, N)) 0) (hdv : defaultValue ty = .int 0)
    (kk : ∀ M1 S1, IQ g M1 S1 U (n + 1) (s + N) ((n, .inr (ty, N)) :: shs) cts E tws → fc_X g l y cc nL ret d n0 s0 (cl M1 S1 U) (pc + 2) L (.ref (fc_B g + n) :: st) Q) : fc_X g l y cc nL ret d n0 s0 (cl M S U) pc L (.int (nI N) :: st) Q := by
  refine x_newaC hd hty hmem harr hn hcb hk hdv ?_
  rw [h.1.1]
  exact kk _ _ (IQ_al h (fun _ _ _ => rfl))
theorem i_anew {N i : Nat} {C : String} (h : IQ g M S U n s shs cts E tws) (hd : decode cc pc = .ok (.anewarray i, 3)) (hmem : FieldType.object C ∈ fcTys) (hcl : Cond.classLink y.cls i C ∈ lw_all) (hao : Cond.arrayOver (.object C) ∈ lw_tbl) (hn : N < 100000)
    (kk : ∀ M1 S1, IQ g M1 S1 U (n + 1) (s + N) ((n, .inr (.object C, N)) :: shs) cts E tws → fc_X g l y cc nL ret d n0 s0 (cl M1 S1 U) (pc + 3) L (.ref (fc_B g + n) :: st) Q) : fc_X g l y cc nL ret d n0 s0 (cl M S U) pc L (.int (nI N) :: st) Q := by
  refine x_anewC hd hmem hcl hao hn ?_
  rw [h.1.1]
  exact kk _ _ (IQ_al h (fun _ _ _ => rfl))
theorem i_new {i : Nat} {C : String} {T : u_T} {N : Nat} (ci : Nat) (h : IQ g M S U n s shs cts E tws) (hd : decode cc pc = .ok (.new i, 3)) (hc : fcCl[ci]? = some (C, T, N)) (hcl : Cond.classLink y.cls i C ∈ lw_all) (hin : Cond.instantiable C N ∈ lw_all) (hini : Cond.initialized C ∈ lw_all)
    (kk : ∀ M1 S1 U1, IQ g M1 S1 U1 (n + 1) (s + N) ((n, .inl ci) :: shs) cts E tws → (∀ k, fc_ct M1 n k = defaultValue (fcTy ci k)) → fc_X g l y cc nL ret d n0 s0 (cl M1 S1 U1) (pc + 3) L (.ref (fc_B g + n) :: st) Q) : fc_X g l y cc nL ret d n0 s0 (cl M S U) pc L st Q := by
  refine x_newL ci hd hc hcl hin hini ?_
  have e := h.1.1
  subst e
  exact kk _ _ _ (IQ_al h (fun a k ha => if_neg (by omega))) (fun k => ct_new)
theorem i_putF {i a j : Nat} {C : String} {T : u_T} {N : Nat} (ci k : Nat) (h : IQ g M S U n s shs cts E tws) (hd : decode cc pc = .ok (.putfield i, 3)) (hc : fcCl[ci]? = some (C, T, N)) (hk : k < N) (hq : Cond.fieldLink y.cls i (T k).1 (T k).2.1 (T k).2.2.1 ∈ lw_all) (hfin : (T k).2.2.2 = true) (hin2 : y.name = "<init>") (hdecl : (T k).1 = y.cls) (hn : narrow (fcTy ci k) (.ref (fc_B g + j)) = .ref (fc_B g + j)) (hf : fits (fcTy ci k) (.ref (fc_B g + j)) = true) (hsh : (a, Sum.inl ci) ∈ shs) (hk0 : kdO (.inl ci) k = 0) (hcc : cts.all (fun q => !(q.1 == a && q.2.1 == k)) = true) (ht : tws.all (fun β => decide (a < β ∨ β + 67 ≤ a)) = true)
    (kk : ∀ M1, IQ g M1 S U n s shs ((a, k, .ref (fc_B g + j)) :: cts) E tws → fc_X g l y cc nL ret d n0 s0 (cl M1 S U) (pc + 3) L st Q) : fc_X g l y cc nL ret d n0 s0 (cl M S U) pc L (.ref (fc_B g + j) :: .ref (fc_B g + a) :: st) Q := by
  have hs := h.2.1 _ hsh
  refine x_putF ci k hd hc hk hq hfin hin2 hdecl hn hf (by rw [show fc_nx (cl M S U) = n from h.1.1]; exact hs.1) hs.2 ?_
  rw [cl_putr (by rw [hs.2]; exact hk0)]
  exact kk _ (IQ_put h hs.1 hcc ht)
theorem i_putf {i a j : Nat} {C : String} {T : u_T} {N : Nat} (ci k : Nat) (h : IQ g M S U n s shs cts E tws) (hd : decode cc pc = .ok (.putfield i, 3)) (hc : fcCl[ci]? = some (C, T, N)) (hk : k < N) (hq : Cond.fieldLink y.cls i (T k).1 (T k).2.1 (T k).2.2.1 ∈ lw_all) (hfin : (T k).2.2.2 = false) (hn : narrow (fcTy ci k) (.ref (fc_B g + j)) = .ref (fc_B g + j)) (hf : fits (fcTy ci k) (.ref (fc_B g + j)) = true) (hsh : (a, Sum.inl ci) ∈ shs) (hk0 : kdO (.inl ci) k = 0) (hcc : cts.all (fun q => !(q.1 == a && q.2.1 == k)) = true) (ht : tws.all (fun β => decide (a < β ∨ β + 67 ≤ a)) = true)
    (kk : ∀ M1, IQ g M1 S U n s shs ((a, k, .ref (fc_B g + j)) :: cts) E tws → fc_X g l y cc nL ret d n0 s0 (cl M1 S U) (pc + 3) L st Q) : fc_X g l y cc nL ret d n0 s0 (cl M S U) pc L (.ref (fc_B g + j) :: .ref (fc_B g + a) :: st) Q := by
  have hs := h.2.1 _ hsh
  refine x_putf ci k hd hc hk hq hfin hn hf (by rw [show fc_nx (cl M S U) = n from h.1.1]; exact hs.1) hs.2 ?_
  rw [cl_putr (by rw [hs.2]; exact hk0)]
  exact kk _ (IQ_put h hs.1 hcc ht)
theorem i_puti {i a : Nat} {C : String} {T : u_T} {N : Nat} (ci k : Nat) (h : IQ g M S U n s shs cts E tws) (hd : decode cc pc = .ok (.putfield i, 3)) (hc : fcCl[ci]? = some (C, T, N)) (hk : k < N) (hq : Cond.fieldLink y.cls i (T k).1 (T k).2.1 (T k).2.2.1 ∈ lw_all) (hfin : (T k).2.2.2 = false) (hn : narrow (fcTy ci k) (.int (-1)) = .int (-1)) (hf : fits (fcTy ci k) (.int (-1)) = true) (hsh : (a, Sum.inl ci) ∈ shs) (h1 : kdO (.inl ci) k = 1)
    (kk : ∀ S1, IQ g M S1 U n s shs cts ((a, k) :: E) tws → fc_X g l y cc nL ret d n0 s0 (cl M S1 U) (pc + 3) L st Q) : fc_X g l y cc nL ret d n0 s0 (cl M S U) pc L (.int (-1) :: .ref (fc_B g + a) :: st) Q := by
  have hs := h.2.1 _ hsh
  refine q_puti ci k hd hc hk hq hfin hn hf (by rw [h.1.1]; exact hs.1) hs.2 h1 ?_
  exact kk _ (IQ_E h hs.1)
theorem i_aastK {a N i j : Nat} {q : String × Nat × String × List Int32} (h : IQ g M S U n s shs cts E tws) (hd : decode cc pc = .ok (.aastore, 1)) (hsh : (a, Sum.inr (.object "java/lang/String", N)) ∈ shs) (hn : N < 2 ^ 31) (hi : i < N) (hj : fcStr[j]? = some q) (hcc : cts.all (fun q => !(q.1 == a && q.2.1 == i)) = true) (ht : tws.all (fun β => decide (a < β ∨ β + 67 ≤ a)) = true)
    (kk : ∀ M1, IQ g M1 S U n s shs ((a, i, .ref (fc_sK g j)) :: cts) E tws → fc_X g l y cc nL ret d n0 s0 (cl M1 S U) (pc + 1) L st Q) : fc_X g l y cc nL ret d n0 s0 (cl M S U) pc L (.ref (fc_sK g j) :: .int (nI i) :: .ref (fc_B g + a) :: st) Q := by
  have hs := h.2.1 _ hsh
  refine x_aastK hd (by rw [show fc_nx (cl M S U) = n from h.1.1]; exact hs.1) hs.2 hn hi (fun V hE => (hE.2.2.2.1 j _ hj).2.1) ?_
  rw [cl_putr (by rw [hs.2]; rfl)]
  exact kk _ (IQ_put h hs.1 hcc ht)
theorem i_aast {a N i x ci : Nat} {C : String} {r : vw_C} (h : IQ g M S U n s shs cts E tws) (hd : decode cc pc = .ok (.aastore, 1)) (hsh : (a, Sum.inr (.object C, N)) ∈ shs) (hn : N < 2 ^ 31) (hi : i < N) (hx : (x, Sum.inl ci) ∈ shs) (hc : fcCl[ci]? = some r) (hca : r.1 = C) (hcc : cts.all (fun q => !(q.1 == a && q.2.1 == i)) = true) (ht : tws.all (fun β => decide (a < β ∨ β + 67 ≤ a)) = true)
    (kk : ∀ M1, IQ g M1 S U n s shs ((a, i, .ref (fc_B g + x)) :: cts) E tws → fc_X g l y cc nL ret d n0 s0 (cl M1 S U) (pc + 1) L st Q) : fc_X g l y cc nL ret d n0 s0 (cl M S U) pc L (.ref (fc_B g + x) :: .int (nI i) :: .ref (fc_B g + a) :: st) Q := by
  have hs := h.2.1 _ hsh
  have hx2 := h.2.1 _ hx
  refine x_aast hd (by rw [show fc_nx (cl M S U) = n from h.1.1]; exact hs.1) hs.2 hn hi (by rw [show fc_nx (cl M S U) = n from h.1.1]; exact hx2.1) hx2.2 hc (Or.inl hca) ?_
  rw [cl_putr (by rw [hs.2]; rfl)]
  exact kk _ (IQ_put h hs.1 hcc ht)
theorem i_text {i a : Nat} {host : String} (h : IQ g M S U n s shs cts E tws) (hd : decode cc pc = .ok (.invokespecial i, 3)) (hl : Cond.methodLinkNest y.cls i yX1_init host ∈ lw_tbl) (hdd : 3 ≤ d) (hrest : (st.map fun v => v.category).sum ≤ 8) (hsh : (a, Sum.inl 1) ∈ shs) (hc0 : cts.all (fun q => !(q.1 == a)) = true) (ht : tws.all (fun β => decide (a < β ∨ β + 67 ≤ a)) = true)
    (kk : ∀ M1 S1, IQ g M1 S1 U (n + 3) (s + 48) ((n + 2, .inr (.object "FourCars$Term", 16)) :: (n + 1, .inr (.object "FourCars$Term", 16)) :: (n, .inr (.int, 16)) :: shs) ((a, 2, .ref (fc_B g + (n + 2))) :: (a, 1, .ref (fc_B g + (n + 1))) :: (a, 0, .ref (fc_B g + n)) :: cts) E tws → fc_X g l y cc nL ret d n0 s0 (cl M1 S1 U) (pc + 3) L st Q) : fc_X g l y cc nL ret d n0 s0 (cl M S U) pc L (.ref (fc_B g + a) :: st) Q := by
  have hs := h.2.1 _ hsh
  refine x_I0N (M2 := cl (tiM g M a) (tiS S (fc_nx M)) U) hd q177 q119 hl q176 rfl kP_X1_init (by omega) (by decide) hrest (d_iText (by rw [h.1.1]; exact hs.1) hs.2) ?_
  rw [h.1.1]
  have hq : ∀ k, cts.all (fun q => !(q.1 == a && q.2.1 == k)) = true := fun k => List.all_eq_true.mpr (fun q hq => by
    have := List.all_eq_true.mp hc0 q hq
    simp at this
    simp [this])
  have e1 := IQ_tiA (k := 0) (sh := .inr (.int, 16)) (N := 16) (f := fun _ => .int 0) h hs.1 (hq 0) ht
  have e2 := IQ_tiA (τ := a) (k := 1) (sh := .inr (.object "FourCars$Term", 16)) (N := 16) (f := fun _ => .null) e1 (by have := hs.1; omega) (by rw [List.all_cons, hq 1]; simp) ht
  have e3 := IQ_tiA (τ := a) (k := 2) (sh := .inr (.object "FourCars$Term", 16)) (N := 16) (f := fun _ => .null) e2 (by have := hs.1; omega) (by rw [List.all_cons, List.all_cons, hq 2]; simp) ht
  exact kk _ _ e3
end T99ZZZQ
